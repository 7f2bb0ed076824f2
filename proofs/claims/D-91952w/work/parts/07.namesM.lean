/-! FerryHallModel -/
set_option maxRecDepth 100000
def RX8 : String := "FerryHallModel"
def TX8 : u_T := fun k => match k with
  | 0 => ("FerryHallModel", "thrown", "I", false)
  | 1 => ("FerryHallModel", "shores", "I", false)
  | 2 => ("FerryHallModel", "things", "I", false)
  | 3 => ("FerryHallModel", "boats", "I", false)
  | 4 => ("FerryHallModel", "laws", "I", false)
  | 5 => ("FerryHallModel", "lampAt", "I", false)
  | 6 => ("FerryHallModel", "weight", "[I", true)
  | 7 => ("FerryHallModel", "minutes", "[I", true)
  | 8 => ("FerryHallModel", "letter", "[I", true)
  | 9 => ("FerryHallModel", "holds", "[I", true)
  | 10 => ("FerryHallModel", "loads", "[I", true)
  | 11 => ("FerryHallModel", "boatAt", "[I", true)
  | 12 => ("FerryHallModel", "wet", "[Z", true)
  | 13 => ("FerryHallModel", "anyWet", "Z", false)
  | 14 => ("FerryHallModel", "scope", "[I", true)
  | 15 => ("FerryHallModel", "lawAt", "[I", true)
  | 16 => ("FerryHallModel", "code", "[I", true)
  | 17 => ("FerryHallModel", "tape", "[I", true)
  | 18 => ("FerryHallModel", "taped", "I", false)
  | 19 => ("FerryHallModel", "faultKind", "I", false)
  | 20 => ("FerryHallModel", "faultPlace", "I", false)
  | 21 => ("FerryHallModel", "size", "I", false)
  | 22 => ("FerryHallModel", "next", "I", false)
  | 23 => ("FerryHallModel", "sort", "I", false)
  | 24 => ("FerryHallModel", "place", "I", false)
  | 25 => ("FerryHallModel", "long0", "I", false)
  | 26 => ("FerryHallModel", "value", "I", false)
  | 27 => ("FerryHallModel", "sign", "I", false)
  | 28 => ("FerryHallModel", "word", "J", false)
  | 29 => ("FerryHallModel", "readShores", "I", false)
  | 30 => ("FerryHallModel", "readThings", "I", false)
  | 31 => ("FerryHallModel", "readBoats", "I", false)
  | 32 => ("FerryHallModel", "readLaws", "I", false)
  | 33 => ("FerryHallModel", "readLamp", "I", false)
  | 34 => ("FerryHallModel", "top", "I", false)
  | 35 => ("FerryHallModel", "waiting", "I", false)
  | 36 => ("FerryHallModel", "depth", "I", false)
  | 37 => ("FerryHallModel", "readWet", "Z", false)
  | 38 => ("FerryHallModel", "readWeight", "[I", true)
  | 39 => ("FerryHallModel", "readMinutes", "[I", true)
  | 40 => ("FerryHallModel", "readLetter", "[I", true)
  | 41 => ("FerryHallModel", "readHolds", "[I", true)
  | 42 => ("FerryHallModel", "readLoads", "[I", true)
  | 43 => ("FerryHallModel", "readBoatAt", "[I", true)
  | 44 => ("FerryHallModel", "readScope", "[I", true)
  | 45 => ("FerryHallModel", "readLawAt", "[I", true)
  | 46 => ("FerryHallModel", "read", "[I", true)
  | 47 => ("FerryHallModel", "waits", "[I", true)
  | 48 => ("FerryHallModel", "readWater", "[Z", true)
  | 49 => ("FerryHallModel", "tested", "[Z", true)
  | 50 => ("FerryHallModel", "barred", "[I", true)
  | 51 => ("FerryHallModel", "pile", "[I", true)
  | 52 => ("FerryHallModel", "without", "I", false)
  | 53 => ("FerryHallModel", "barring", "I", false)
  | 54 => ("FerryHallModel", "states", "I", false)
  | 55 => ("FerryHallModel", "crossings", "I", false)
  | 56 => ("FerryHallModel", "stateOf", "[I", true)
  | 57 => ("FerryHallModel", "firstOf", "[I", true)
  | 58 => ("FerryHallModel", "far", "[I", true)
  | 59 => ("FerryHallModel", "toGoal", "[I", true)
  | 60 => ("FerryHallModel", "slot", "[I", true)
  | 61 => ("FerryHallModel", "edgeBoat", "[I", true)
  | 62 => ("FerryHallModel", "edgeTo", "[I", true)
  | 63 => ("FerryHallModel", "edgeSet", "[I", true)
  | 64 => ("FerryHallModel", "edgeState", "[I", true)
  | 65 => ("FerryHallModel", "cheap", "[J", true)
  | 66 => ("FerryHallModel", "isSpent", "Z", false)
  | 67 => ("FerryHallModel", "isFirst", "Z", false)
  | 68 => ("FerryHallModel", "mayMany", "[I", true)
  | 69 => ("FerryHallModel", "may", "[I", true)
  | 70 => ("FerryHallModel", "keptMany", "I", false)
  | 71 => ("FerryHallModel", "keptThings", "I", false)
  | 72 => ("FerryHallModel", "keptBoat", "[I", true)
  | 73 => ("FerryHallModel", "keptTo", "[I", true)
  | 74 => ("FerryHallModel", "keptSet", "[I", true)
  | 75 => ("FerryHallModel", "keptMinutes", "[I", true)
  | 76 => ("FerryHallModel", "keptState", "[I", true)
  | 77 => ("FerryHallModel", "waysOf", "[I", true)
  | 78 => ("FerryHallModel", "lawsKnown", "I", false)
  | 79 => ("FerryHallModel", "freeLaws", "I", false)
  | 80 => ("FerryHallModel", "aloneLaws", "I", false)
  | 81 => ("FerryHallModel", "sizeKnown", "[I", true)
  | 82 => ("FerryHallModel", "roundsKnown", "I", false)
  | 83 => ("FerryHallModel", "rounds", "[I", true)
  | 84 => ("FerryHallModel", "made", "I", false)
  | 85 => ("FerryHallModel", "lawTold", "I", false)
  | 86 => ("FerryHallModel", "playState", "[I", true)
  | _ => ("FerryHallModel", "playMinutes", "[I", true)
def tyX8 : Nat → FieldType := fun k => match k with
  | 0 => .int
  | 1 => .int
  | 2 => .int
  | 3 => .int
  | 4 => .int
  | 5 => .int
  | 6 => .array .int
  | 7 => .array .int
  | 8 => .array .int
  | 9 => .array .int
  | 10 => .array .int
  | 11 => .array .int
  | 12 => .array .boolean
  | 13 => .boolean
  | 14 => .array .int
  | 15 => .array .int
  | 16 => .array .int
  | 17 => .array .int
  | 18 => .int
  | 19 => .int
  | 20 => .int
  | 21 => .int
  | 22 => .int
  | 23 => .int
  | 24 => .int
  | 25 => .int
  | 26 => .int
  | 27 => .int
  | 28 => .long
  | 29 => .int
  | 30 => .int
  | 31 => .int
  | 32 => .int
  | 33 => .int
  | 34 => .int
  | 35 => .int
  | 36 => .int
  | 37 => .boolean
  | 38 => .array .int
  | 39 => .array .int
  | 40 => .array .int
  | 41 => .array .int
  | 42 => .array .int
  | 43 => .array .int
  | 44 => .array .int
  | 45 => .array .int
  | 46 => .array .int
  | 47 => .array .int
  | 48 => .array .boolean
  | 49 => .array .boolean
  | 50 => .array .int
  | 51 => .array .int
  | 52 => .int
  | 53 => .int
  | 54 => .int
  | 55 => .int
  | 56 => .array .int
  | 57 => .array .int
  | 58 => .array .int
  | 59 => .array .int
  | 60 => .array .int
  | 61 => .array .int
  | 62 => .array .int
  | 63 => .array .int
  | 64 => .array .int
  | 65 => .array .long
  | 66 => .boolean
  | 67 => .boolean
  | 68 => .array .int
  | 69 => .array .int
  | 70 => .int
  | 71 => .int
  | 72 => .array .int
  | 73 => .array .int
  | 74 => .array .int
  | 75 => .array .int
  | 76 => .array .int
  | 77 => .array .int
  | 78 => .int
  | 79 => .int
  | 80 => .int
  | 81 => .array .int
  | 82 => .int
  | 83 => .array .int
  | 84 => .int
  | 85 => .int
  | 86 => .array .int
  | _ => .array .int
abbrev wsX80 : List Cond := u_ws RX8 TX8 88
set_option maxRecDepth 100000 in
theorem nmX8 : ∀ a, a < 88 → ∀ b, b < 88 → a ≠ b → (TX8 a).2.1 ≠ (TX8 b).2.1 := by decide +kernel
set_option maxRecDepth 100000 in
theorem tyX8_ok : ∀ k, k < 88 → parseFieldDescriptor (TX8 k).2.2.1 = some (tyX8 k) := by decide +kernel
abbrev cX8_init : ByteArray := prog_19_method_1_code
def yX8_init : MethodName := ⟨RX8, "<init>", "()V"⟩
def dkwX8_init_18 : List UInt8 := [182, 0, 170, 177]
abbrev dktX8_init_18 : List UInt8 := dkwX8_init_18 ++ []
def dkwX8_init_17 : List UInt8 := [42, 2, 181, 0, 161, 42, 16, 61, 188, 10, 181, 0, 164, 42, 16, 61, 188, 10, 181, 0, 167, 42]
abbrev dktX8_init_17 : List UInt8 := dkwX8_init_17 ++ dktX8_init_18
def dkwX8_init_16 : List UInt8 := [17, 7, 209, 188, 10, 181, 0, 152, 42, 5, 188, 10, 181, 0, 155, 42, 17, 4, 0, 188, 10, 181, 0, 158]
abbrev dktX8_init_16 : List UInt8 := dkwX8_init_16 ++ dktX8_init_17
def dkwX8_init_15 : List UInt8 := [181, 0, 143, 42, 17, 7, 209, 188, 10, 181, 0, 146, 42, 17, 7, 210, 188, 10, 181, 0, 149, 42]
abbrev dktX8_init_15 : List UInt8 := dkwX8_init_15 ++ dktX8_init_16
def dkwX8_init_14 : List UInt8 := [42, 17, 7, 209, 188, 10, 181, 0, 137, 42, 17, 7, 209, 188, 10, 181, 0, 140, 42, 17, 7, 209, 188, 10]
abbrev dktX8_init_14 : List UInt8 := dkwX8_init_14 ++ dktX8_init_15
def dkwX8_init_13 : List UInt8 := [17, 7, 209, 188, 11, 181, 0, 127, 42, 5, 188, 10, 181, 0, 131, 42, 17, 2, 0, 188, 10, 181, 0, 134]
abbrev dktX8_init_13 : List UInt8 := dkwX8_init_13 ++ dktX8_init_14
def dkwX8_init_12 : List UInt8 := [188, 10, 181, 0, 118, 42, 18, 114, 188, 10, 181, 0, 121, 42, 18, 114, 188, 10, 181, 0, 124, 42]
abbrev dktX8_init_12 : List UInt8 := dkwX8_init_12 ++ dktX8_init_13
def dkwX8_init_11 : List UInt8 := [181, 0, 108, 42, 17, 32, 0, 188, 10, 181, 0, 111, 42, 18, 114, 188, 10, 181, 0, 115, 42, 18, 114]
abbrev dktX8_init_11 : List UInt8 := dkwX8_init_11 ++ dktX8_init_12
def dkwX8_init_10 : List UInt8 := [17, 7, 210, 188, 10, 181, 0, 102, 42, 17, 7, 209, 188, 10, 181, 0, 105, 42, 17, 7, 209, 188, 10]
abbrev dktX8_init_10 : List UInt8 := dkwX8_init_10 ++ dktX8_init_11
def dkwX8_init_9 : List UInt8 := [17, 2, 208, 188, 10, 181, 0, 93, 42, 2, 181, 0, 96, 42, 17, 7, 209, 188, 10, 181, 0, 99, 42]
abbrev dktX8_init_9 : List UInt8 := dkwX8_init_9 ++ dktX8_init_10
def dkwX8_init_8 : List UInt8 := [188, 4, 181, 0, 84, 42, 16, 9, 188, 4, 181, 0, 87, 42, 17, 30, 0, 188, 10, 181, 0, 90, 42]
abbrev dktX8_init_8 : List UInt8 := dkwX8_init_8 ++ dktX8_init_9
def dkwX8_init_7 : List UInt8 := [181, 0, 75, 42, 17, 4, 176, 188, 10, 181, 0, 78, 42, 17, 2, 208, 188, 10, 181, 0, 81, 42, 16, 16]
abbrev dktX8_init_7 : List UInt8 := dkwX8_init_7 ++ dktX8_init_8
def dkwX8_init_6 : List UInt8 := [181, 0, 66, 42, 5, 188, 10, 181, 0, 69, 42, 16, 12, 188, 10, 181, 0, 72, 42, 16, 12, 188, 10]
abbrev dktX8_init_6 : List UInt8 := dkwX8_init_6 ++ dktX8_init_7
def dkwX8_init_5 : List UInt8 := [188, 10, 181, 0, 57, 42, 16, 8, 188, 10, 181, 0, 60, 42, 5, 188, 10, 181, 0, 63, 42, 5, 188, 10]
abbrev dktX8_init_5 : List UInt8 := dkwX8_init_5 ++ dktX8_init_6
def dkwX8_init_4 : List UInt8 := [17, 2, 188, 188, 10, 181, 0, 48, 42, 2, 181, 0, 51, 42, 16, 8, 188, 10, 181, 0, 54, 42, 16, 8]
abbrev dktX8_init_4 : List UInt8 := dkwX8_init_4 ++ dktX8_init_5
def dkwX8_init_3 : List UInt8 := [188, 10, 181, 0, 39, 42, 16, 12, 188, 10, 181, 0, 42, 42, 17, 4, 176, 188, 10, 181, 0, 45, 42]
abbrev dktX8_init_3 : List UInt8 := dkwX8_init_3 ++ dktX8_init_4
def dkwX8_init_2 : List UInt8 := [188, 10, 181, 0, 29, 42, 5, 188, 10, 181, 0, 32, 42, 16, 16, 188, 4, 181, 0, 35, 42, 16, 12]
abbrev dktX8_init_2 : List UInt8 := dkwX8_init_2 ++ dktX8_init_3
def dkwX8_init_1 : List UInt8 := [16, 8, 188, 10, 181, 0, 20, 42, 16, 8, 188, 10, 181, 0, 23, 42, 5, 188, 10, 181, 0, 26, 42, 5]
abbrev dktX8_init_1 : List UInt8 := dkwX8_init_1 ++ dktX8_init_2
def dkwX8_init_0 : List UInt8 := [42, 183, 0, 1, 42, 5, 181, 0, 7, 42, 2, 181, 0, 13, 42, 16, 8, 188, 10, 181, 0, 16, 42]
abbrev dktX8_init_0 : List UInt8 := dkwX8_init_0 ++ dktX8_init_1
theorem dksX8_init_0 : cX8_init.data.toList.drop 0 = dktX8_init_0 := by decide +kernel
theorem dksX8_init_1 : cX8_init.data.toList.drop 23 = dktX8_init_1 := dk_seg dksX8_init_0 23 rfl rfl
theorem dksX8_init_2 : cX8_init.data.toList.drop 47 = dktX8_init_2 := dk_seg dksX8_init_1 24 rfl rfl
theorem dksX8_init_3 : cX8_init.data.toList.drop 70 = dktX8_init_3 := dk_seg dksX8_init_2 23 rfl rfl
theorem dksX8_init_4 : cX8_init.data.toList.drop 93 = dktX8_init_4 := dk_seg dksX8_init_3 23 rfl rfl
theorem dksX8_init_5 : cX8_init.data.toList.drop 117 = dktX8_init_5 := dk_seg dksX8_init_4 24 rfl rfl
theorem dksX8_init_6 : cX8_init.data.toList.drop 141 = dktX8_init_6 := dk_seg dksX8_init_5 24 rfl rfl
theorem dksX8_init_7 : cX8_init.data.toList.drop 164 = dktX8_init_7 := dk_seg dksX8_init_6 23 rfl rfl
theorem dksX8_init_8 : cX8_init.data.toList.drop 188 = dktX8_init_8 := dk_seg dksX8_init_7 24 rfl rfl
theorem dksX8_init_9 : cX8_init.data.toList.drop 211 = dktX8_init_9 := dk_seg dksX8_init_8 23 rfl rfl
theorem dksX8_init_10 : cX8_init.data.toList.drop 234 = dktX8_init_10 := dk_seg dksX8_init_9 23 rfl rfl
theorem dksX8_init_11 : cX8_init.data.toList.drop 257 = dktX8_init_11 := dk_seg dksX8_init_10 23 rfl rfl
theorem dksX8_init_12 : cX8_init.data.toList.drop 280 = dktX8_init_12 := dk_seg dksX8_init_11 23 rfl rfl
theorem dksX8_init_13 : cX8_init.data.toList.drop 302 = dktX8_init_13 := dk_seg dksX8_init_12 22 rfl rfl
theorem dksX8_init_14 : cX8_init.data.toList.drop 326 = dktX8_init_14 := dk_seg dksX8_init_13 24 rfl rfl
theorem dksX8_init_15 : cX8_init.data.toList.drop 350 = dktX8_init_15 := dk_seg dksX8_init_14 24 rfl rfl
theorem dksX8_init_16 : cX8_init.data.toList.drop 372 = dktX8_init_16 := dk_seg dksX8_init_15 22 rfl rfl
theorem dksX8_init_17 : cX8_init.data.toList.drop 396 = dktX8_init_17 := dk_seg dksX8_init_16 24 rfl rfl
theorem dksX8_init_18 : cX8_init.data.toList.drop 418 = dktX8_init_18 := dk_seg dksX8_init_17 22 rfl rfl
theorem dX8_init_0 : decode cX8_init 0 = .ok (.aload_n 0, 1) := dk_42 (dk_at dksX8_init_0 0 rfl rfl)
theorem dX8_init_1 : decode cX8_init 1 = .ok (.invokespecial 1, 3) := dk_183 0 1 (dk_at dksX8_init_0 1 rfl rfl)
theorem dX8_init_4 : decode cX8_init 4 = .ok (.aload_n 0, 1) := dk_42 (dk_at dksX8_init_0 4 rfl rfl)
theorem dX8_init_5 : decode cX8_init 5 = .ok (.iconst 2, 1) := dk_5 (dk_at dksX8_init_0 5 rfl rfl)
theorem dX8_init_6 : decode cX8_init 6 = .ok (.putfield 7, 3) := dk_181 0 7 (dk_at dksX8_init_0 6 rfl rfl)
theorem dX8_init_9 : decode cX8_init 9 = .ok (.aload_n 0, 1) := dk_42 (dk_at dksX8_init_0 9 rfl rfl)
theorem dX8_init_10 : decode cX8_init 10 = .ok (.iconst (-1), 1) := dk_2 (dk_at dksX8_init_0 10 rfl rfl)
theorem dX8_init_11 : decode cX8_init 11 = .ok (.putfield 13, 3) := dk_181 0 13 (dk_at dksX8_init_0 11 rfl rfl)
theorem dX8_init_14 : decode cX8_init 14 = .ok (.aload_n 0, 1) := dk_42 (dk_at dksX8_init_0 14 rfl rfl)
theorem dX8_init_15 : decode cX8_init 15 = .ok (.bipush 8, 2) := dk_16 8 (dk_at dksX8_init_0 15 rfl rfl)
theorem dX8_init_17 : decode cX8_init 17 = .ok (.newarray .int, 2) := dk_188_10 (dk_at dksX8_init_0 17 rfl rfl)
theorem dX8_init_19 : decode cX8_init 19 = .ok (.putfield 16, 3) := dk_181 0 16 (dk_at dksX8_init_0 19 rfl rfl)
theorem dX8_init_22 : decode cX8_init 22 = .ok (.aload_n 0, 1) := dk_42 (dk_at dksX8_init_0 22 rfl rfl)
theorem dX8_init_23 : decode cX8_init 23 = .ok (.bipush 8, 2) := dk_16 8 (dk_at dksX8_init_1 0 rfl rfl)
theorem dX8_init_25 : decode cX8_init 25 = .ok (.newarray .int, 2) := dk_188_10 (dk_at dksX8_init_1 2 rfl rfl)
theorem dX8_init_27 : decode cX8_init 27 = .ok (.putfield 20, 3) := dk_181 0 20 (dk_at dksX8_init_1 4 rfl rfl)
theorem dX8_init_30 : decode cX8_init 30 = .ok (.aload_n 0, 1) := dk_42 (dk_at dksX8_init_1 7 rfl rfl)
theorem dX8_init_31 : decode cX8_init 31 = .ok (.bipush 8, 2) := dk_16 8 (dk_at dksX8_init_1 8 rfl rfl)
theorem dX8_init_33 : decode cX8_init 33 = .ok (.newarray .int, 2) := dk_188_10 (dk_at dksX8_init_1 10 rfl rfl)
theorem dX8_init_35 : decode cX8_init 35 = .ok (.putfield 23, 3) := dk_181 0 23 (dk_at dksX8_init_1 12 rfl rfl)
theorem dX8_init_38 : decode cX8_init 38 = .ok (.aload_n 0, 1) := dk_42 (dk_at dksX8_init_1 15 rfl rfl)
theorem dX8_init_39 : decode cX8_init 39 = .ok (.iconst 2, 1) := dk_5 (dk_at dksX8_init_1 16 rfl rfl)
theorem dX8_init_40 : decode cX8_init 40 = .ok (.newarray .int, 2) := dk_188_10 (dk_at dksX8_init_1 17 rfl rfl)
theorem dX8_init_42 : decode cX8_init 42 = .ok (.putfield 26, 3) := dk_181 0 26 (dk_at dksX8_init_1 19 rfl rfl)
theorem dX8_init_45 : decode cX8_init 45 = .ok (.aload_n 0, 1) := dk_42 (dk_at dksX8_init_1 22 rfl rfl)
theorem dX8_init_46 : decode cX8_init 46 = .ok (.iconst 2, 1) := dk_5 (dk_at dksX8_init_1 23 rfl rfl)
theorem dX8_init_47 : decode cX8_init 47 = .ok (.newarray .int, 2) := dk_188_10 (dk_at dksX8_init_2 0 rfl rfl)
theorem dX8_init_49 : decode cX8_init 49 = .ok (.putfield 29, 3) := dk_181 0 29 (dk_at dksX8_init_2 2 rfl rfl)
theorem dX8_init_52 : decode cX8_init 52 = .ok (.aload_n 0, 1) := dk_42 (dk_at dksX8_init_2 5 rfl rfl)
theorem dX8_init_53 : decode cX8_init 53 = .ok (.iconst 2, 1) := dk_5 (dk_at dksX8_init_2 6 rfl rfl)
theorem dX8_init_54 : decode cX8_init 54 = .ok (.newarray .int, 2) := dk_188_10 (dk_at dksX8_init_2 7 rfl rfl)
theorem dX8_init_56 : decode cX8_init 56 = .ok (.putfield 32, 3) := dk_181 0 32 (dk_at dksX8_init_2 9 rfl rfl)
theorem dX8_init_59 : decode cX8_init 59 = .ok (.aload_n 0, 1) := dk_42 (dk_at dksX8_init_2 12 rfl rfl)
theorem dX8_init_60 : decode cX8_init 60 = .ok (.bipush 16, 2) := dk_16 16 (dk_at dksX8_init_2 13 rfl rfl)
theorem dX8_init_62 : decode cX8_init 62 = .ok (.newarray .boolean, 2) := dk_188_4 (dk_at dksX8_init_2 15 rfl rfl)
theorem dX8_init_64 : decode cX8_init 64 = .ok (.putfield 35, 3) := dk_181 0 35 (dk_at dksX8_init_2 17 rfl rfl)
theorem dX8_init_67 : decode cX8_init 67 = .ok (.aload_n 0, 1) := dk_42 (dk_at dksX8_init_2 20 rfl rfl)
theorem dX8_init_68 : decode cX8_init 68 = .ok (.bipush 12, 2) := dk_16 12 (dk_at dksX8_init_2 21 rfl rfl)
theorem dX8_init_70 : decode cX8_init 70 = .ok (.newarray .int, 2) := dk_188_10 (dk_at dksX8_init_3 0 rfl rfl)
theorem dX8_init_72 : decode cX8_init 72 = .ok (.putfield 39, 3) := dk_181 0 39 (dk_at dksX8_init_3 2 rfl rfl)
theorem dX8_init_75 : decode cX8_init 75 = .ok (.aload_n 0, 1) := dk_42 (dk_at dksX8_init_3 5 rfl rfl)
theorem dX8_init_76 : decode cX8_init 76 = .ok (.bipush 12, 2) := dk_16 12 (dk_at dksX8_init_3 6 rfl rfl)
theorem dX8_init_78 : decode cX8_init 78 = .ok (.newarray .int, 2) := dk_188_10 (dk_at dksX8_init_3 8 rfl rfl)
theorem dX8_init_80 : decode cX8_init 80 = .ok (.putfield 42, 3) := dk_181 0 42 (dk_at dksX8_init_3 10 rfl rfl)
theorem dX8_init_83 : decode cX8_init 83 = .ok (.aload_n 0, 1) := dk_42 (dk_at dksX8_init_3 13 rfl rfl)
theorem dX8_init_84 : decode cX8_init 84 = .ok (.sipush 1200, 3) := dk_17 4 176 (dk_at dksX8_init_3 14 rfl rfl)
theorem dX8_init_87 : decode cX8_init 87 = .ok (.newarray .int, 2) := dk_188_10 (dk_at dksX8_init_3 17 rfl rfl)
theorem dX8_init_89 : decode cX8_init 89 = .ok (.putfield 45, 3) := dk_181 0 45 (dk_at dksX8_init_3 19 rfl rfl)
theorem dX8_init_92 : decode cX8_init 92 = .ok (.aload_n 0, 1) := dk_42 (dk_at dksX8_init_3 22 rfl rfl)
theorem dX8_init_93 : decode cX8_init 93 = .ok (.sipush 700, 3) := dk_17 2 188 (dk_at dksX8_init_4 0 rfl rfl)
theorem dX8_init_96 : decode cX8_init 96 = .ok (.newarray .int, 2) := dk_188_10 (dk_at dksX8_init_4 3 rfl rfl)
theorem dX8_init_98 : decode cX8_init 98 = .ok (.putfield 48, 3) := dk_181 0 48 (dk_at dksX8_init_4 5 rfl rfl)
theorem dX8_init_101 : decode cX8_init 101 = .ok (.aload_n 0, 1) := dk_42 (dk_at dksX8_init_4 8 rfl rfl)
theorem dX8_init_102 : decode cX8_init 102 = .ok (.iconst (-1), 1) := dk_2 (dk_at dksX8_init_4 9 rfl rfl)
theorem dX8_init_103 : decode cX8_init 103 = .ok (.putfield 51, 3) := dk_181 0 51 (dk_at dksX8_init_4 10 rfl rfl)
theorem dX8_init_106 : decode cX8_init 106 = .ok (.aload_n 0, 1) := dk_42 (dk_at dksX8_init_4 13 rfl rfl)
theorem dX8_init_107 : decode cX8_init 107 = .ok (.bipush 8, 2) := dk_16 8 (dk_at dksX8_init_4 14 rfl rfl)
theorem dX8_init_109 : decode cX8_init 109 = .ok (.newarray .int, 2) := dk_188_10 (dk_at dksX8_init_4 16 rfl rfl)
theorem dX8_init_111 : decode cX8_init 111 = .ok (.putfield 54, 3) := dk_181 0 54 (dk_at dksX8_init_4 18 rfl rfl)
theorem dX8_init_114 : decode cX8_init 114 = .ok (.aload_n 0, 1) := dk_42 (dk_at dksX8_init_4 21 rfl rfl)
theorem dX8_init_115 : decode cX8_init 115 = .ok (.bipush 8, 2) := dk_16 8 (dk_at dksX8_init_4 22 rfl rfl)
theorem dX8_init_117 : decode cX8_init 117 = .ok (.newarray .int, 2) := dk_188_10 (dk_at dksX8_init_5 0 rfl rfl)
theorem dX8_init_119 : decode cX8_init 119 = .ok (.putfield 57, 3) := dk_181 0 57 (dk_at dksX8_init_5 2 rfl rfl)
theorem dX8_init_122 : decode cX8_init 122 = .ok (.aload_n 0, 1) := dk_42 (dk_at dksX8_init_5 5 rfl rfl)
theorem dX8_init_123 : decode cX8_init 123 = .ok (.bipush 8, 2) := dk_16 8 (dk_at dksX8_init_5 6 rfl rfl)
theorem dX8_init_125 : decode cX8_init 125 = .ok (.newarray .int, 2) := dk_188_10 (dk_at dksX8_init_5 8 rfl rfl)
theorem dX8_init_127 : decode cX8_init 127 = .ok (.putfield 60, 3) := dk_181 0 60 (dk_at dksX8_init_5 10 rfl rfl)
theorem dX8_init_130 : decode cX8_init 130 = .ok (.aload_n 0, 1) := dk_42 (dk_at dksX8_init_5 13 rfl rfl)
theorem dX8_init_131 : decode cX8_init 131 = .ok (.iconst 2, 1) := dk_5 (dk_at dksX8_init_5 14 rfl rfl)
theorem dX8_init_132 : decode cX8_init 132 = .ok (.newarray .int, 2) := dk_188_10 (dk_at dksX8_init_5 15 rfl rfl)
theorem dX8_init_134 : decode cX8_init 134 = .ok (.putfield 63, 3) := dk_181 0 63 (dk_at dksX8_init_5 17 rfl rfl)
theorem dX8_init_137 : decode cX8_init 137 = .ok (.aload_n 0, 1) := dk_42 (dk_at dksX8_init_5 20 rfl rfl)
theorem dX8_init_138 : decode cX8_init 138 = .ok (.iconst 2, 1) := dk_5 (dk_at dksX8_init_5 21 rfl rfl)
theorem dX8_init_139 : decode cX8_init 139 = .ok (.newarray .int, 2) := dk_188_10 (dk_at dksX8_init_5 22 rfl rfl)
theorem dX8_init_141 : decode cX8_init 141 = .ok (.putfield 66, 3) := dk_181 0 66 (dk_at dksX8_init_6 0 rfl rfl)
theorem dX8_init_144 : decode cX8_init 144 = .ok (.aload_n 0, 1) := dk_42 (dk_at dksX8_init_6 3 rfl rfl)
theorem dX8_init_145 : decode cX8_init 145 = .ok (.iconst 2, 1) := dk_5 (dk_at dksX8_init_6 4 rfl rfl)
theorem dX8_init_146 : decode cX8_init 146 = .ok (.newarray .int, 2) := dk_188_10 (dk_at dksX8_init_6 5 rfl rfl)
theorem dX8_init_148 : decode cX8_init 148 = .ok (.putfield 69, 3) := dk_181 0 69 (dk_at dksX8_init_6 7 rfl rfl)
theorem dX8_init_151 : decode cX8_init 151 = .ok (.aload_n 0, 1) := dk_42 (dk_at dksX8_init_6 10 rfl rfl)
theorem dX8_init_152 : decode cX8_init 152 = .ok (.bipush 12, 2) := dk_16 12 (dk_at dksX8_init_6 11 rfl rfl)
theorem dX8_init_154 : decode cX8_init 154 = .ok (.newarray .int, 2) := dk_188_10 (dk_at dksX8_init_6 13 rfl rfl)
theorem dX8_init_156 : decode cX8_init 156 = .ok (.putfield 72, 3) := dk_181 0 72 (dk_at dksX8_init_6 15 rfl rfl)
theorem dX8_init_159 : decode cX8_init 159 = .ok (.aload_n 0, 1) := dk_42 (dk_at dksX8_init_6 18 rfl rfl)
theorem dX8_init_160 : decode cX8_init 160 = .ok (.bipush 12, 2) := dk_16 12 (dk_at dksX8_init_6 19 rfl rfl)
theorem dX8_init_162 : decode cX8_init 162 = .ok (.newarray .int, 2) := dk_188_10 (dk_at dksX8_init_6 21 rfl rfl)
theorem dX8_init_164 : decode cX8_init 164 = .ok (.putfield 75, 3) := dk_181 0 75 (dk_at dksX8_init_7 0 rfl rfl)
theorem dX8_init_167 : decode cX8_init 167 = .ok (.aload_n 0, 1) := dk_42 (dk_at dksX8_init_7 3 rfl rfl)
theorem dX8_init_168 : decode cX8_init 168 = .ok (.sipush 1200, 3) := dk_17 4 176 (dk_at dksX8_init_7 4 rfl rfl)
theorem dX8_init_171 : decode cX8_init 171 = .ok (.newarray .int, 2) := dk_188_10 (dk_at dksX8_init_7 7 rfl rfl)
theorem dX8_init_173 : decode cX8_init 173 = .ok (.putfield 78, 3) := dk_181 0 78 (dk_at dksX8_init_7 9 rfl rfl)
theorem dX8_init_176 : decode cX8_init 176 = .ok (.aload_n 0, 1) := dk_42 (dk_at dksX8_init_7 12 rfl rfl)
theorem dX8_init_177 : decode cX8_init 177 = .ok (.sipush 720, 3) := dk_17 2 208 (dk_at dksX8_init_7 13 rfl rfl)
theorem dX8_init_180 : decode cX8_init 180 = .ok (.newarray .int, 2) := dk_188_10 (dk_at dksX8_init_7 16 rfl rfl)
theorem dX8_init_182 : decode cX8_init 182 = .ok (.putfield 81, 3) := dk_181 0 81 (dk_at dksX8_init_7 18 rfl rfl)
theorem dX8_init_185 : decode cX8_init 185 = .ok (.aload_n 0, 1) := dk_42 (dk_at dksX8_init_7 21 rfl rfl)
theorem dX8_init_186 : decode cX8_init 186 = .ok (.bipush 16, 2) := dk_16 16 (dk_at dksX8_init_7 22 rfl rfl)
theorem dX8_init_188 : decode cX8_init 188 = .ok (.newarray .boolean, 2) := dk_188_4 (dk_at dksX8_init_8 0 rfl rfl)
theorem dX8_init_190 : decode cX8_init 190 = .ok (.putfield 84, 3) := dk_181 0 84 (dk_at dksX8_init_8 2 rfl rfl)
theorem dX8_init_193 : decode cX8_init 193 = .ok (.aload_n 0, 1) := dk_42 (dk_at dksX8_init_8 5 rfl rfl)
theorem dX8_init_194 : decode cX8_init 194 = .ok (.bipush 9, 2) := dk_16 9 (dk_at dksX8_init_8 6 rfl rfl)
theorem dX8_init_196 : decode cX8_init 196 = .ok (.newarray .boolean, 2) := dk_188_4 (dk_at dksX8_init_8 8 rfl rfl)
theorem dX8_init_198 : decode cX8_init 198 = .ok (.putfield 87, 3) := dk_181 0 87 (dk_at dksX8_init_8 10 rfl rfl)
theorem dX8_init_201 : decode cX8_init 201 = .ok (.aload_n 0, 1) := dk_42 (dk_at dksX8_init_8 13 rfl rfl)
theorem dX8_init_202 : decode cX8_init 202 = .ok (.sipush 7680, 3) := dk_17 30 0 (dk_at dksX8_init_8 14 rfl rfl)
theorem dX8_init_205 : decode cX8_init 205 = .ok (.newarray .int, 2) := dk_188_10 (dk_at dksX8_init_8 17 rfl rfl)
theorem dX8_init_207 : decode cX8_init 207 = .ok (.putfield 90, 3) := dk_181 0 90 (dk_at dksX8_init_8 19 rfl rfl)
theorem dX8_init_210 : decode cX8_init 210 = .ok (.aload_n 0, 1) := dk_42 (dk_at dksX8_init_8 22 rfl rfl)
theorem dX8_init_211 : decode cX8_init 211 = .ok (.sipush 720, 3) := dk_17 2 208 (dk_at dksX8_init_9 0 rfl rfl)
theorem dX8_init_214 : decode cX8_init 214 = .ok (.newarray .int, 2) := dk_188_10 (dk_at dksX8_init_9 3 rfl rfl)
theorem dX8_init_216 : decode cX8_init 216 = .ok (.putfield 93, 3) := dk_181 0 93 (dk_at dksX8_init_9 5 rfl rfl)
theorem dX8_init_219 : decode cX8_init 219 = .ok (.aload_n 0, 1) := dk_42 (dk_at dksX8_init_9 8 rfl rfl)
theorem dX8_init_220 : decode cX8_init 220 = .ok (.iconst (-1), 1) := dk_2 (dk_at dksX8_init_9 9 rfl rfl)
theorem dX8_init_221 : decode cX8_init 221 = .ok (.putfield 96, 3) := dk_181 0 96 (dk_at dksX8_init_9 10 rfl rfl)
theorem dX8_init_224 : decode cX8_init 224 = .ok (.aload_n 0, 1) := dk_42 (dk_at dksX8_init_9 13 rfl rfl)
theorem dX8_init_225 : decode cX8_init 225 = .ok (.sipush 2001, 3) := dk_17 7 209 (dk_at dksX8_init_9 14 rfl rfl)
theorem dX8_init_228 : decode cX8_init 228 = .ok (.newarray .int, 2) := dk_188_10 (dk_at dksX8_init_9 17 rfl rfl)
theorem dX8_init_230 : decode cX8_init 230 = .ok (.putfield 99, 3) := dk_181 0 99 (dk_at dksX8_init_9 19 rfl rfl)
theorem dX8_init_233 : decode cX8_init 233 = .ok (.aload_n 0, 1) := dk_42 (dk_at dksX8_init_9 22 rfl rfl)
theorem dX8_init_234 : decode cX8_init 234 = .ok (.sipush 2002, 3) := dk_17 7 210 (dk_at dksX8_init_10 0 rfl rfl)
theorem dX8_init_237 : decode cX8_init 237 = .ok (.newarray .int, 2) := dk_188_10 (dk_at dksX8_init_10 3 rfl rfl)
theorem dX8_init_239 : decode cX8_init 239 = .ok (.putfield 102, 3) := dk_181 0 102 (dk_at dksX8_init_10 5 rfl rfl)
theorem dX8_init_242 : decode cX8_init 242 = .ok (.aload_n 0, 1) := dk_42 (dk_at dksX8_init_10 8 rfl rfl)
theorem dX8_init_243 : decode cX8_init 243 = .ok (.sipush 2001, 3) := dk_17 7 209 (dk_at dksX8_init_10 9 rfl rfl)
theorem dX8_init_246 : decode cX8_init 246 = .ok (.newarray .int, 2) := dk_188_10 (dk_at dksX8_init_10 12 rfl rfl)
theorem dX8_init_248 : decode cX8_init 248 = .ok (.putfield 105, 3) := dk_181 0 105 (dk_at dksX8_init_10 14 rfl rfl)
theorem dX8_init_251 : decode cX8_init 251 = .ok (.aload_n 0, 1) := dk_42 (dk_at dksX8_init_10 17 rfl rfl)
theorem dX8_init_252 : decode cX8_init 252 = .ok (.sipush 2001, 3) := dk_17 7 209 (dk_at dksX8_init_10 18 rfl rfl)
theorem dX8_init_255 : decode cX8_init 255 = .ok (.newarray .int, 2) := dk_188_10 (dk_at dksX8_init_10 21 rfl rfl)
theorem dX8_init_257 : decode cX8_init 257 = .ok (.putfield 108, 3) := dk_181 0 108 (dk_at dksX8_init_11 0 rfl rfl)
theorem dX8_init_260 : decode cX8_init 260 = .ok (.aload_n 0, 1) := dk_42 (dk_at dksX8_init_11 3 rfl rfl)
theorem dX8_init_261 : decode cX8_init 261 = .ok (.sipush 8192, 3) := dk_17 32 0 (dk_at dksX8_init_11 4 rfl rfl)
theorem dX8_init_264 : decode cX8_init 264 = .ok (.newarray .int, 2) := dk_188_10 (dk_at dksX8_init_11 7 rfl rfl)
theorem dX8_init_266 : decode cX8_init 266 = .ok (.putfield 111, 3) := dk_181 0 111 (dk_at dksX8_init_11 9 rfl rfl)
theorem dX8_init_269 : decode cX8_init 269 = .ok (.aload_n 0, 1) := dk_42 (dk_at dksX8_init_11 12 rfl rfl)
theorem dX8_init_270 : decode cX8_init 270 = .ok (.ldc 114, 2) := dk_18 114 (dk_at dksX8_init_11 13 rfl rfl)
theorem dX8_init_272 : decode cX8_init 272 = .ok (.newarray .int, 2) := dk_188_10 (dk_at dksX8_init_11 15 rfl rfl)
theorem dX8_init_274 : decode cX8_init 274 = .ok (.putfield 115, 3) := dk_181 0 115 (dk_at dksX8_init_11 17 rfl rfl)
theorem dX8_init_277 : decode cX8_init 277 = .ok (.aload_n 0, 1) := dk_42 (dk_at dksX8_init_11 20 rfl rfl)
theorem dX8_init_278 : decode cX8_init 278 = .ok (.ldc 114, 2) := dk_18 114 (dk_at dksX8_init_11 21 rfl rfl)
theorem dX8_init_280 : decode cX8_init 280 = .ok (.newarray .int, 2) := dk_188_10 (dk_at dksX8_init_12 0 rfl rfl)
theorem dX8_init_282 : decode cX8_init 282 = .ok (.putfield 118, 3) := dk_181 0 118 (dk_at dksX8_init_12 2 rfl rfl)
theorem dX8_init_285 : decode cX8_init 285 = .ok (.aload_n 0, 1) := dk_42 (dk_at dksX8_init_12 5 rfl rfl)
theorem dX8_init_286 : decode cX8_init 286 = .ok (.ldc 114, 2) := dk_18 114 (dk_at dksX8_init_12 6 rfl rfl)
theorem dX8_init_288 : decode cX8_init 288 = .ok (.newarray .int, 2) := dk_188_10 (dk_at dksX8_init_12 8 rfl rfl)
theorem dX8_init_290 : decode cX8_init 290 = .ok (.putfield 121, 3) := dk_181 0 121 (dk_at dksX8_init_12 10 rfl rfl)
theorem dX8_init_293 : decode cX8_init 293 = .ok (.aload_n 0, 1) := dk_42 (dk_at dksX8_init_12 13 rfl rfl)
theorem dX8_init_294 : decode cX8_init 294 = .ok (.ldc 114, 2) := dk_18 114 (dk_at dksX8_init_12 14 rfl rfl)
theorem dX8_init_296 : decode cX8_init 296 = .ok (.newarray .int, 2) := dk_188_10 (dk_at dksX8_init_12 16 rfl rfl)
theorem dX8_init_298 : decode cX8_init 298 = .ok (.putfield 124, 3) := dk_181 0 124 (dk_at dksX8_init_12 18 rfl rfl)
theorem dX8_init_301 : decode cX8_init 301 = .ok (.aload_n 0, 1) := dk_42 (dk_at dksX8_init_12 21 rfl rfl)
theorem dX8_init_302 : decode cX8_init 302 = .ok (.sipush 2001, 3) := dk_17 7 209 (dk_at dksX8_init_13 0 rfl rfl)
theorem dX8_init_305 : decode cX8_init 305 = .ok (.newarray .long, 2) := dk_188_11 (dk_at dksX8_init_13 3 rfl rfl)
theorem dX8_init_307 : decode cX8_init 307 = .ok (.putfield 127, 3) := dk_181 0 127 (dk_at dksX8_init_13 5 rfl rfl)
theorem dX8_init_310 : decode cX8_init 310 = .ok (.aload_n 0, 1) := dk_42 (dk_at dksX8_init_13 8 rfl rfl)
theorem dX8_init_311 : decode cX8_init 311 = .ok (.iconst 2, 1) := dk_5 (dk_at dksX8_init_13 9 rfl rfl)
theorem dX8_init_312 : decode cX8_init 312 = .ok (.newarray .int, 2) := dk_188_10 (dk_at dksX8_init_13 10 rfl rfl)
theorem dX8_init_314 : decode cX8_init 314 = .ok (.putfield 131, 3) := dk_181 0 131 (dk_at dksX8_init_13 12 rfl rfl)
theorem dX8_init_317 : decode cX8_init 317 = .ok (.aload_n 0, 1) := dk_42 (dk_at dksX8_init_13 15 rfl rfl)
theorem dX8_init_318 : decode cX8_init 318 = .ok (.sipush 512, 3) := dk_17 2 0 (dk_at dksX8_init_13 16 rfl rfl)
theorem dX8_init_321 : decode cX8_init 321 = .ok (.newarray .int, 2) := dk_188_10 (dk_at dksX8_init_13 19 rfl rfl)
theorem dX8_init_323 : decode cX8_init 323 = .ok (.putfield 134, 3) := dk_181 0 134 (dk_at dksX8_init_13 21 rfl rfl)
theorem dX8_init_326 : decode cX8_init 326 = .ok (.aload_n 0, 1) := dk_42 (dk_at dksX8_init_14 0 rfl rfl)
theorem dX8_init_327 : decode cX8_init 327 = .ok (.sipush 2001, 3) := dk_17 7 209 (dk_at dksX8_init_14 1 rfl rfl)
theorem dX8_init_330 : decode cX8_init 330 = .ok (.newarray .int, 2) := dk_188_10 (dk_at dksX8_init_14 4 rfl rfl)
theorem dX8_init_332 : decode cX8_init 332 = .ok (.putfield 137, 3) := dk_181 0 137 (dk_at dksX8_init_14 6 rfl rfl)
theorem dX8_init_335 : decode cX8_init 335 = .ok (.aload_n 0, 1) := dk_42 (dk_at dksX8_init_14 9 rfl rfl)
theorem dX8_init_336 : decode cX8_init 336 = .ok (.sipush 2001, 3) := dk_17 7 209 (dk_at dksX8_init_14 10 rfl rfl)
theorem dX8_init_339 : decode cX8_init 339 = .ok (.newarray .int, 2) := dk_188_10 (dk_at dksX8_init_14 13 rfl rfl)
theorem dX8_init_341 : decode cX8_init 341 = .ok (.putfield 140, 3) := dk_181 0 140 (dk_at dksX8_init_14 15 rfl rfl)
theorem dX8_init_344 : decode cX8_init 344 = .ok (.aload_n 0, 1) := dk_42 (dk_at dksX8_init_14 18 rfl rfl)
theorem dX8_init_345 : decode cX8_init 345 = .ok (.sipush 2001, 3) := dk_17 7 209 (dk_at dksX8_init_14 19 rfl rfl)
theorem dX8_init_348 : decode cX8_init 348 = .ok (.newarray .int, 2) := dk_188_10 (dk_at dksX8_init_14 22 rfl rfl)
theorem dX8_init_350 : decode cX8_init 350 = .ok (.putfield 143, 3) := dk_181 0 143 (dk_at dksX8_init_15 0 rfl rfl)
theorem dX8_init_353 : decode cX8_init 353 = .ok (.aload_n 0, 1) := dk_42 (dk_at dksX8_init_15 3 rfl rfl)
theorem dX8_init_354 : decode cX8_init 354 = .ok (.sipush 2001, 3) := dk_17 7 209 (dk_at dksX8_init_15 4 rfl rfl)
theorem dX8_init_357 : decode cX8_init 357 = .ok (.newarray .int, 2) := dk_188_10 (dk_at dksX8_init_15 7 rfl rfl)
theorem dX8_init_359 : decode cX8_init 359 = .ok (.putfield 146, 3) := dk_181 0 146 (dk_at dksX8_init_15 9 rfl rfl)
theorem dX8_init_362 : decode cX8_init 362 = .ok (.aload_n 0, 1) := dk_42 (dk_at dksX8_init_15 12 rfl rfl)
theorem dX8_init_363 : decode cX8_init 363 = .ok (.sipush 2002, 3) := dk_17 7 210 (dk_at dksX8_init_15 13 rfl rfl)
theorem dX8_init_366 : decode cX8_init 366 = .ok (.newarray .int, 2) := dk_188_10 (dk_at dksX8_init_15 16 rfl rfl)
theorem dX8_init_368 : decode cX8_init 368 = .ok (.putfield 149, 3) := dk_181 0 149 (dk_at dksX8_init_15 18 rfl rfl)
theorem dX8_init_371 : decode cX8_init 371 = .ok (.aload_n 0, 1) := dk_42 (dk_at dksX8_init_15 21 rfl rfl)
theorem dX8_init_372 : decode cX8_init 372 = .ok (.sipush 2001, 3) := dk_17 7 209 (dk_at dksX8_init_16 0 rfl rfl)
theorem dX8_init_375 : decode cX8_init 375 = .ok (.newarray .int, 2) := dk_188_10 (dk_at dksX8_init_16 3 rfl rfl)
theorem dX8_init_377 : decode cX8_init 377 = .ok (.putfield 152, 3) := dk_181 0 152 (dk_at dksX8_init_16 5 rfl rfl)
theorem dX8_init_380 : decode cX8_init 380 = .ok (.aload_n 0, 1) := dk_42 (dk_at dksX8_init_16 8 rfl rfl)
theorem dX8_init_381 : decode cX8_init 381 = .ok (.iconst 2, 1) := dk_5 (dk_at dksX8_init_16 9 rfl rfl)
theorem dX8_init_382 : decode cX8_init 382 = .ok (.newarray .int, 2) := dk_188_10 (dk_at dksX8_init_16 10 rfl rfl)
theorem dX8_init_384 : decode cX8_init 384 = .ok (.putfield 155, 3) := dk_181 0 155 (dk_at dksX8_init_16 12 rfl rfl)
theorem dX8_init_387 : decode cX8_init 387 = .ok (.aload_n 0, 1) := dk_42 (dk_at dksX8_init_16 15 rfl rfl)
theorem dX8_init_388 : decode cX8_init 388 = .ok (.sipush 1024, 3) := dk_17 4 0 (dk_at dksX8_init_16 16 rfl rfl)
theorem dX8_init_391 : decode cX8_init 391 = .ok (.newarray .int, 2) := dk_188_10 (dk_at dksX8_init_16 19 rfl rfl)
theorem dX8_init_393 : decode cX8_init 393 = .ok (.putfield 158, 3) := dk_181 0 158 (dk_at dksX8_init_16 21 rfl rfl)
theorem dX8_init_396 : decode cX8_init 396 = .ok (.aload_n 0, 1) := dk_42 (dk_at dksX8_init_17 0 rfl rfl)
theorem dX8_init_397 : decode cX8_init 397 = .ok (.iconst (-1), 1) := dk_2 (dk_at dksX8_init_17 1 rfl rfl)
theorem dX8_init_398 : decode cX8_init 398 = .ok (.putfield 161, 3) := dk_181 0 161 (dk_at dksX8_init_17 2 rfl rfl)
theorem dX8_init_401 : decode cX8_init 401 = .ok (.aload_n 0, 1) := dk_42 (dk_at dksX8_init_17 5 rfl rfl)
theorem dX8_init_402 : decode cX8_init 402 = .ok (.bipush 61, 2) := dk_16 61 (dk_at dksX8_init_17 6 rfl rfl)
theorem dX8_init_404 : decode cX8_init 404 = .ok (.newarray .int, 2) := dk_188_10 (dk_at dksX8_init_17 8 rfl rfl)
theorem dX8_init_406 : decode cX8_init 406 = .ok (.putfield 164, 3) := dk_181 0 164 (dk_at dksX8_init_17 10 rfl rfl)
theorem dX8_init_409 : decode cX8_init 409 = .ok (.aload_n 0, 1) := dk_42 (dk_at dksX8_init_17 13 rfl rfl)
theorem dX8_init_410 : decode cX8_init 410 = .ok (.bipush 61, 2) := dk_16 61 (dk_at dksX8_init_17 14 rfl rfl)
theorem dX8_init_412 : decode cX8_init 412 = .ok (.newarray .int, 2) := dk_188_10 (dk_at dksX8_init_17 16 rfl rfl)
theorem dX8_init_414 : decode cX8_init 414 = .ok (.putfield 167, 3) := dk_181 0 167 (dk_at dksX8_init_17 18 rfl rfl)
theorem dX8_init_417 : decode cX8_init 417 = .ok (.aload_n 0, 1) := dk_42 (dk_at dksX8_init_17 21 rfl rfl)
theorem dX8_init_418 : decode cX8_init 418 = .ok (.invokevirtual 170, 3) := dk_182 0 170 (dk_at dksX8_init_18 0 rfl rfl)
theorem dX8_init_421 : decode cX8_init 421 = .ok (.return_, 1) := dk_177 (dk_at dksX8_init_18 3 rfl rfl)
abbrev cX8_begins : ByteArray := prog_19_method_96_code
def yX8_begins : MethodName := ⟨RX8, "begins", "()V"⟩
def dkwX8_begins_3 : List UInt8 := [182, 1, 151, 79, 42, 180, 0, 167, 3, 3, 79, 42, 2, 181, 1, 199, 177]
abbrev dktX8_begins_3 : List UInt8 := dkwX8_begins_3 ++ []
def dkwX8_begins_2 : List UInt8 := [181, 1, 243, 42, 2, 181, 0, 96, 42, 3, 181, 1, 129, 42, 2, 181, 0, 161, 42, 180, 0, 164, 3, 42]
abbrev dktX8_begins_2 : List UInt8 := dkwX8_begins_2 ++ dktX8_begins_3
def dkwX8_begins_1 : List UInt8 := [181, 1, 167, 42, 3, 181, 1, 222, 42, 180, 0, 155, 3, 3, 79, 42, 180, 0, 155, 4, 3, 79, 42, 3]
abbrev dktX8_begins_1 : List UInt8 := dkwX8_begins_1 ++ dktX8_begins_2
def dkwX8_begins_0 : List UInt8 := [3, 60, 27, 17, 30, 0, 162, 0, 16, 42, 180, 0, 90, 27, 3, 79, 132, 1, 1, 167, 255, 239, 42, 3]
abbrev dktX8_begins_0 : List UInt8 := dkwX8_begins_0 ++ dktX8_begins_1
theorem dksX8_begins_0 : cX8_begins.data.toList.drop 0 = dktX8_begins_0 := by decide +kernel
theorem dksX8_begins_1 : cX8_begins.data.toList.drop 24 = dktX8_begins_1 := dk_seg dksX8_begins_0 24 rfl rfl
theorem dksX8_begins_2 : cX8_begins.data.toList.drop 48 = dktX8_begins_2 := dk_seg dksX8_begins_1 24 rfl rfl
theorem dksX8_begins_3 : cX8_begins.data.toList.drop 72 = dktX8_begins_3 := dk_seg dksX8_begins_2 24 rfl rfl
theorem dX8_begins_0 : decode cX8_begins 0 = .ok (.iconst 0, 1) := dk_3 (dk_at dksX8_begins_0 0 rfl rfl)
theorem dX8_begins_1 : decode cX8_begins 1 = .ok (.istore_n 1, 1) := dk_60 (dk_at dksX8_begins_0 1 rfl rfl)
theorem dX8_begins_2 : decode cX8_begins 2 = .ok (.iload_n 1, 1) := dk_27 (dk_at dksX8_begins_0 2 rfl rfl)
theorem dX8_begins_3 : decode cX8_begins 3 = .ok (.sipush 7680, 3) := dk_17 30 0 (dk_at dksX8_begins_0 3 rfl rfl)
theorem dX8_begins_6 : decode cX8_begins 6 = .ok (.if_icmp .ge 16, 3) := dk_162 0 16 (dk_at dksX8_begins_0 6 rfl rfl)
theorem dX8_begins_9 : decode cX8_begins 9 = .ok (.aload_n 0, 1) := dk_42 (dk_at dksX8_begins_0 9 rfl rfl)
theorem dX8_begins_10 : decode cX8_begins 10 = .ok (.getfield 90, 3) := dk_180 0 90 (dk_at dksX8_begins_0 10 rfl rfl)
theorem dX8_begins_13 : decode cX8_begins 13 = .ok (.iload_n 1, 1) := dk_27 (dk_at dksX8_begins_0 13 rfl rfl)
theorem dX8_begins_14 : decode cX8_begins 14 = .ok (.iconst 0, 1) := dk_3 (dk_at dksX8_begins_0 14 rfl rfl)
theorem dX8_begins_15 : decode cX8_begins 15 = .ok (.iastore, 1) := dk_79 (dk_at dksX8_begins_0 15 rfl rfl)
theorem dX8_begins_16 : decode cX8_begins 16 = .ok (.iinc 1 1, 3) := dk_132 1 1 (dk_at dksX8_begins_0 16 rfl rfl)
theorem dX8_begins_19 : decode cX8_begins 19 = .ok (.goto (-17), 3) := dk_167 255 239 (dk_at dksX8_begins_0 19 rfl rfl)
theorem dX8_begins_22 : decode cX8_begins 22 = .ok (.aload_n 0, 1) := dk_42 (dk_at dksX8_begins_0 22 rfl rfl)
theorem dX8_begins_23 : decode cX8_begins 23 = .ok (.iconst 0, 1) := dk_3 (dk_at dksX8_begins_0 23 rfl rfl)
theorem dX8_begins_24 : decode cX8_begins 24 = .ok (.putfield 423, 3) := dk_181 1 167 (dk_at dksX8_begins_1 0 rfl rfl)
theorem dX8_begins_27 : decode cX8_begins 27 = .ok (.aload_n 0, 1) := dk_42 (dk_at dksX8_begins_1 3 rfl rfl)
theorem dX8_begins_28 : decode cX8_begins 28 = .ok (.iconst 0, 1) := dk_3 (dk_at dksX8_begins_1 4 rfl rfl)
theorem dX8_begins_29 : decode cX8_begins 29 = .ok (.putfield 478, 3) := dk_181 1 222 (dk_at dksX8_begins_1 5 rfl rfl)
theorem dX8_begins_32 : decode cX8_begins 32 = .ok (.aload_n 0, 1) := dk_42 (dk_at dksX8_begins_1 8 rfl rfl)
theorem dX8_begins_33 : decode cX8_begins 33 = .ok (.getfield 155, 3) := dk_180 0 155 (dk_at dksX8_begins_1 9 rfl rfl)
theorem dX8_begins_36 : decode cX8_begins 36 = .ok (.iconst 0, 1) := dk_3 (dk_at dksX8_begins_1 12 rfl rfl)
theorem dX8_begins_37 : decode cX8_begins 37 = .ok (.iconst 0, 1) := dk_3 (dk_at dksX8_begins_1 13 rfl rfl)
theorem dX8_begins_38 : decode cX8_begins 38 = .ok (.iastore, 1) := dk_79 (dk_at dksX8_begins_1 14 rfl rfl)
theorem dX8_begins_39 : decode cX8_begins 39 = .ok (.aload_n 0, 1) := dk_42 (dk_at dksX8_begins_1 15 rfl rfl)
theorem dX8_begins_40 : decode cX8_begins 40 = .ok (.getfield 155, 3) := dk_180 0 155 (dk_at dksX8_begins_1 16 rfl rfl)
theorem dX8_begins_43 : decode cX8_begins 43 = .ok (.iconst 1, 1) := dk_4 (dk_at dksX8_begins_1 19 rfl rfl)
theorem dX8_begins_44 : decode cX8_begins 44 = .ok (.iconst 0, 1) := dk_3 (dk_at dksX8_begins_1 20 rfl rfl)
theorem dX8_begins_45 : decode cX8_begins 45 = .ok (.iastore, 1) := dk_79 (dk_at dksX8_begins_1 21 rfl rfl)
theorem dX8_begins_46 : decode cX8_begins 46 = .ok (.aload_n 0, 1) := dk_42 (dk_at dksX8_begins_1 22 rfl rfl)
theorem dX8_begins_47 : decode cX8_begins 47 = .ok (.iconst 0, 1) := dk_3 (dk_at dksX8_begins_1 23 rfl rfl)
theorem dX8_begins_48 : decode cX8_begins 48 = .ok (.putfield 499, 3) := dk_181 1 243 (dk_at dksX8_begins_2 0 rfl rfl)
theorem dX8_begins_51 : decode cX8_begins 51 = .ok (.aload_n 0, 1) := dk_42 (dk_at dksX8_begins_2 3 rfl rfl)
theorem dX8_begins_52 : decode cX8_begins 52 = .ok (.iconst (-1), 1) := dk_2 (dk_at dksX8_begins_2 4 rfl rfl)
theorem dX8_begins_53 : decode cX8_begins 53 = .ok (.putfield 96, 3) := dk_181 0 96 (dk_at dksX8_begins_2 5 rfl rfl)
theorem dX8_begins_56 : decode cX8_begins 56 = .ok (.aload_n 0, 1) := dk_42 (dk_at dksX8_begins_2 8 rfl rfl)
theorem dX8_begins_57 : decode cX8_begins 57 = .ok (.iconst 0, 1) := dk_3 (dk_at dksX8_begins_2 9 rfl rfl)
theorem dX8_begins_58 : decode cX8_begins 58 = .ok (.putfield 385, 3) := dk_181 1 129 (dk_at dksX8_begins_2 10 rfl rfl)
theorem dX8_begins_61 : decode cX8_begins 61 = .ok (.aload_n 0, 1) := dk_42 (dk_at dksX8_begins_2 13 rfl rfl)
theorem dX8_begins_62 : decode cX8_begins 62 = .ok (.iconst (-1), 1) := dk_2 (dk_at dksX8_begins_2 14 rfl rfl)
theorem dX8_begins_63 : decode cX8_begins 63 = .ok (.putfield 161, 3) := dk_181 0 161 (dk_at dksX8_begins_2 15 rfl rfl)
theorem dX8_begins_66 : decode cX8_begins 66 = .ok (.aload_n 0, 1) := dk_42 (dk_at dksX8_begins_2 18 rfl rfl)
theorem dX8_begins_67 : decode cX8_begins 67 = .ok (.getfield 164, 3) := dk_180 0 164 (dk_at dksX8_begins_2 19 rfl rfl)
theorem dX8_begins_70 : decode cX8_begins 70 = .ok (.iconst 0, 1) := dk_3 (dk_at dksX8_begins_2 22 rfl rfl)
theorem dX8_begins_71 : decode cX8_begins 71 = .ok (.aload_n 0, 1) := dk_42 (dk_at dksX8_begins_2 23 rfl rfl)
theorem dX8_begins_72 : decode cX8_begins 72 = .ok (.invokevirtual 407, 3) := dk_182 1 151 (dk_at dksX8_begins_3 0 rfl rfl)
theorem dX8_begins_75 : decode cX8_begins 75 = .ok (.iastore, 1) := dk_79 (dk_at dksX8_begins_3 3 rfl rfl)
theorem dX8_begins_76 : decode cX8_begins 76 = .ok (.aload_n 0, 1) := dk_42 (dk_at dksX8_begins_3 4 rfl rfl)
theorem dX8_begins_77 : decode cX8_begins 77 = .ok (.getfield 167, 3) := dk_180 0 167 (dk_at dksX8_begins_3 5 rfl rfl)
theorem dX8_begins_80 : decode cX8_begins 80 = .ok (.iconst 0, 1) := dk_3 (dk_at dksX8_begins_3 8 rfl rfl)
theorem dX8_begins_81 : decode cX8_begins 81 = .ok (.iconst 0, 1) := dk_3 (dk_at dksX8_begins_3 9 rfl rfl)
theorem dX8_begins_82 : decode cX8_begins 82 = .ok (.iastore, 1) := dk_79 (dk_at dksX8_begins_3 10 rfl rfl)
theorem dX8_begins_83 : decode cX8_begins 83 = .ok (.aload_n 0, 1) := dk_42 (dk_at dksX8_begins_3 11 rfl rfl)
theorem dX8_begins_84 : decode cX8_begins 84 = .ok (.iconst (-1), 1) := dk_2 (dk_at dksX8_begins_3 12 rfl rfl)
theorem dX8_begins_85 : decode cX8_begins 85 = .ok (.putfield 455, 3) := dk_181 1 199 (dk_at dksX8_begins_3 13 rfl rfl)
theorem dX8_begins_88 : decode cX8_begins 88 = .ok (.return_, 1) := dk_177 (dk_at dksX8_begins_3 16 rfl rfl)
abbrev cX8_start : ByteArray := prog_19_method_56_code
def yX8_start : MethodName := ⟨RX8, "start", "()I"⟩
def dkwX8_start_2 : List UInt8 := [180, 0, 13, 16, 20, 120, 128, 172]
abbrev dktX8_start_2 : List UInt8 := dkwX8_start_2 ++ []
def dkwX8_start_1 : List UInt8 := [96, 120, 128, 60, 132, 2, 1, 167, 255, 229, 42, 180, 0, 13, 2, 160, 0, 7, 27, 167, 0, 12, 27, 42]
abbrev dktX8_start_1 : List UInt8 := dkwX8_start_1 ++ dktX8_start_2
def dkwX8_start_0 : List UInt8 := [3, 60, 3, 61, 28, 42, 180, 1, 85, 162, 0, 25, 27, 42, 180, 0, 32, 28, 46, 16, 16, 5, 28, 104]
abbrev dktX8_start_0 : List UInt8 := dkwX8_start_0 ++ dktX8_start_1
theorem dksX8_start_0 : cX8_start.data.toList.drop 0 = dktX8_start_0 := by decide +kernel
theorem dksX8_start_1 : cX8_start.data.toList.drop 24 = dktX8_start_1 := dk_seg dksX8_start_0 24 rfl rfl
theorem dksX8_start_2 : cX8_start.data.toList.drop 48 = dktX8_start_2 := dk_seg dksX8_start_1 24 rfl rfl
theorem dX8_start_0 : decode cX8_start 0 = .ok (.iconst 0, 1) := dk_3 (dk_at dksX8_start_0 0 rfl rfl)
theorem dX8_start_1 : decode cX8_start 1 = .ok (.istore_n 1, 1) := dk_60 (dk_at dksX8_start_0 1 rfl rfl)
theorem dX8_start_2 : decode cX8_start 2 = .ok (.iconst 0, 1) := dk_3 (dk_at dksX8_start_0 2 rfl rfl)
theorem dX8_start_3 : decode cX8_start 3 = .ok (.istore_n 2, 1) := dk_61 (dk_at dksX8_start_0 3 rfl rfl)
theorem dX8_start_4 : decode cX8_start 4 = .ok (.iload_n 2, 1) := dk_28 (dk_at dksX8_start_0 4 rfl rfl)
theorem dX8_start_5 : decode cX8_start 5 = .ok (.aload_n 0, 1) := dk_42 (dk_at dksX8_start_0 5 rfl rfl)
theorem dX8_start_6 : decode cX8_start 6 = .ok (.getfield 341, 3) := dk_180 1 85 (dk_at dksX8_start_0 6 rfl rfl)
theorem dX8_start_9 : decode cX8_start 9 = .ok (.if_icmp .ge 25, 3) := dk_162 0 25 (dk_at dksX8_start_0 9 rfl rfl)
theorem dX8_start_12 : decode cX8_start 12 = .ok (.iload_n 1, 1) := dk_27 (dk_at dksX8_start_0 12 rfl rfl)
theorem dX8_start_13 : decode cX8_start 13 = .ok (.aload_n 0, 1) := dk_42 (dk_at dksX8_start_0 13 rfl rfl)
theorem dX8_start_14 : decode cX8_start 14 = .ok (.getfield 32, 3) := dk_180 0 32 (dk_at dksX8_start_0 14 rfl rfl)
theorem dX8_start_17 : decode cX8_start 17 = .ok (.iload_n 2, 1) := dk_28 (dk_at dksX8_start_0 17 rfl rfl)
theorem dX8_start_18 : decode cX8_start 18 = .ok (.iaload, 1) := dk_46 (dk_at dksX8_start_0 18 rfl rfl)
theorem dX8_start_19 : decode cX8_start 19 = .ok (.bipush 16, 2) := dk_16 16 (dk_at dksX8_start_0 19 rfl rfl)
theorem dX8_start_21 : decode cX8_start 21 = .ok (.iconst 2, 1) := dk_5 (dk_at dksX8_start_0 21 rfl rfl)
theorem dX8_start_22 : decode cX8_start 22 = .ok (.iload_n 2, 1) := dk_28 (dk_at dksX8_start_0 22 rfl rfl)
theorem dX8_start_23 : decode cX8_start 23 = .ok (.imul, 1) := dk_104 (dk_at dksX8_start_0 23 rfl rfl)
theorem dX8_start_24 : decode cX8_start 24 = .ok (.iadd, 1) := dk_96 (dk_at dksX8_start_1 0 rfl rfl)
theorem dX8_start_25 : decode cX8_start 25 = .ok (.ishl, 1) := dk_120 (dk_at dksX8_start_1 1 rfl rfl)
theorem dX8_start_26 : decode cX8_start 26 = .ok (.ior, 1) := dk_128 (dk_at dksX8_start_1 2 rfl rfl)
theorem dX8_start_27 : decode cX8_start 27 = .ok (.istore_n 1, 1) := dk_60 (dk_at dksX8_start_1 3 rfl rfl)
theorem dX8_start_28 : decode cX8_start 28 = .ok (.iinc 2 1, 3) := dk_132 2 1 (dk_at dksX8_start_1 4 rfl rfl)
theorem dX8_start_31 : decode cX8_start 31 = .ok (.goto (-27), 3) := dk_167 255 229 (dk_at dksX8_start_1 7 rfl rfl)
theorem dX8_start_34 : decode cX8_start 34 = .ok (.aload_n 0, 1) := dk_42 (dk_at dksX8_start_1 10 rfl rfl)
theorem dX8_start_35 : decode cX8_start 35 = .ok (.getfield 13, 3) := dk_180 0 13 (dk_at dksX8_start_1 11 rfl rfl)
theorem dX8_start_38 : decode cX8_start 38 = .ok (.iconst (-1), 1) := dk_2 (dk_at dksX8_start_1 14 rfl rfl)
theorem dX8_start_39 : decode cX8_start 39 = .ok (.if_icmp .ne 7, 3) := dk_160 0 7 (dk_at dksX8_start_1 15 rfl rfl)
theorem dX8_start_42 : decode cX8_start 42 = .ok (.iload_n 1, 1) := dk_27 (dk_at dksX8_start_1 18 rfl rfl)
theorem dX8_start_43 : decode cX8_start 43 = .ok (.goto 12, 3) := dk_167 0 12 (dk_at dksX8_start_1 19 rfl rfl)
theorem dX8_start_46 : decode cX8_start 46 = .ok (.iload_n 1, 1) := dk_27 (dk_at dksX8_start_1 22 rfl rfl)
theorem dX8_start_47 : decode cX8_start 47 = .ok (.aload_n 0, 1) := dk_42 (dk_at dksX8_start_1 23 rfl rfl)
theorem dX8_start_48 : decode cX8_start 48 = .ok (.getfield 13, 3) := dk_180 0 13 (dk_at dksX8_start_2 0 rfl rfl)
theorem dX8_start_51 : decode cX8_start 51 = .ok (.bipush 20, 2) := dk_16 20 (dk_at dksX8_start_2 3 rfl rfl)
theorem dX8_start_53 : decode cX8_start 53 = .ok (.ishl, 1) := dk_120 (dk_at dksX8_start_2 5 rfl rfl)
theorem dX8_start_54 : decode cX8_start 54 = .ok (.ior, 1) := dk_128 (dk_at dksX8_start_2 6 rfl rfl)
theorem dX8_start_55 : decode cX8_start 55 = .ok (.ireturn, 1) := dk_172 (dk_at dksX8_start_2 7 rfl rfl)
abbrev cX8_thrown : ByteArray := prog_19_method_2_code
def yX8_thrown : MethodName := ⟨RX8, "thrown", "()I"⟩
theorem dX8_thrown_0 : decode cX8_thrown 0 = .ok (.aload_n 0, 1) := by decide +kernel
theorem dX8_thrown_1 : decode cX8_thrown 1 = .ok (.getfield 173, 3) := by decide +kernel
theorem dX8_thrown_4 : decode cX8_thrown 4 = .ok (.ireturn, 1) := by decide +kernel
abbrev cX8_feed : ByteArray := prog_19_method_6_code
def yX8_feed : MethodName := ⟨RX8, "feed", "(IIIII)I"⟩
def dkwX8_feed_2 : List UInt8 := [182, 0, 179, 42, 180, 0, 176, 172]
abbrev dktX8_feed_2 : List UInt8 := dkwX8_feed_2 ++ []
def dkwX8_feed_1 : List UInt8 := [182, 0, 179, 42, 28, 182, 0, 179, 42, 29, 182, 0, 179, 42, 21, 4, 182, 0, 179, 42, 21, 5]
abbrev dktX8_feed_1 : List UInt8 := dkwX8_feed_1 ++ dktX8_feed_2
def dkwX8_feed_0 : List UInt8 := [42, 3, 181, 0, 173, 42, 180, 0, 176, 16, 20, 96, 17, 2, 188, 164, 0, 5, 2, 172, 42, 27]
abbrev dktX8_feed_0 : List UInt8 := dkwX8_feed_0 ++ dktX8_feed_1
theorem dksX8_feed_0 : cX8_feed.data.toList.drop 0 = dktX8_feed_0 := by decide +kernel
theorem dksX8_feed_1 : cX8_feed.data.toList.drop 22 = dktX8_feed_1 := dk_seg dksX8_feed_0 22 rfl rfl
theorem dksX8_feed_2 : cX8_feed.data.toList.drop 44 = dktX8_feed_2 := dk_seg dksX8_feed_1 22 rfl rfl
theorem dX8_feed_0 : decode cX8_feed 0 = .ok (.aload_n 0, 1) := dk_42 (dk_at dksX8_feed_0 0 rfl rfl)
theorem dX8_feed_1 : decode cX8_feed 1 = .ok (.iconst 0, 1) := dk_3 (dk_at dksX8_feed_0 1 rfl rfl)
theorem dX8_feed_2 : decode cX8_feed 2 = .ok (.putfield 173, 3) := dk_181 0 173 (dk_at dksX8_feed_0 2 rfl rfl)
theorem dX8_feed_5 : decode cX8_feed 5 = .ok (.aload_n 0, 1) := dk_42 (dk_at dksX8_feed_0 5 rfl rfl)
theorem dX8_feed_6 : decode cX8_feed 6 = .ok (.getfield 176, 3) := dk_180 0 176 (dk_at dksX8_feed_0 6 rfl rfl)
theorem dX8_feed_9 : decode cX8_feed 9 = .ok (.bipush 20, 2) := dk_16 20 (dk_at dksX8_feed_0 9 rfl rfl)
theorem dX8_feed_11 : decode cX8_feed 11 = .ok (.iadd, 1) := dk_96 (dk_at dksX8_feed_0 11 rfl rfl)
theorem dX8_feed_12 : decode cX8_feed 12 = .ok (.sipush 700, 3) := dk_17 2 188 (dk_at dksX8_feed_0 12 rfl rfl)
theorem dX8_feed_15 : decode cX8_feed 15 = .ok (.if_icmp .le 5, 3) := dk_164 0 5 (dk_at dksX8_feed_0 15 rfl rfl)
theorem dX8_feed_18 : decode cX8_feed 18 = .ok (.iconst (-1), 1) := dk_2 (dk_at dksX8_feed_0 18 rfl rfl)
theorem dX8_feed_19 : decode cX8_feed 19 = .ok (.ireturn, 1) := dk_172 (dk_at dksX8_feed_0 19 rfl rfl)
theorem dX8_feed_20 : decode cX8_feed 20 = .ok (.aload_n 0, 1) := dk_42 (dk_at dksX8_feed_0 20 rfl rfl)
theorem dX8_feed_21 : decode cX8_feed 21 = .ok (.iload_n 1, 1) := dk_27 (dk_at dksX8_feed_0 21 rfl rfl)
theorem dX8_feed_22 : decode cX8_feed 22 = .ok (.invokevirtual 179, 3) := dk_182 0 179 (dk_at dksX8_feed_1 0 rfl rfl)
theorem dX8_feed_25 : decode cX8_feed 25 = .ok (.aload_n 0, 1) := dk_42 (dk_at dksX8_feed_1 3 rfl rfl)
theorem dX8_feed_26 : decode cX8_feed 26 = .ok (.iload_n 2, 1) := dk_28 (dk_at dksX8_feed_1 4 rfl rfl)
theorem dX8_feed_27 : decode cX8_feed 27 = .ok (.invokevirtual 179, 3) := dk_182 0 179 (dk_at dksX8_feed_1 5 rfl rfl)
theorem dX8_feed_30 : decode cX8_feed 30 = .ok (.aload_n 0, 1) := dk_42 (dk_at dksX8_feed_1 8 rfl rfl)
theorem dX8_feed_31 : decode cX8_feed 31 = .ok (.iload_n 3, 1) := dk_29 (dk_at dksX8_feed_1 9 rfl rfl)
theorem dX8_feed_32 : decode cX8_feed 32 = .ok (.invokevirtual 179, 3) := dk_182 0 179 (dk_at dksX8_feed_1 10 rfl rfl)
theorem dX8_feed_35 : decode cX8_feed 35 = .ok (.aload_n 0, 1) := dk_42 (dk_at dksX8_feed_1 13 rfl rfl)
theorem dX8_feed_36 : decode cX8_feed 36 = .ok (.iload 4, 2) := dk_21 4 (dk_at dksX8_feed_1 14 rfl rfl)
theorem dX8_feed_38 : decode cX8_feed 38 = .ok (.invokevirtual 179, 3) := dk_182 0 179 (dk_at dksX8_feed_1 16 rfl rfl)
theorem dX8_feed_41 : decode cX8_feed 41 = .ok (.aload_n 0, 1) := dk_42 (dk_at dksX8_feed_1 19 rfl rfl)
theorem dX8_feed_42 : decode cX8_feed 42 = .ok (.iload 5, 2) := dk_21 5 (dk_at dksX8_feed_1 20 rfl rfl)
theorem dX8_feed_44 : decode cX8_feed 44 = .ok (.invokevirtual 179, 3) := dk_182 0 179 (dk_at dksX8_feed_2 0 rfl rfl)
theorem dX8_feed_47 : decode cX8_feed 47 = .ok (.aload_n 0, 1) := dk_42 (dk_at dksX8_feed_2 3 rfl rfl)
theorem dX8_feed_48 : decode cX8_feed 48 = .ok (.getfield 176, 3) := dk_180 0 176 (dk_at dksX8_feed_2 4 rfl rfl)
theorem dX8_feed_51 : decode cX8_feed 51 = .ok (.ireturn, 1) := dk_172 (dk_at dksX8_feed_2 7 rfl rfl)
abbrev cX8_lays : ByteArray := prog_19_method_7_code
def yX8_lays : MethodName := ⟨RX8, "lays", "(I)V"⟩
def dkwX8_lays_1 : List UInt8 := [89, 180, 0, 176, 4, 96, 181, 0, 176, 132, 2, 248, 167, 255, 223, 177]
abbrev dktX8_lays_1 : List UInt8 := dkwX8_lays_1 ++ []
def dkwX8_lays_0 : List UInt8 := [16, 24, 61, 28, 155, 0, 35, 42, 180, 0, 48, 42, 180, 0, 176, 27, 28, 122, 17, 0, 255, 126, 79, 42]
abbrev dktX8_lays_0 : List UInt8 := dkwX8_lays_0 ++ dktX8_lays_1
theorem dksX8_lays_0 : cX8_lays.data.toList.drop 0 = dktX8_lays_0 := by decide +kernel
theorem dksX8_lays_1 : cX8_lays.data.toList.drop 24 = dktX8_lays_1 := dk_seg dksX8_lays_0 24 rfl rfl
theorem dX8_lays_0 : decode cX8_lays 0 = .ok (.bipush 24, 2) := dk_16 24 (dk_at dksX8_lays_0 0 rfl rfl)
theorem dX8_lays_2 : decode cX8_lays 2 = .ok (.istore_n 2, 1) := dk_61 (dk_at dksX8_lays_0 2 rfl rfl)
theorem dX8_lays_3 : decode cX8_lays 3 = .ok (.iload_n 2, 1) := dk_28 (dk_at dksX8_lays_0 3 rfl rfl)
theorem dX8_lays_4 : decode cX8_lays 4 = .ok (.ifCond .lt 35, 3) := dk_155 0 35 (dk_at dksX8_lays_0 4 rfl rfl)
theorem dX8_lays_7 : decode cX8_lays 7 = .ok (.aload_n 0, 1) := dk_42 (dk_at dksX8_lays_0 7 rfl rfl)
theorem dX8_lays_8 : decode cX8_lays 8 = .ok (.getfield 48, 3) := dk_180 0 48 (dk_at dksX8_lays_0 8 rfl rfl)
theorem dX8_lays_11 : decode cX8_lays 11 = .ok (.aload_n 0, 1) := dk_42 (dk_at dksX8_lays_0 11 rfl rfl)
theorem dX8_lays_12 : decode cX8_lays 12 = .ok (.getfield 176, 3) := dk_180 0 176 (dk_at dksX8_lays_0 12 rfl rfl)
theorem dX8_lays_15 : decode cX8_lays 15 = .ok (.iload_n 1, 1) := dk_27 (dk_at dksX8_lays_0 15 rfl rfl)
theorem dX8_lays_16 : decode cX8_lays 16 = .ok (.iload_n 2, 1) := dk_28 (dk_at dksX8_lays_0 16 rfl rfl)
theorem dX8_lays_17 : decode cX8_lays 17 = .ok (.ishr, 1) := dk_122 (dk_at dksX8_lays_0 17 rfl rfl)
theorem dX8_lays_18 : decode cX8_lays 18 = .ok (.sipush 255, 3) := dk_17 0 255 (dk_at dksX8_lays_0 18 rfl rfl)
theorem dX8_lays_21 : decode cX8_lays 21 = .ok (.iand, 1) := dk_126 (dk_at dksX8_lays_0 21 rfl rfl)
theorem dX8_lays_22 : decode cX8_lays 22 = .ok (.iastore, 1) := dk_79 (dk_at dksX8_lays_0 22 rfl rfl)
theorem dX8_lays_23 : decode cX8_lays 23 = .ok (.aload_n 0, 1) := dk_42 (dk_at dksX8_lays_0 23 rfl rfl)
theorem dX8_lays_24 : decode cX8_lays 24 = .ok (.dup, 1) := dk_89 (dk_at dksX8_lays_1 0 rfl rfl)
theorem dX8_lays_25 : decode cX8_lays 25 = .ok (.getfield 176, 3) := dk_180 0 176 (dk_at dksX8_lays_1 1 rfl rfl)
theorem dX8_lays_28 : decode cX8_lays 28 = .ok (.iconst 1, 1) := dk_4 (dk_at dksX8_lays_1 4 rfl rfl)
theorem dX8_lays_29 : decode cX8_lays 29 = .ok (.iadd, 1) := dk_96 (dk_at dksX8_lays_1 5 rfl rfl)
theorem dX8_lays_30 : decode cX8_lays 30 = .ok (.putfield 176, 3) := dk_181 0 176 (dk_at dksX8_lays_1 6 rfl rfl)
theorem dX8_lays_33 : decode cX8_lays 33 = .ok (.iinc 2 (-8), 3) := dk_132 2 248 (dk_at dksX8_lays_1 9 rfl rfl)
theorem dX8_lays_36 : decode cX8_lays 36 = .ok (.goto (-33), 3) := dk_167 255 223 (dk_at dksX8_lays_1 12 rfl rfl)
theorem dX8_lays_39 : decode cX8_lays 39 = .ok (.return_, 1) := dk_177 (dk_at dksX8_lays_1 15 rfl rfl)
abbrev cX8_text : ByteArray := prog_19_method_36_code
def yX8_text : MethodName := ⟨RX8, "text", "(I)I"⟩
def dkwX8_text_9 : List UInt8 := [172]
abbrev dktX8_text_9 : List UInt8 := dkwX8_text_9 ++ []
def dkwX8_text_8 : List UInt8 := [167, 255, 238, 42, 182, 0, 230, 154, 0, 8, 42, 180, 0, 227, 172, 42, 182, 1, 79, 42, 182, 0, 170, 3]
abbrev dktX8_text_8 : List UInt8 := dkwX8_text_8 ++ dktX8_text_9
def dkwX8_text_7 : List UInt8 := [42, 182, 0, 238, 42, 182, 0, 230, 153, 0, 17, 42, 180, 0, 206, 153, 0, 10, 42, 182, 1, 76]
abbrev dktX8_text_7 : List UInt8 := dkwX8_text_7 ++ dktX8_text_8
def dkwX8_text_6 : List UInt8 := [153, 0, 17, 42, 16, 59, 182, 1, 39, 154, 0, 8, 42, 4, 182, 0, 241, 42, 182, 0, 230, 153, 0, 7]
abbrev dktX8_text_6 : List UInt8 := dkwX8_text_6 ++ dktX8_text_7
def dkwX8_text_5 : List UInt8 := [182, 0, 234, 154, 0, 49, 42, 182, 0, 238, 42, 42, 5, 7, 182, 1, 0, 181, 0, 244, 42, 182, 0, 230]
abbrev dktX8_text_5 : List UInt8 := dkwX8_text_5 ++ dktX8_text_6
def dkwX8_text_4 : List UInt8 := [16, 16, 162, 0, 16, 42, 180, 0, 84, 28, 3, 84, 132, 2, 1, 167, 255, 240, 42, 182, 0, 238, 42]
abbrev dktX8_text_4 : List UInt8 := dkwX8_text_4 ++ dktX8_text_5
def dkwX8_text_3 : List UInt8 := [42, 3, 181, 1, 17, 42, 2, 181, 1, 14, 42, 3, 181, 1, 10, 42, 3, 181, 1, 42, 3, 61, 28]
abbrev dktX8_text_3 : List UInt8 := dkwX8_text_3 ++ dktX8_text_4
def dkwX8_text_2 : List UInt8 := [27, 181, 0, 183, 42, 3, 181, 0, 186, 42, 5, 181, 0, 244, 42, 3, 181, 0, 247, 42, 3, 181, 1, 4]
abbrev dktX8_text_2 : List UInt8 := dkwX8_text_2 ++ dktX8_text_3
def dkwX8_text_1 : List UInt8 := [182, 1, 72, 154, 0, 5, 3, 172, 42, 3, 181, 0, 176, 42, 2, 181, 0, 51, 42, 3, 181, 0, 227, 42]
abbrev dktX8_text_1 : List UInt8 := dkwX8_text_1 ++ dktX8_text_2
def dkwX8_text_0 : List UInt8 := [42, 3, 181, 0, 173, 42, 27, 155, 0, 15, 27, 42, 180, 0, 176, 163, 0, 7, 4, 167, 0, 4, 3, 4]
abbrev dktX8_text_0 : List UInt8 := dkwX8_text_0 ++ dktX8_text_1
theorem dksX8_text_0 : cX8_text.data.toList.drop 0 = dktX8_text_0 := by decide +kernel
theorem dksX8_text_1 : cX8_text.data.toList.drop 24 = dktX8_text_1 := dk_seg dksX8_text_0 24 rfl rfl
theorem dksX8_text_2 : cX8_text.data.toList.drop 48 = dktX8_text_2 := dk_seg dksX8_text_1 24 rfl rfl
theorem dksX8_text_3 : cX8_text.data.toList.drop 72 = dktX8_text_3 := dk_seg dksX8_text_2 24 rfl rfl
theorem dksX8_text_4 : cX8_text.data.toList.drop 95 = dktX8_text_4 := dk_seg dksX8_text_3 23 rfl rfl
theorem dksX8_text_5 : cX8_text.data.toList.drop 118 = dktX8_text_5 := dk_seg dksX8_text_4 23 rfl rfl
theorem dksX8_text_6 : cX8_text.data.toList.drop 142 = dktX8_text_6 := dk_seg dksX8_text_5 24 rfl rfl
theorem dksX8_text_7 : cX8_text.data.toList.drop 166 = dktX8_text_7 := dk_seg dksX8_text_6 24 rfl rfl
theorem dksX8_text_8 : cX8_text.data.toList.drop 188 = dktX8_text_8 := dk_seg dksX8_text_7 22 rfl rfl
theorem dksX8_text_9 : cX8_text.data.toList.drop 212 = dktX8_text_9 := dk_seg dksX8_text_8 24 rfl rfl
theorem dX8_text_0 : decode cX8_text 0 = .ok (.aload_n 0, 1) := dk_42 (dk_at dksX8_text_0 0 rfl rfl)
theorem dX8_text_1 : decode cX8_text 1 = .ok (.iconst 0, 1) := dk_3 (dk_at dksX8_text_0 1 rfl rfl)
theorem dX8_text_2 : decode cX8_text 2 = .ok (.putfield 173, 3) := dk_181 0 173 (dk_at dksX8_text_0 2 rfl rfl)
theorem dX8_text_5 : decode cX8_text 5 = .ok (.aload_n 0, 1) := dk_42 (dk_at dksX8_text_0 5 rfl rfl)
theorem dX8_text_6 : decode cX8_text 6 = .ok (.iload_n 1, 1) := dk_27 (dk_at dksX8_text_0 6 rfl rfl)
theorem dX8_text_7 : decode cX8_text 7 = .ok (.ifCond .lt 15, 3) := dk_155 0 15 (dk_at dksX8_text_0 7 rfl rfl)
theorem dX8_text_10 : decode cX8_text 10 = .ok (.iload_n 1, 1) := dk_27 (dk_at dksX8_text_0 10 rfl rfl)
theorem dX8_text_11 : decode cX8_text 11 = .ok (.aload_n 0, 1) := dk_42 (dk_at dksX8_text_0 11 rfl rfl)
theorem dX8_text_12 : decode cX8_text 12 = .ok (.getfield 176, 3) := dk_180 0 176 (dk_at dksX8_text_0 12 rfl rfl)
theorem dX8_text_15 : decode cX8_text 15 = .ok (.if_icmp .gt 7, 3) := dk_163 0 7 (dk_at dksX8_text_0 15 rfl rfl)
theorem dX8_text_18 : decode cX8_text 18 = .ok (.iconst 1, 1) := dk_4 (dk_at dksX8_text_0 18 rfl rfl)
theorem dX8_text_19 : decode cX8_text 19 = .ok (.goto 4, 3) := dk_167 0 4 (dk_at dksX8_text_0 19 rfl rfl)
theorem dX8_text_22 : decode cX8_text 22 = .ok (.iconst 0, 1) := dk_3 (dk_at dksX8_text_0 22 rfl rfl)
theorem dX8_text_23 : decode cX8_text 23 = .ok (.iconst 1, 1) := dk_4 (dk_at dksX8_text_0 23 rfl rfl)
theorem dX8_text_24 : decode cX8_text 24 = .ok (.invokevirtual 328, 3) := dk_182 1 72 (dk_at dksX8_text_1 0 rfl rfl)
theorem dX8_text_27 : decode cX8_text 27 = .ok (.ifCond .ne 5, 3) := dk_154 0 5 (dk_at dksX8_text_1 3 rfl rfl)
theorem dX8_text_30 : decode cX8_text 30 = .ok (.iconst 0, 1) := dk_3 (dk_at dksX8_text_1 6 rfl rfl)
theorem dX8_text_31 : decode cX8_text 31 = .ok (.ireturn, 1) := dk_172 (dk_at dksX8_text_1 7 rfl rfl)
theorem dX8_text_32 : decode cX8_text 32 = .ok (.aload_n 0, 1) := dk_42 (dk_at dksX8_text_1 8 rfl rfl)
theorem dX8_text_33 : decode cX8_text 33 = .ok (.iconst 0, 1) := dk_3 (dk_at dksX8_text_1 9 rfl rfl)
theorem dX8_text_34 : decode cX8_text 34 = .ok (.putfield 176, 3) := dk_181 0 176 (dk_at dksX8_text_1 10 rfl rfl)
theorem dX8_text_37 : decode cX8_text 37 = .ok (.aload_n 0, 1) := dk_42 (dk_at dksX8_text_1 13 rfl rfl)
theorem dX8_text_38 : decode cX8_text 38 = .ok (.iconst (-1), 1) := dk_2 (dk_at dksX8_text_1 14 rfl rfl)
theorem dX8_text_39 : decode cX8_text 39 = .ok (.putfield 51, 3) := dk_181 0 51 (dk_at dksX8_text_1 15 rfl rfl)
theorem dX8_text_42 : decode cX8_text 42 = .ok (.aload_n 0, 1) := dk_42 (dk_at dksX8_text_1 18 rfl rfl)
theorem dX8_text_43 : decode cX8_text 43 = .ok (.iconst 0, 1) := dk_3 (dk_at dksX8_text_1 19 rfl rfl)
theorem dX8_text_44 : decode cX8_text 44 = .ok (.putfield 227, 3) := dk_181 0 227 (dk_at dksX8_text_1 20 rfl rfl)
theorem dX8_text_47 : decode cX8_text 47 = .ok (.aload_n 0, 1) := dk_42 (dk_at dksX8_text_1 23 rfl rfl)
theorem dX8_text_48 : decode cX8_text 48 = .ok (.iload_n 1, 1) := dk_27 (dk_at dksX8_text_2 0 rfl rfl)
theorem dX8_text_49 : decode cX8_text 49 = .ok (.putfield 183, 3) := dk_181 0 183 (dk_at dksX8_text_2 1 rfl rfl)
theorem dX8_text_52 : decode cX8_text 52 = .ok (.aload_n 0, 1) := dk_42 (dk_at dksX8_text_2 4 rfl rfl)
theorem dX8_text_53 : decode cX8_text 53 = .ok (.iconst 0, 1) := dk_3 (dk_at dksX8_text_2 5 rfl rfl)
theorem dX8_text_54 : decode cX8_text 54 = .ok (.putfield 186, 3) := dk_181 0 186 (dk_at dksX8_text_2 6 rfl rfl)
theorem dX8_text_57 : decode cX8_text 57 = .ok (.aload_n 0, 1) := dk_42 (dk_at dksX8_text_2 9 rfl rfl)
theorem dX8_text_58 : decode cX8_text 58 = .ok (.iconst 2, 1) := dk_5 (dk_at dksX8_text_2 10 rfl rfl)
theorem dX8_text_59 : decode cX8_text 59 = .ok (.putfield 244, 3) := dk_181 0 244 (dk_at dksX8_text_2 11 rfl rfl)
theorem dX8_text_62 : decode cX8_text 62 = .ok (.aload_n 0, 1) := dk_42 (dk_at dksX8_text_2 14 rfl rfl)
theorem dX8_text_63 : decode cX8_text 63 = .ok (.iconst 0, 1) := dk_3 (dk_at dksX8_text_2 15 rfl rfl)
theorem dX8_text_64 : decode cX8_text 64 = .ok (.putfield 247, 3) := dk_181 0 247 (dk_at dksX8_text_2 16 rfl rfl)
theorem dX8_text_67 : decode cX8_text 67 = .ok (.aload_n 0, 1) := dk_42 (dk_at dksX8_text_2 19 rfl rfl)
theorem dX8_text_68 : decode cX8_text 68 = .ok (.iconst 0, 1) := dk_3 (dk_at dksX8_text_2 20 rfl rfl)
theorem dX8_text_69 : decode cX8_text 69 = .ok (.putfield 260, 3) := dk_181 1 4 (dk_at dksX8_text_2 21 rfl rfl)
theorem dX8_text_72 : decode cX8_text 72 = .ok (.aload_n 0, 1) := dk_42 (dk_at dksX8_text_3 0 rfl rfl)
theorem dX8_text_73 : decode cX8_text 73 = .ok (.iconst 0, 1) := dk_3 (dk_at dksX8_text_3 1 rfl rfl)
theorem dX8_text_74 : decode cX8_text 74 = .ok (.putfield 273, 3) := dk_181 1 17 (dk_at dksX8_text_3 2 rfl rfl)
theorem dX8_text_77 : decode cX8_text 77 = .ok (.aload_n 0, 1) := dk_42 (dk_at dksX8_text_3 5 rfl rfl)
theorem dX8_text_78 : decode cX8_text 78 = .ok (.iconst (-1), 1) := dk_2 (dk_at dksX8_text_3 6 rfl rfl)
theorem dX8_text_79 : decode cX8_text 79 = .ok (.putfield 270, 3) := dk_181 1 14 (dk_at dksX8_text_3 7 rfl rfl)
theorem dX8_text_82 : decode cX8_text 82 = .ok (.aload_n 0, 1) := dk_42 (dk_at dksX8_text_3 10 rfl rfl)
theorem dX8_text_83 : decode cX8_text 83 = .ok (.iconst 0, 1) := dk_3 (dk_at dksX8_text_3 11 rfl rfl)
theorem dX8_text_84 : decode cX8_text 84 = .ok (.putfield 266, 3) := dk_181 1 10 (dk_at dksX8_text_3 12 rfl rfl)
theorem dX8_text_87 : decode cX8_text 87 = .ok (.aload_n 0, 1) := dk_42 (dk_at dksX8_text_3 15 rfl rfl)
theorem dX8_text_88 : decode cX8_text 88 = .ok (.iconst 0, 1) := dk_3 (dk_at dksX8_text_3 16 rfl rfl)
theorem dX8_text_89 : decode cX8_text 89 = .ok (.putfield 298, 3) := dk_181 1 42 (dk_at dksX8_text_3 17 rfl rfl)
theorem dX8_text_92 : decode cX8_text 92 = .ok (.iconst 0, 1) := dk_3 (dk_at dksX8_text_3 20 rfl rfl)
theorem dX8_text_93 : decode cX8_text 93 = .ok (.istore_n 2, 1) := dk_61 (dk_at dksX8_text_3 21 rfl rfl)
theorem dX8_text_94 : decode cX8_text 94 = .ok (.iload_n 2, 1) := dk_28 (dk_at dksX8_text_3 22 rfl rfl)
theorem dX8_text_95 : decode cX8_text 95 = .ok (.bipush 16, 2) := dk_16 16 (dk_at dksX8_text_4 0 rfl rfl)
theorem dX8_text_97 : decode cX8_text 97 = .ok (.if_icmp .ge 16, 3) := dk_162 0 16 (dk_at dksX8_text_4 2 rfl rfl)
theorem dX8_text_100 : decode cX8_text 100 = .ok (.aload_n 0, 1) := dk_42 (dk_at dksX8_text_4 5 rfl rfl)
theorem dX8_text_101 : decode cX8_text 101 = .ok (.getfield 84, 3) := dk_180 0 84 (dk_at dksX8_text_4 6 rfl rfl)
theorem dX8_text_104 : decode cX8_text 104 = .ok (.iload_n 2, 1) := dk_28 (dk_at dksX8_text_4 9 rfl rfl)
theorem dX8_text_105 : decode cX8_text 105 = .ok (.iconst 0, 1) := dk_3 (dk_at dksX8_text_4 10 rfl rfl)
theorem dX8_text_106 : decode cX8_text 106 = .ok (.bastore, 1) := dk_84 (dk_at dksX8_text_4 11 rfl rfl)
theorem dX8_text_107 : decode cX8_text 107 = .ok (.iinc 2 1, 3) := dk_132 2 1 (dk_at dksX8_text_4 12 rfl rfl)
theorem dX8_text_110 : decode cX8_text 110 = .ok (.goto (-16), 3) := dk_167 255 240 (dk_at dksX8_text_4 15 rfl rfl)
theorem dX8_text_113 : decode cX8_text 113 = .ok (.aload_n 0, 1) := dk_42 (dk_at dksX8_text_4 18 rfl rfl)
theorem dX8_text_114 : decode cX8_text 114 = .ok (.invokevirtual 238, 3) := dk_182 0 238 (dk_at dksX8_text_4 19 rfl rfl)
theorem dX8_text_117 : decode cX8_text 117 = .ok (.aload_n 0, 1) := dk_42 (dk_at dksX8_text_4 22 rfl rfl)
theorem dX8_text_118 : decode cX8_text 118 = .ok (.invokevirtual 234, 3) := dk_182 0 234 (dk_at dksX8_text_5 0 rfl rfl)
theorem dX8_text_121 : decode cX8_text 121 = .ok (.ifCond .ne 49, 3) := dk_154 0 49 (dk_at dksX8_text_5 3 rfl rfl)
theorem dX8_text_124 : decode cX8_text 124 = .ok (.aload_n 0, 1) := dk_42 (dk_at dksX8_text_5 6 rfl rfl)
theorem dX8_text_125 : decode cX8_text 125 = .ok (.invokevirtual 238, 3) := dk_182 0 238 (dk_at dksX8_text_5 7 rfl rfl)
theorem dX8_text_128 : decode cX8_text 128 = .ok (.aload_n 0, 1) := dk_42 (dk_at dksX8_text_5 10 rfl rfl)
theorem dX8_text_129 : decode cX8_text 129 = .ok (.aload_n 0, 1) := dk_42 (dk_at dksX8_text_5 11 rfl rfl)
theorem dX8_text_130 : decode cX8_text 130 = .ok (.iconst 2, 1) := dk_5 (dk_at dksX8_text_5 12 rfl rfl)
theorem dX8_text_131 : decode cX8_text 131 = .ok (.iconst 4, 1) := dk_7 (dk_at dksX8_text_5 13 rfl rfl)
theorem dX8_text_132 : decode cX8_text 132 = .ok (.invokevirtual 256, 3) := dk_182 1 0 (dk_at dksX8_text_5 14 rfl rfl)
theorem dX8_text_135 : decode cX8_text 135 = .ok (.putfield 244, 3) := dk_181 0 244 (dk_at dksX8_text_5 17 rfl rfl)
theorem dX8_text_138 : decode cX8_text 138 = .ok (.aload_n 0, 1) := dk_42 (dk_at dksX8_text_5 20 rfl rfl)
theorem dX8_text_139 : decode cX8_text 139 = .ok (.invokevirtual 230, 3) := dk_182 0 230 (dk_at dksX8_text_5 21 rfl rfl)
theorem dX8_text_142 : decode cX8_text 142 = .ok (.ifCond .eq 17, 3) := dk_153 0 17 (dk_at dksX8_text_6 0 rfl rfl)
theorem dX8_text_145 : decode cX8_text 145 = .ok (.aload_n 0, 1) := dk_42 (dk_at dksX8_text_6 3 rfl rfl)
theorem dX8_text_146 : decode cX8_text 146 = .ok (.bipush 59, 2) := dk_16 59 (dk_at dksX8_text_6 4 rfl rfl)
theorem dX8_text_148 : decode cX8_text 148 = .ok (.invokevirtual 295, 3) := dk_182 1 39 (dk_at dksX8_text_6 6 rfl rfl)
theorem dX8_text_151 : decode cX8_text 151 = .ok (.ifCond .ne 8, 3) := dk_154 0 8 (dk_at dksX8_text_6 9 rfl rfl)
theorem dX8_text_154 : decode cX8_text 154 = .ok (.aload_n 0, 1) := dk_42 (dk_at dksX8_text_6 12 rfl rfl)
theorem dX8_text_155 : decode cX8_text 155 = .ok (.iconst 1, 1) := dk_4 (dk_at dksX8_text_6 13 rfl rfl)
theorem dX8_text_156 : decode cX8_text 156 = .ok (.invokevirtual 241, 3) := dk_182 0 241 (dk_at dksX8_text_6 14 rfl rfl)
theorem dX8_text_159 : decode cX8_text 159 = .ok (.aload_n 0, 1) := dk_42 (dk_at dksX8_text_6 17 rfl rfl)
theorem dX8_text_160 : decode cX8_text 160 = .ok (.invokevirtual 230, 3) := dk_182 0 230 (dk_at dksX8_text_6 18 rfl rfl)
theorem dX8_text_163 : decode cX8_text 163 = .ok (.ifCond .eq 7, 3) := dk_153 0 7 (dk_at dksX8_text_6 21 rfl rfl)
theorem dX8_text_166 : decode cX8_text 166 = .ok (.aload_n 0, 1) := dk_42 (dk_at dksX8_text_7 0 rfl rfl)
theorem dX8_text_167 : decode cX8_text 167 = .ok (.invokevirtual 238, 3) := dk_182 0 238 (dk_at dksX8_text_7 1 rfl rfl)
theorem dX8_text_170 : decode cX8_text 170 = .ok (.aload_n 0, 1) := dk_42 (dk_at dksX8_text_7 4 rfl rfl)
theorem dX8_text_171 : decode cX8_text 171 = .ok (.invokevirtual 230, 3) := dk_182 0 230 (dk_at dksX8_text_7 5 rfl rfl)
theorem dX8_text_174 : decode cX8_text 174 = .ok (.ifCond .eq 17, 3) := dk_153 0 17 (dk_at dksX8_text_7 8 rfl rfl)
theorem dX8_text_177 : decode cX8_text 177 = .ok (.aload_n 0, 1) := dk_42 (dk_at dksX8_text_7 11 rfl rfl)
theorem dX8_text_178 : decode cX8_text 178 = .ok (.getfield 206, 3) := dk_180 0 206 (dk_at dksX8_text_7 12 rfl rfl)
theorem dX8_text_181 : decode cX8_text 181 = .ok (.ifCond .eq 10, 3) := dk_153 0 10 (dk_at dksX8_text_7 15 rfl rfl)
theorem dX8_text_184 : decode cX8_text 184 = .ok (.aload_n 0, 1) := dk_42 (dk_at dksX8_text_7 18 rfl rfl)
theorem dX8_text_185 : decode cX8_text 185 = .ok (.invokevirtual 332, 3) := dk_182 1 76 (dk_at dksX8_text_7 19 rfl rfl)
theorem dX8_text_188 : decode cX8_text 188 = .ok (.goto (-18), 3) := dk_167 255 238 (dk_at dksX8_text_8 0 rfl rfl)
theorem dX8_text_191 : decode cX8_text 191 = .ok (.aload_n 0, 1) := dk_42 (dk_at dksX8_text_8 3 rfl rfl)
theorem dX8_text_192 : decode cX8_text 192 = .ok (.invokevirtual 230, 3) := dk_182 0 230 (dk_at dksX8_text_8 4 rfl rfl)
theorem dX8_text_195 : decode cX8_text 195 = .ok (.ifCond .ne 8, 3) := dk_154 0 8 (dk_at dksX8_text_8 7 rfl rfl)
theorem dX8_text_198 : decode cX8_text 198 = .ok (.aload_n 0, 1) := dk_42 (dk_at dksX8_text_8 10 rfl rfl)
theorem dX8_text_199 : decode cX8_text 199 = .ok (.getfield 227, 3) := dk_180 0 227 (dk_at dksX8_text_8 11 rfl rfl)
theorem dX8_text_202 : decode cX8_text 202 = .ok (.ireturn, 1) := dk_172 (dk_at dksX8_text_8 14 rfl rfl)
theorem dX8_text_203 : decode cX8_text 203 = .ok (.aload_n 0, 1) := dk_42 (dk_at dksX8_text_8 15 rfl rfl)
theorem dX8_text_204 : decode cX8_text 204 = .ok (.invokevirtual 335, 3) := dk_182 1 79 (dk_at dksX8_text_8 16 rfl rfl)
theorem dX8_text_207 : decode cX8_text 207 = .ok (.aload_n 0, 1) := dk_42 (dk_at dksX8_text_8 19 rfl rfl)
theorem dX8_text_208 : decode cX8_text 208 = .ok (.invokevirtual 170, 3) := dk_182 0 170 (dk_at dksX8_text_8 20 rfl rfl)
theorem dX8_text_211 : decode cX8_text 211 = .ok (.iconst 0, 1) := dk_3 (dk_at dksX8_text_8 23 rfl rfl)
theorem dX8_text_212 : decode cX8_text 212 = .ok (.ireturn, 1) := dk_172 (dk_at dksX8_text_9 0 rfl rfl)
abbrev cX8_right : ByteArray := prog_19_method_3_code
def yX8_right : MethodName := ⟨RX8, "right", "(ZI)Z"⟩
def dkwX8_right_1 : List UInt8 := [167, 0, 4, 3, 172]
abbrev dktX8_right_1 : List UInt8 := dkwX8_right_1 ++ []
def dkwX8_right_0 : List UInt8 := [42, 180, 0, 173, 154, 0, 12, 27, 154, 0, 8, 42, 28, 181, 0, 173, 42, 180, 0, 173, 154, 0, 7, 4]
abbrev dktX8_right_0 : List UInt8 := dkwX8_right_0 ++ dktX8_right_1
theorem dksX8_right_0 : cX8_right.data.toList.drop 0 = dktX8_right_0 := by decide +kernel
theorem dksX8_right_1 : cX8_right.data.toList.drop 24 = dktX8_right_1 := dk_seg dksX8_right_0 24 rfl rfl
theorem dX8_right_0 : decode cX8_right 0 = .ok (.aload_n 0, 1) := dk_42 (dk_at dksX8_right_0 0 rfl rfl)
theorem dX8_right_1 : decode cX8_right 1 = .ok (.getfield 173, 3) := dk_180 0 173 (dk_at dksX8_right_0 1 rfl rfl)
theorem dX8_right_4 : decode cX8_right 4 = .ok (.ifCond .ne 12, 3) := dk_154 0 12 (dk_at dksX8_right_0 4 rfl rfl)
theorem dX8_right_7 : decode cX8_right 7 = .ok (.iload_n 1, 1) := dk_27 (dk_at dksX8_right_0 7 rfl rfl)
theorem dX8_right_8 : decode cX8_right 8 = .ok (.ifCond .ne 8, 3) := dk_154 0 8 (dk_at dksX8_right_0 8 rfl rfl)
theorem dX8_right_11 : decode cX8_right 11 = .ok (.aload_n 0, 1) := dk_42 (dk_at dksX8_right_0 11 rfl rfl)
theorem dX8_right_12 : decode cX8_right 12 = .ok (.iload_n 2, 1) := dk_28 (dk_at dksX8_right_0 12 rfl rfl)
theorem dX8_right_13 : decode cX8_right 13 = .ok (.putfield 173, 3) := dk_181 0 173 (dk_at dksX8_right_0 13 rfl rfl)
theorem dX8_right_16 : decode cX8_right 16 = .ok (.aload_n 0, 1) := dk_42 (dk_at dksX8_right_0 16 rfl rfl)
theorem dX8_right_17 : decode cX8_right 17 = .ok (.getfield 173, 3) := dk_180 0 173 (dk_at dksX8_right_0 17 rfl rfl)
theorem dX8_right_20 : decode cX8_right 20 = .ok (.ifCond .ne 7, 3) := dk_154 0 7 (dk_at dksX8_right_0 20 rfl rfl)
theorem dX8_right_23 : decode cX8_right 23 = .ok (.iconst 1, 1) := dk_4 (dk_at dksX8_right_0 23 rfl rfl)
theorem dX8_right_24 : decode cX8_right 24 = .ok (.goto 4, 3) := dk_167 0 4 (dk_at dksX8_right_1 0 rfl rfl)
theorem dX8_right_27 : decode cX8_right 27 = .ok (.iconst 0, 1) := dk_3 (dk_at dksX8_right_1 3 rfl rfl)
theorem dX8_right_28 : decode cX8_right 28 = .ok (.ireturn, 1) := dk_172 (dk_at dksX8_right_1 4 rfl rfl)
abbrev cX8_goes : ByteArray := prog_19_method_11_code
def yX8_goes : MethodName := ⟨RX8, "goes", "()V"⟩
def dkwX8_goes_14 : List UInt8 := [167, 0, 4, 7, 181, 0, 206, 42, 42, 180, 0, 186, 42, 180, 0, 193, 100, 181, 0, 216, 177]
abbrev dktX8_goes_14 : List UInt8 := dkwX8_goes_14 ++ []
def dkwX8_goes_13 : List UInt8 := [16, 42, 159, 0, 21, 27, 16, 47, 159, 0, 15, 27, 16, 60, 159, 0, 9, 27, 16, 61, 160, 0, 7, 6]
abbrev dktX8_goes_13 : List UInt8 := dkwX8_goes_13 ++ dktX8_goes_14
def dkwX8_goes_12 : List UInt8 := [16, 40, 159, 0, 45, 27, 16, 41, 159, 0, 39, 27, 16, 43, 159, 0, 33, 27, 16, 45, 159, 0, 27, 27]
abbrev dktX8_goes_12 : List UInt8 := dkwX8_goes_12 ++ dktX8_goes_13
def dkwX8_goes_11 : List UInt8 := [181, 0, 206, 167, 0, 76, 42, 89, 180, 0, 186, 4, 96, 181, 0, 186, 42, 27, 16, 59, 159, 0, 51, 27]
abbrev dktX8_goes_11 : List UInt8 := dkwX8_goes_11 ++ dktX8_goes_12
def dkwX8_goes_10 : List UInt8 := [96, 16, 48, 100, 181, 0, 200, 42, 89, 180, 0, 186, 4, 96, 181, 0, 186, 167, 255, 196, 42, 5]
abbrev dktX8_goes_10 : List UInt8 := dkwX8_goes_10 ++ dktX8_goes_11
def dkwX8_goes_9 : List UInt8 := [180, 0, 193, 100, 6, 162, 0, 26, 42, 16, 10, 42, 180, 0, 200, 104, 42, 42, 180, 0, 186, 182, 0, 189]
abbrev dktX8_goes_9 : List UInt8 := dkwX8_goes_9 ++ dktX8_goes_10
def dkwX8_goes_8 : List UInt8 := [153, 0, 74, 42, 42, 180, 0, 186, 182, 0, 189, 184, 0, 213, 153, 0, 52, 42, 180, 0, 186, 42]
abbrev dktX8_goes_8 : List UInt8 := dkwX8_goes_8 ++ dktX8_goes_9
def dkwX8_goes_7 : List UInt8 := [180, 0, 186, 4, 96, 181, 0, 186, 167, 255, 195, 42, 4, 181, 0, 206, 167, 0, 154, 27, 184, 0, 213]
abbrev dktX8_goes_7 : List UInt8 := dkwX8_goes_7 ++ dktX8_goes_8
def dkwX8_goes_6 : List UInt8 := [180, 0, 196, 8, 121, 42, 42, 180, 0, 186, 182, 0, 189, 16, 96, 100, 133, 129, 181, 0, 196, 42, 89]
abbrev dktX8_goes_6 : List UInt8 := dkwX8_goes_6 ++ dktX8_goes_7
def dkwX8_goes_5 : List UInt8 := [184, 0, 209, 153, 0, 53, 42, 180, 0, 186, 42, 180, 0, 193, 100, 16, 7, 162, 0, 26, 42, 42]
abbrev dktX8_goes_5 : List UInt8 := dkwX8_goes_5 ++ dktX8_goes_6
def dkwX8_goes_4 : List UInt8 := [3, 181, 0, 206, 167, 0, 233, 27, 184, 0, 209, 153, 0, 75, 42, 42, 180, 0, 186, 182, 0, 189]
abbrev dktX8_goes_4 : List UInt8 := dkwX8_goes_4 ++ dktX8_goes_5
def dkwX8_goes_3 : List UInt8 := [180, 0, 186, 182, 0, 189, 60, 42, 27, 181, 0, 203, 42, 180, 0, 186, 42, 180, 0, 183, 161, 0, 11, 42]
abbrev dktX8_goes_3 : List UInt8 := dkwX8_goes_3 ++ dktX8_goes_4
def dkwX8_goes_2 : List UInt8 := [167, 255, 209, 42, 42, 180, 0, 186, 181, 0, 193, 42, 9, 181, 0, 196, 42, 3, 181, 0, 200, 42, 42]
abbrev dktX8_goes_2 : List UInt8 := dkwX8_goes_2 ++ dktX8_goes_3
def dkwX8_goes_1 : List UInt8 := [42, 42, 180, 0, 186, 182, 0, 189, 16, 10, 160, 0, 16, 42, 89, 180, 0, 186, 4, 96, 181, 0, 186]
abbrev dktX8_goes_1 : List UInt8 := dkwX8_goes_1 ++ dktX8_goes_2
def dkwX8_goes_0 : List UInt8 := [42, 180, 0, 186, 42, 180, 0, 183, 162, 0, 42, 42, 42, 180, 0, 186, 182, 0, 189, 16, 32, 159, 0, 16]
abbrev dktX8_goes_0 : List UInt8 := dkwX8_goes_0 ++ dktX8_goes_1
theorem dksX8_goes_0 : cX8_goes.data.toList.drop 0 = dktX8_goes_0 := by decide +kernel
theorem dksX8_goes_1 : cX8_goes.data.toList.drop 24 = dktX8_goes_1 := dk_seg dksX8_goes_0 24 rfl rfl
theorem dksX8_goes_2 : cX8_goes.data.toList.drop 47 = dktX8_goes_2 := dk_seg dksX8_goes_1 23 rfl rfl
theorem dksX8_goes_3 : cX8_goes.data.toList.drop 70 = dktX8_goes_3 := dk_seg dksX8_goes_2 23 rfl rfl
theorem dksX8_goes_4 : cX8_goes.data.toList.drop 94 = dktX8_goes_4 := dk_seg dksX8_goes_3 24 rfl rfl
theorem dksX8_goes_5 : cX8_goes.data.toList.drop 116 = dktX8_goes_5 := dk_seg dksX8_goes_4 22 rfl rfl
theorem dksX8_goes_6 : cX8_goes.data.toList.drop 138 = dktX8_goes_6 := dk_seg dksX8_goes_5 22 rfl rfl
theorem dksX8_goes_7 : cX8_goes.data.toList.drop 161 = dktX8_goes_7 := dk_seg dksX8_goes_6 23 rfl rfl
theorem dksX8_goes_8 : cX8_goes.data.toList.drop 184 = dktX8_goes_8 := dk_seg dksX8_goes_7 23 rfl rfl
theorem dksX8_goes_9 : cX8_goes.data.toList.drop 206 = dktX8_goes_9 := dk_seg dksX8_goes_8 22 rfl rfl
theorem dksX8_goes_10 : cX8_goes.data.toList.drop 230 = dktX8_goes_10 := dk_seg dksX8_goes_9 24 rfl rfl
theorem dksX8_goes_11 : cX8_goes.data.toList.drop 252 = dktX8_goes_11 := dk_seg dksX8_goes_10 22 rfl rfl
theorem dksX8_goes_12 : cX8_goes.data.toList.drop 276 = dktX8_goes_12 := dk_seg dksX8_goes_11 24 rfl rfl
theorem dksX8_goes_13 : cX8_goes.data.toList.drop 300 = dktX8_goes_13 := dk_seg dksX8_goes_12 24 rfl rfl
theorem dksX8_goes_14 : cX8_goes.data.toList.drop 324 = dktX8_goes_14 := dk_seg dksX8_goes_13 24 rfl rfl
theorem dX8_goes_0 : decode cX8_goes 0 = .ok (.aload_n 0, 1) := dk_42 (dk_at dksX8_goes_0 0 rfl rfl)
theorem dX8_goes_1 : decode cX8_goes 1 = .ok (.getfield 186, 3) := dk_180 0 186 (dk_at dksX8_goes_0 1 rfl rfl)
theorem dX8_goes_4 : decode cX8_goes 4 = .ok (.aload_n 0, 1) := dk_42 (dk_at dksX8_goes_0 4 rfl rfl)
theorem dX8_goes_5 : decode cX8_goes 5 = .ok (.getfield 183, 3) := dk_180 0 183 (dk_at dksX8_goes_0 5 rfl rfl)
theorem dX8_goes_8 : decode cX8_goes 8 = .ok (.if_icmp .ge 42, 3) := dk_162 0 42 (dk_at dksX8_goes_0 8 rfl rfl)
theorem dX8_goes_11 : decode cX8_goes 11 = .ok (.aload_n 0, 1) := dk_42 (dk_at dksX8_goes_0 11 rfl rfl)
theorem dX8_goes_12 : decode cX8_goes 12 = .ok (.aload_n 0, 1) := dk_42 (dk_at dksX8_goes_0 12 rfl rfl)
theorem dX8_goes_13 : decode cX8_goes 13 = .ok (.getfield 186, 3) := dk_180 0 186 (dk_at dksX8_goes_0 13 rfl rfl)
theorem dX8_goes_16 : decode cX8_goes 16 = .ok (.invokevirtual 189, 3) := dk_182 0 189 (dk_at dksX8_goes_0 16 rfl rfl)
theorem dX8_goes_19 : decode cX8_goes 19 = .ok (.bipush 32, 2) := dk_16 32 (dk_at dksX8_goes_0 19 rfl rfl)
theorem dX8_goes_21 : decode cX8_goes 21 = .ok (.if_icmp .eq 16, 3) := dk_159 0 16 (dk_at dksX8_goes_0 21 rfl rfl)
theorem dX8_goes_24 : decode cX8_goes 24 = .ok (.aload_n 0, 1) := dk_42 (dk_at dksX8_goes_1 0 rfl rfl)
theorem dX8_goes_25 : decode cX8_goes 25 = .ok (.aload_n 0, 1) := dk_42 (dk_at dksX8_goes_1 1 rfl rfl)
theorem dX8_goes_26 : decode cX8_goes 26 = .ok (.getfield 186, 3) := dk_180 0 186 (dk_at dksX8_goes_1 2 rfl rfl)
theorem dX8_goes_29 : decode cX8_goes 29 = .ok (.invokevirtual 189, 3) := dk_182 0 189 (dk_at dksX8_goes_1 5 rfl rfl)
theorem dX8_goes_32 : decode cX8_goes 32 = .ok (.bipush 10, 2) := dk_16 10 (dk_at dksX8_goes_1 8 rfl rfl)
theorem dX8_goes_34 : decode cX8_goes 34 = .ok (.if_icmp .ne 16, 3) := dk_160 0 16 (dk_at dksX8_goes_1 10 rfl rfl)
theorem dX8_goes_37 : decode cX8_goes 37 = .ok (.aload_n 0, 1) := dk_42 (dk_at dksX8_goes_1 13 rfl rfl)
theorem dX8_goes_38 : decode cX8_goes 38 = .ok (.dup, 1) := dk_89 (dk_at dksX8_goes_1 14 rfl rfl)
theorem dX8_goes_39 : decode cX8_goes 39 = .ok (.getfield 186, 3) := dk_180 0 186 (dk_at dksX8_goes_1 15 rfl rfl)
theorem dX8_goes_42 : decode cX8_goes 42 = .ok (.iconst 1, 1) := dk_4 (dk_at dksX8_goes_1 18 rfl rfl)
theorem dX8_goes_43 : decode cX8_goes 43 = .ok (.iadd, 1) := dk_96 (dk_at dksX8_goes_1 19 rfl rfl)
theorem dX8_goes_44 : decode cX8_goes 44 = .ok (.putfield 186, 3) := dk_181 0 186 (dk_at dksX8_goes_1 20 rfl rfl)
theorem dX8_goes_47 : decode cX8_goes 47 = .ok (.goto (-47), 3) := dk_167 255 209 (dk_at dksX8_goes_2 0 rfl rfl)
theorem dX8_goes_50 : decode cX8_goes 50 = .ok (.aload_n 0, 1) := dk_42 (dk_at dksX8_goes_2 3 rfl rfl)
theorem dX8_goes_51 : decode cX8_goes 51 = .ok (.aload_n 0, 1) := dk_42 (dk_at dksX8_goes_2 4 rfl rfl)
theorem dX8_goes_52 : decode cX8_goes 52 = .ok (.getfield 186, 3) := dk_180 0 186 (dk_at dksX8_goes_2 5 rfl rfl)
theorem dX8_goes_55 : decode cX8_goes 55 = .ok (.putfield 193, 3) := dk_181 0 193 (dk_at dksX8_goes_2 8 rfl rfl)
theorem dX8_goes_58 : decode cX8_goes 58 = .ok (.aload_n 0, 1) := dk_42 (dk_at dksX8_goes_2 11 rfl rfl)
theorem dX8_goes_59 : decode cX8_goes 59 = .ok (.lconst 0, 1) := dk_9 (dk_at dksX8_goes_2 12 rfl rfl)
theorem dX8_goes_60 : decode cX8_goes 60 = .ok (.putfield 196, 3) := dk_181 0 196 (dk_at dksX8_goes_2 13 rfl rfl)
theorem dX8_goes_63 : decode cX8_goes 63 = .ok (.aload_n 0, 1) := dk_42 (dk_at dksX8_goes_2 16 rfl rfl)
theorem dX8_goes_64 : decode cX8_goes 64 = .ok (.iconst 0, 1) := dk_3 (dk_at dksX8_goes_2 17 rfl rfl)
theorem dX8_goes_65 : decode cX8_goes 65 = .ok (.putfield 200, 3) := dk_181 0 200 (dk_at dksX8_goes_2 18 rfl rfl)
theorem dX8_goes_68 : decode cX8_goes 68 = .ok (.aload_n 0, 1) := dk_42 (dk_at dksX8_goes_2 21 rfl rfl)
theorem dX8_goes_69 : decode cX8_goes 69 = .ok (.aload_n 0, 1) := dk_42 (dk_at dksX8_goes_2 22 rfl rfl)
theorem dX8_goes_70 : decode cX8_goes 70 = .ok (.getfield 186, 3) := dk_180 0 186 (dk_at dksX8_goes_3 0 rfl rfl)
theorem dX8_goes_73 : decode cX8_goes 73 = .ok (.invokevirtual 189, 3) := dk_182 0 189 (dk_at dksX8_goes_3 3 rfl rfl)
theorem dX8_goes_76 : decode cX8_goes 76 = .ok (.istore_n 1, 1) := dk_60 (dk_at dksX8_goes_3 6 rfl rfl)
theorem dX8_goes_77 : decode cX8_goes 77 = .ok (.aload_n 0, 1) := dk_42 (dk_at dksX8_goes_3 7 rfl rfl)
theorem dX8_goes_78 : decode cX8_goes 78 = .ok (.iload_n 1, 1) := dk_27 (dk_at dksX8_goes_3 8 rfl rfl)
theorem dX8_goes_79 : decode cX8_goes 79 = .ok (.putfield 203, 3) := dk_181 0 203 (dk_at dksX8_goes_3 9 rfl rfl)
theorem dX8_goes_82 : decode cX8_goes 82 = .ok (.aload_n 0, 1) := dk_42 (dk_at dksX8_goes_3 12 rfl rfl)
theorem dX8_goes_83 : decode cX8_goes 83 = .ok (.getfield 186, 3) := dk_180 0 186 (dk_at dksX8_goes_3 13 rfl rfl)
theorem dX8_goes_86 : decode cX8_goes 86 = .ok (.aload_n 0, 1) := dk_42 (dk_at dksX8_goes_3 16 rfl rfl)
theorem dX8_goes_87 : decode cX8_goes 87 = .ok (.getfield 183, 3) := dk_180 0 183 (dk_at dksX8_goes_3 17 rfl rfl)
theorem dX8_goes_90 : decode cX8_goes 90 = .ok (.if_icmp .lt 11, 3) := dk_161 0 11 (dk_at dksX8_goes_3 20 rfl rfl)
theorem dX8_goes_93 : decode cX8_goes 93 = .ok (.aload_n 0, 1) := dk_42 (dk_at dksX8_goes_3 23 rfl rfl)
theorem dX8_goes_94 : decode cX8_goes 94 = .ok (.iconst 0, 1) := dk_3 (dk_at dksX8_goes_4 0 rfl rfl)
theorem dX8_goes_95 : decode cX8_goes 95 = .ok (.putfield 206, 3) := dk_181 0 206 (dk_at dksX8_goes_4 1 rfl rfl)
theorem dX8_goes_98 : decode cX8_goes 98 = .ok (.goto 233, 3) := dk_167 0 233 (dk_at dksX8_goes_4 4 rfl rfl)
theorem dX8_goes_101 : decode cX8_goes 101 = .ok (.iload_n 1, 1) := dk_27 (dk_at dksX8_goes_4 7 rfl rfl)
theorem dX8_goes_102 : decode cX8_goes 102 = .ok (.invokestatic 209, 3) := dk_184 0 209 (dk_at dksX8_goes_4 8 rfl rfl)
theorem dX8_goes_105 : decode cX8_goes 105 = .ok (.ifCond .eq 75, 3) := dk_153 0 75 (dk_at dksX8_goes_4 11 rfl rfl)
theorem dX8_goes_108 : decode cX8_goes 108 = .ok (.aload_n 0, 1) := dk_42 (dk_at dksX8_goes_4 14 rfl rfl)
theorem dX8_goes_109 : decode cX8_goes 109 = .ok (.aload_n 0, 1) := dk_42 (dk_at dksX8_goes_4 15 rfl rfl)
theorem dX8_goes_110 : decode cX8_goes 110 = .ok (.getfield 186, 3) := dk_180 0 186 (dk_at dksX8_goes_4 16 rfl rfl)
theorem dX8_goes_113 : decode cX8_goes 113 = .ok (.invokevirtual 189, 3) := dk_182 0 189 (dk_at dksX8_goes_4 19 rfl rfl)
theorem dX8_goes_116 : decode cX8_goes 116 = .ok (.invokestatic 209, 3) := dk_184 0 209 (dk_at dksX8_goes_5 0 rfl rfl)
theorem dX8_goes_119 : decode cX8_goes 119 = .ok (.ifCond .eq 53, 3) := dk_153 0 53 (dk_at dksX8_goes_5 3 rfl rfl)
theorem dX8_goes_122 : decode cX8_goes 122 = .ok (.aload_n 0, 1) := dk_42 (dk_at dksX8_goes_5 6 rfl rfl)
theorem dX8_goes_123 : decode cX8_goes 123 = .ok (.getfield 186, 3) := dk_180 0 186 (dk_at dksX8_goes_5 7 rfl rfl)
theorem dX8_goes_126 : decode cX8_goes 126 = .ok (.aload_n 0, 1) := dk_42 (dk_at dksX8_goes_5 10 rfl rfl)
theorem dX8_goes_127 : decode cX8_goes 127 = .ok (.getfield 193, 3) := dk_180 0 193 (dk_at dksX8_goes_5 11 rfl rfl)
theorem dX8_goes_130 : decode cX8_goes 130 = .ok (.isub, 1) := dk_100 (dk_at dksX8_goes_5 14 rfl rfl)
theorem dX8_goes_131 : decode cX8_goes 131 = .ok (.bipush 7, 2) := dk_16 7 (dk_at dksX8_goes_5 15 rfl rfl)
theorem dX8_goes_133 : decode cX8_goes 133 = .ok (.if_icmp .ge 26, 3) := dk_162 0 26 (dk_at dksX8_goes_5 17 rfl rfl)
theorem dX8_goes_136 : decode cX8_goes 136 = .ok (.aload_n 0, 1) := dk_42 (dk_at dksX8_goes_5 20 rfl rfl)
theorem dX8_goes_137 : decode cX8_goes 137 = .ok (.aload_n 0, 1) := dk_42 (dk_at dksX8_goes_5 21 rfl rfl)
theorem dX8_goes_138 : decode cX8_goes 138 = .ok (.getfield 196, 3) := dk_180 0 196 (dk_at dksX8_goes_6 0 rfl rfl)
theorem dX8_goes_141 : decode cX8_goes 141 = .ok (.iconst 5, 1) := dk_8 (dk_at dksX8_goes_6 3 rfl rfl)
theorem dX8_goes_142 : decode cX8_goes 142 = .ok (.lshl, 1) := dk_121 (dk_at dksX8_goes_6 4 rfl rfl)
theorem dX8_goes_143 : decode cX8_goes 143 = .ok (.aload_n 0, 1) := dk_42 (dk_at dksX8_goes_6 5 rfl rfl)
theorem dX8_goes_144 : decode cX8_goes 144 = .ok (.aload_n 0, 1) := dk_42 (dk_at dksX8_goes_6 6 rfl rfl)
theorem dX8_goes_145 : decode cX8_goes 145 = .ok (.getfield 186, 3) := dk_180 0 186 (dk_at dksX8_goes_6 7 rfl rfl)
theorem dX8_goes_148 : decode cX8_goes 148 = .ok (.invokevirtual 189, 3) := dk_182 0 189 (dk_at dksX8_goes_6 10 rfl rfl)
theorem dX8_goes_151 : decode cX8_goes 151 = .ok (.bipush 96, 2) := dk_16 96 (dk_at dksX8_goes_6 13 rfl rfl)
theorem dX8_goes_153 : decode cX8_goes 153 = .ok (.isub, 1) := dk_100 (dk_at dksX8_goes_6 15 rfl rfl)
theorem dX8_goes_154 : decode cX8_goes 154 = .ok (.i2l, 1) := dk_133 (dk_at dksX8_goes_6 16 rfl rfl)
theorem dX8_goes_155 : decode cX8_goes 155 = .ok (.lor, 1) := dk_129 (dk_at dksX8_goes_6 17 rfl rfl)
theorem dX8_goes_156 : decode cX8_goes 156 = .ok (.putfield 196, 3) := dk_181 0 196 (dk_at dksX8_goes_6 18 rfl rfl)
theorem dX8_goes_159 : decode cX8_goes 159 = .ok (.aload_n 0, 1) := dk_42 (dk_at dksX8_goes_6 21 rfl rfl)
theorem dX8_goes_160 : decode cX8_goes 160 = .ok (.dup, 1) := dk_89 (dk_at dksX8_goes_6 22 rfl rfl)
theorem dX8_goes_161 : decode cX8_goes 161 = .ok (.getfield 186, 3) := dk_180 0 186 (dk_at dksX8_goes_7 0 rfl rfl)
theorem dX8_goes_164 : decode cX8_goes 164 = .ok (.iconst 1, 1) := dk_4 (dk_at dksX8_goes_7 3 rfl rfl)
theorem dX8_goes_165 : decode cX8_goes 165 = .ok (.iadd, 1) := dk_96 (dk_at dksX8_goes_7 4 rfl rfl)
theorem dX8_goes_166 : decode cX8_goes 166 = .ok (.putfield 186, 3) := dk_181 0 186 (dk_at dksX8_goes_7 5 rfl rfl)
theorem dX8_goes_169 : decode cX8_goes 169 = .ok (.goto (-61), 3) := dk_167 255 195 (dk_at dksX8_goes_7 8 rfl rfl)
theorem dX8_goes_172 : decode cX8_goes 172 = .ok (.aload_n 0, 1) := dk_42 (dk_at dksX8_goes_7 11 rfl rfl)
theorem dX8_goes_173 : decode cX8_goes 173 = .ok (.iconst 1, 1) := dk_4 (dk_at dksX8_goes_7 12 rfl rfl)
theorem dX8_goes_174 : decode cX8_goes 174 = .ok (.putfield 206, 3) := dk_181 0 206 (dk_at dksX8_goes_7 13 rfl rfl)
theorem dX8_goes_177 : decode cX8_goes 177 = .ok (.goto 154, 3) := dk_167 0 154 (dk_at dksX8_goes_7 16 rfl rfl)
theorem dX8_goes_180 : decode cX8_goes 180 = .ok (.iload_n 1, 1) := dk_27 (dk_at dksX8_goes_7 19 rfl rfl)
theorem dX8_goes_181 : decode cX8_goes 181 = .ok (.invokestatic 213, 3) := dk_184 0 213 (dk_at dksX8_goes_7 20 rfl rfl)
theorem dX8_goes_184 : decode cX8_goes 184 = .ok (.ifCond .eq 74, 3) := dk_153 0 74 (dk_at dksX8_goes_8 0 rfl rfl)
theorem dX8_goes_187 : decode cX8_goes 187 = .ok (.aload_n 0, 1) := dk_42 (dk_at dksX8_goes_8 3 rfl rfl)
theorem dX8_goes_188 : decode cX8_goes 188 = .ok (.aload_n 0, 1) := dk_42 (dk_at dksX8_goes_8 4 rfl rfl)
theorem dX8_goes_189 : decode cX8_goes 189 = .ok (.getfield 186, 3) := dk_180 0 186 (dk_at dksX8_goes_8 5 rfl rfl)
theorem dX8_goes_192 : decode cX8_goes 192 = .ok (.invokevirtual 189, 3) := dk_182 0 189 (dk_at dksX8_goes_8 8 rfl rfl)
theorem dX8_goes_195 : decode cX8_goes 195 = .ok (.invokestatic 213, 3) := dk_184 0 213 (dk_at dksX8_goes_8 11 rfl rfl)
theorem dX8_goes_198 : decode cX8_goes 198 = .ok (.ifCond .eq 52, 3) := dk_153 0 52 (dk_at dksX8_goes_8 14 rfl rfl)
theorem dX8_goes_201 : decode cX8_goes 201 = .ok (.aload_n 0, 1) := dk_42 (dk_at dksX8_goes_8 17 rfl rfl)
theorem dX8_goes_202 : decode cX8_goes 202 = .ok (.getfield 186, 3) := dk_180 0 186 (dk_at dksX8_goes_8 18 rfl rfl)
theorem dX8_goes_205 : decode cX8_goes 205 = .ok (.aload_n 0, 1) := dk_42 (dk_at dksX8_goes_8 21 rfl rfl)
theorem dX8_goes_206 : decode cX8_goes 206 = .ok (.getfield 193, 3) := dk_180 0 193 (dk_at dksX8_goes_9 0 rfl rfl)
theorem dX8_goes_209 : decode cX8_goes 209 = .ok (.isub, 1) := dk_100 (dk_at dksX8_goes_9 3 rfl rfl)
theorem dX8_goes_210 : decode cX8_goes 210 = .ok (.iconst 3, 1) := dk_6 (dk_at dksX8_goes_9 4 rfl rfl)
theorem dX8_goes_211 : decode cX8_goes 211 = .ok (.if_icmp .ge 26, 3) := dk_162 0 26 (dk_at dksX8_goes_9 5 rfl rfl)
theorem dX8_goes_214 : decode cX8_goes 214 = .ok (.aload_n 0, 1) := dk_42 (dk_at dksX8_goes_9 8 rfl rfl)
theorem dX8_goes_215 : decode cX8_goes 215 = .ok (.bipush 10, 2) := dk_16 10 (dk_at dksX8_goes_9 9 rfl rfl)
theorem dX8_goes_217 : decode cX8_goes 217 = .ok (.aload_n 0, 1) := dk_42 (dk_at dksX8_goes_9 11 rfl rfl)
theorem dX8_goes_218 : decode cX8_goes 218 = .ok (.getfield 200, 3) := dk_180 0 200 (dk_at dksX8_goes_9 12 rfl rfl)
theorem dX8_goes_221 : decode cX8_goes 221 = .ok (.imul, 1) := dk_104 (dk_at dksX8_goes_9 15 rfl rfl)
theorem dX8_goes_222 : decode cX8_goes 222 = .ok (.aload_n 0, 1) := dk_42 (dk_at dksX8_goes_9 16 rfl rfl)
theorem dX8_goes_223 : decode cX8_goes 223 = .ok (.aload_n 0, 1) := dk_42 (dk_at dksX8_goes_9 17 rfl rfl)
theorem dX8_goes_224 : decode cX8_goes 224 = .ok (.getfield 186, 3) := dk_180 0 186 (dk_at dksX8_goes_9 18 rfl rfl)
theorem dX8_goes_227 : decode cX8_goes 227 = .ok (.invokevirtual 189, 3) := dk_182 0 189 (dk_at dksX8_goes_9 21 rfl rfl)
theorem dX8_goes_230 : decode cX8_goes 230 = .ok (.iadd, 1) := dk_96 (dk_at dksX8_goes_10 0 rfl rfl)
theorem dX8_goes_231 : decode cX8_goes 231 = .ok (.bipush 48, 2) := dk_16 48 (dk_at dksX8_goes_10 1 rfl rfl)
theorem dX8_goes_233 : decode cX8_goes 233 = .ok (.isub, 1) := dk_100 (dk_at dksX8_goes_10 3 rfl rfl)
theorem dX8_goes_234 : decode cX8_goes 234 = .ok (.putfield 200, 3) := dk_181 0 200 (dk_at dksX8_goes_10 4 rfl rfl)
theorem dX8_goes_237 : decode cX8_goes 237 = .ok (.aload_n 0, 1) := dk_42 (dk_at dksX8_goes_10 7 rfl rfl)
theorem dX8_goes_238 : decode cX8_goes 238 = .ok (.dup, 1) := dk_89 (dk_at dksX8_goes_10 8 rfl rfl)
theorem dX8_goes_239 : decode cX8_goes 239 = .ok (.getfield 186, 3) := dk_180 0 186 (dk_at dksX8_goes_10 9 rfl rfl)
theorem dX8_goes_242 : decode cX8_goes 242 = .ok (.iconst 1, 1) := dk_4 (dk_at dksX8_goes_10 12 rfl rfl)
theorem dX8_goes_243 : decode cX8_goes 243 = .ok (.iadd, 1) := dk_96 (dk_at dksX8_goes_10 13 rfl rfl)
theorem dX8_goes_244 : decode cX8_goes 244 = .ok (.putfield 186, 3) := dk_181 0 186 (dk_at dksX8_goes_10 14 rfl rfl)
theorem dX8_goes_247 : decode cX8_goes 247 = .ok (.goto (-60), 3) := dk_167 255 196 (dk_at dksX8_goes_10 17 rfl rfl)
theorem dX8_goes_250 : decode cX8_goes 250 = .ok (.aload_n 0, 1) := dk_42 (dk_at dksX8_goes_10 20 rfl rfl)
theorem dX8_goes_251 : decode cX8_goes 251 = .ok (.iconst 2, 1) := dk_5 (dk_at dksX8_goes_10 21 rfl rfl)
theorem dX8_goes_252 : decode cX8_goes 252 = .ok (.putfield 206, 3) := dk_181 0 206 (dk_at dksX8_goes_11 0 rfl rfl)
theorem dX8_goes_255 : decode cX8_goes 255 = .ok (.goto 76, 3) := dk_167 0 76 (dk_at dksX8_goes_11 3 rfl rfl)
theorem dX8_goes_258 : decode cX8_goes 258 = .ok (.aload_n 0, 1) := dk_42 (dk_at dksX8_goes_11 6 rfl rfl)
theorem dX8_goes_259 : decode cX8_goes 259 = .ok (.dup, 1) := dk_89 (dk_at dksX8_goes_11 7 rfl rfl)
theorem dX8_goes_260 : decode cX8_goes 260 = .ok (.getfield 186, 3) := dk_180 0 186 (dk_at dksX8_goes_11 8 rfl rfl)
theorem dX8_goes_263 : decode cX8_goes 263 = .ok (.iconst 1, 1) := dk_4 (dk_at dksX8_goes_11 11 rfl rfl)
theorem dX8_goes_264 : decode cX8_goes 264 = .ok (.iadd, 1) := dk_96 (dk_at dksX8_goes_11 12 rfl rfl)
theorem dX8_goes_265 : decode cX8_goes 265 = .ok (.putfield 186, 3) := dk_181 0 186 (dk_at dksX8_goes_11 13 rfl rfl)
theorem dX8_goes_268 : decode cX8_goes 268 = .ok (.aload_n 0, 1) := dk_42 (dk_at dksX8_goes_11 16 rfl rfl)
theorem dX8_goes_269 : decode cX8_goes 269 = .ok (.iload_n 1, 1) := dk_27 (dk_at dksX8_goes_11 17 rfl rfl)
theorem dX8_goes_270 : decode cX8_goes 270 = .ok (.bipush 59, 2) := dk_16 59 (dk_at dksX8_goes_11 18 rfl rfl)
theorem dX8_goes_272 : decode cX8_goes 272 = .ok (.if_icmp .eq 51, 3) := dk_159 0 51 (dk_at dksX8_goes_11 20 rfl rfl)
theorem dX8_goes_275 : decode cX8_goes 275 = .ok (.iload_n 1, 1) := dk_27 (dk_at dksX8_goes_11 23 rfl rfl)
theorem dX8_goes_276 : decode cX8_goes 276 = .ok (.bipush 40, 2) := dk_16 40 (dk_at dksX8_goes_12 0 rfl rfl)
theorem dX8_goes_278 : decode cX8_goes 278 = .ok (.if_icmp .eq 45, 3) := dk_159 0 45 (dk_at dksX8_goes_12 2 rfl rfl)
theorem dX8_goes_281 : decode cX8_goes 281 = .ok (.iload_n 1, 1) := dk_27 (dk_at dksX8_goes_12 5 rfl rfl)
theorem dX8_goes_282 : decode cX8_goes 282 = .ok (.bipush 41, 2) := dk_16 41 (dk_at dksX8_goes_12 6 rfl rfl)
theorem dX8_goes_284 : decode cX8_goes 284 = .ok (.if_icmp .eq 39, 3) := dk_159 0 39 (dk_at dksX8_goes_12 8 rfl rfl)
theorem dX8_goes_287 : decode cX8_goes 287 = .ok (.iload_n 1, 1) := dk_27 (dk_at dksX8_goes_12 11 rfl rfl)
theorem dX8_goes_288 : decode cX8_goes 288 = .ok (.bipush 43, 2) := dk_16 43 (dk_at dksX8_goes_12 12 rfl rfl)
theorem dX8_goes_290 : decode cX8_goes 290 = .ok (.if_icmp .eq 33, 3) := dk_159 0 33 (dk_at dksX8_goes_12 14 rfl rfl)
theorem dX8_goes_293 : decode cX8_goes 293 = .ok (.iload_n 1, 1) := dk_27 (dk_at dksX8_goes_12 17 rfl rfl)
theorem dX8_goes_294 : decode cX8_goes 294 = .ok (.bipush 45, 2) := dk_16 45 (dk_at dksX8_goes_12 18 rfl rfl)
theorem dX8_goes_296 : decode cX8_goes 296 = .ok (.if_icmp .eq 27, 3) := dk_159 0 27 (dk_at dksX8_goes_12 20 rfl rfl)
theorem dX8_goes_299 : decode cX8_goes 299 = .ok (.iload_n 1, 1) := dk_27 (dk_at dksX8_goes_12 23 rfl rfl)
theorem dX8_goes_300 : decode cX8_goes 300 = .ok (.bipush 42, 2) := dk_16 42 (dk_at dksX8_goes_13 0 rfl rfl)
theorem dX8_goes_302 : decode cX8_goes 302 = .ok (.if_icmp .eq 21, 3) := dk_159 0 21 (dk_at dksX8_goes_13 2 rfl rfl)
theorem dX8_goes_305 : decode cX8_goes 305 = .ok (.iload_n 1, 1) := dk_27 (dk_at dksX8_goes_13 5 rfl rfl)
theorem dX8_goes_306 : decode cX8_goes 306 = .ok (.bipush 47, 2) := dk_16 47 (dk_at dksX8_goes_13 6 rfl rfl)
theorem dX8_goes_308 : decode cX8_goes 308 = .ok (.if_icmp .eq 15, 3) := dk_159 0 15 (dk_at dksX8_goes_13 8 rfl rfl)
theorem dX8_goes_311 : decode cX8_goes 311 = .ok (.iload_n 1, 1) := dk_27 (dk_at dksX8_goes_13 11 rfl rfl)
theorem dX8_goes_312 : decode cX8_goes 312 = .ok (.bipush 60, 2) := dk_16 60 (dk_at dksX8_goes_13 12 rfl rfl)
theorem dX8_goes_314 : decode cX8_goes 314 = .ok (.if_icmp .eq 9, 3) := dk_159 0 9 (dk_at dksX8_goes_13 14 rfl rfl)
theorem dX8_goes_317 : decode cX8_goes 317 = .ok (.iload_n 1, 1) := dk_27 (dk_at dksX8_goes_13 17 rfl rfl)
theorem dX8_goes_318 : decode cX8_goes 318 = .ok (.bipush 61, 2) := dk_16 61 (dk_at dksX8_goes_13 18 rfl rfl)
theorem dX8_goes_320 : decode cX8_goes 320 = .ok (.if_icmp .ne 7, 3) := dk_160 0 7 (dk_at dksX8_goes_13 20 rfl rfl)
theorem dX8_goes_323 : decode cX8_goes 323 = .ok (.iconst 3, 1) := dk_6 (dk_at dksX8_goes_13 23 rfl rfl)
theorem dX8_goes_324 : decode cX8_goes 324 = .ok (.goto 4, 3) := dk_167 0 4 (dk_at dksX8_goes_14 0 rfl rfl)
theorem dX8_goes_327 : decode cX8_goes 327 = .ok (.iconst 4, 1) := dk_7 (dk_at dksX8_goes_14 3 rfl rfl)
theorem dX8_goes_328 : decode cX8_goes 328 = .ok (.putfield 206, 3) := dk_181 0 206 (dk_at dksX8_goes_14 4 rfl rfl)
theorem dX8_goes_331 : decode cX8_goes 331 = .ok (.aload_n 0, 1) := dk_42 (dk_at dksX8_goes_14 7 rfl rfl)
theorem dX8_goes_332 : decode cX8_goes 332 = .ok (.aload_n 0, 1) := dk_42 (dk_at dksX8_goes_14 8 rfl rfl)
theorem dX8_goes_333 : decode cX8_goes 333 = .ok (.getfield 186, 3) := dk_180 0 186 (dk_at dksX8_goes_14 9 rfl rfl)
theorem dX8_goes_336 : decode cX8_goes 336 = .ok (.aload_n 0, 1) := dk_42 (dk_at dksX8_goes_14 12 rfl rfl)
theorem dX8_goes_337 : decode cX8_goes 337 = .ok (.getfield 193, 3) := dk_180 0 193 (dk_at dksX8_goes_14 13 rfl rfl)
theorem dX8_goes_340 : decode cX8_goes 340 = .ok (.isub, 1) := dk_100 (dk_at dksX8_goes_14 16 rfl rfl)
theorem dX8_goes_341 : decode cX8_goes 341 = .ok (.putfield 216, 3) := dk_181 0 216 (dk_at dksX8_goes_14 17 rfl rfl)
theorem dX8_goes_344 : decode cX8_goes 344 = .ok (.return_, 1) := dk_177 (dk_at dksX8_goes_14 20 rfl rfl)
abbrev cX8_byteAt : ByteArray := prog_19_method_8_code
def yX8_byteAt : MethodName := ⟨RX8, "byteAt", "(I)I"⟩
def dkwX8_byteAt_0 : List UInt8 := [27, 42, 180, 0, 183, 162, 0, 12, 42, 180, 0, 48, 27, 46, 167, 0, 4, 3, 172]
abbrev dktX8_byteAt_0 : List UInt8 := dkwX8_byteAt_0 ++ []
theorem dksX8_byteAt_0 : cX8_byteAt.data.toList.drop 0 = dktX8_byteAt_0 := by decide +kernel
theorem dX8_byteAt_0 : decode cX8_byteAt 0 = .ok (.iload_n 1, 1) := dk_27 (dk_at dksX8_byteAt_0 0 rfl rfl)
theorem dX8_byteAt_1 : decode cX8_byteAt 1 = .ok (.aload_n 0, 1) := dk_42 (dk_at dksX8_byteAt_0 1 rfl rfl)
theorem dX8_byteAt_2 : decode cX8_byteAt 2 = .ok (.getfield 183, 3) := dk_180 0 183 (dk_at dksX8_byteAt_0 2 rfl rfl)
theorem dX8_byteAt_5 : decode cX8_byteAt 5 = .ok (.if_icmp .ge 12, 3) := dk_162 0 12 (dk_at dksX8_byteAt_0 5 rfl rfl)
theorem dX8_byteAt_8 : decode cX8_byteAt 8 = .ok (.aload_n 0, 1) := dk_42 (dk_at dksX8_byteAt_0 8 rfl rfl)
theorem dX8_byteAt_9 : decode cX8_byteAt 9 = .ok (.getfield 48, 3) := dk_180 0 48 (dk_at dksX8_byteAt_0 9 rfl rfl)
theorem dX8_byteAt_12 : decode cX8_byteAt 12 = .ok (.iload_n 1, 1) := dk_27 (dk_at dksX8_byteAt_0 12 rfl rfl)
theorem dX8_byteAt_13 : decode cX8_byteAt 13 = .ok (.iaload, 1) := dk_46 (dk_at dksX8_byteAt_0 13 rfl rfl)
theorem dX8_byteAt_14 : decode cX8_byteAt 14 = .ok (.goto 4, 3) := dk_167 0 4 (dk_at dksX8_byteAt_0 14 rfl rfl)
theorem dX8_byteAt_17 : decode cX8_byteAt 17 = .ok (.iconst 0, 1) := dk_3 (dk_at dksX8_byteAt_0 17 rfl rfl)
theorem dX8_byteAt_18 : decode cX8_byteAt 18 = .ok (.ireturn, 1) := dk_172 (dk_at dksX8_byteAt_0 18 rfl rfl)
abbrev cX8_isLetter : ByteArray := prog_19_method_9_code
def yX8_isLetter : MethodName := ⟨RX8, "isLetter", "(I)Z"⟩
def dkwX8_isLetter_0 : List UInt8 := [26, 16, 97, 161, 0, 13, 26, 16, 122, 163, 0, 7, 4, 167, 0, 4, 3, 172]
abbrev dktX8_isLetter_0 : List UInt8 := dkwX8_isLetter_0 ++ []
theorem dksX8_isLetter_0 : cX8_isLetter.data.toList.drop 0 = dktX8_isLetter_0 := by decide +kernel
theorem dX8_isLetter_0 : decode cX8_isLetter 0 = .ok (.iload_n 0, 1) := dk_26 (dk_at dksX8_isLetter_0 0 rfl rfl)
theorem dX8_isLetter_1 : decode cX8_isLetter 1 = .ok (.bipush 97, 2) := dk_16 97 (dk_at dksX8_isLetter_0 1 rfl rfl)
theorem dX8_isLetter_3 : decode cX8_isLetter 3 = .ok (.if_icmp .lt 13, 3) := dk_161 0 13 (dk_at dksX8_isLetter_0 3 rfl rfl)
theorem dX8_isLetter_6 : decode cX8_isLetter 6 = .ok (.iload_n 0, 1) := dk_26 (dk_at dksX8_isLetter_0 6 rfl rfl)
theorem dX8_isLetter_7 : decode cX8_isLetter 7 = .ok (.bipush 122, 2) := dk_16 122 (dk_at dksX8_isLetter_0 7 rfl rfl)
theorem dX8_isLetter_9 : decode cX8_isLetter 9 = .ok (.if_icmp .gt 7, 3) := dk_163 0 7 (dk_at dksX8_isLetter_0 9 rfl rfl)
theorem dX8_isLetter_12 : decode cX8_isLetter 12 = .ok (.iconst 1, 1) := dk_4 (dk_at dksX8_isLetter_0 12 rfl rfl)
theorem dX8_isLetter_13 : decode cX8_isLetter 13 = .ok (.goto 4, 3) := dk_167 0 4 (dk_at dksX8_isLetter_0 13 rfl rfl)
theorem dX8_isLetter_16 : decode cX8_isLetter 16 = .ok (.iconst 0, 1) := dk_3 (dk_at dksX8_isLetter_0 16 rfl rfl)
theorem dX8_isLetter_17 : decode cX8_isLetter 17 = .ok (.ireturn, 1) := dk_172 (dk_at dksX8_isLetter_0 17 rfl rfl)
abbrev cX8_isDigit : ByteArray := prog_19_method_10_code
def yX8_isDigit : MethodName := ⟨RX8, "isDigit", "(I)Z"⟩
def dkwX8_isDigit_0 : List UInt8 := [26, 16, 48, 161, 0, 13, 26, 16, 57, 163, 0, 7, 4, 167, 0, 4, 3, 172]
abbrev dktX8_isDigit_0 : List UInt8 := dkwX8_isDigit_0 ++ []
theorem dksX8_isDigit_0 : cX8_isDigit.data.toList.drop 0 = dktX8_isDigit_0 := by decide +kernel
theorem dX8_isDigit_0 : decode cX8_isDigit 0 = .ok (.iload_n 0, 1) := dk_26 (dk_at dksX8_isDigit_0 0 rfl rfl)
theorem dX8_isDigit_1 : decode cX8_isDigit 1 = .ok (.bipush 48, 2) := dk_16 48 (dk_at dksX8_isDigit_0 1 rfl rfl)
theorem dX8_isDigit_3 : decode cX8_isDigit 3 = .ok (.if_icmp .lt 13, 3) := dk_161 0 13 (dk_at dksX8_isDigit_0 3 rfl rfl)
theorem dX8_isDigit_6 : decode cX8_isDigit 6 = .ok (.iload_n 0, 1) := dk_26 (dk_at dksX8_isDigit_0 6 rfl rfl)
theorem dX8_isDigit_7 : decode cX8_isDigit 7 = .ok (.bipush 57, 2) := dk_16 57 (dk_at dksX8_isDigit_0 7 rfl rfl)
theorem dX8_isDigit_9 : decode cX8_isDigit 9 = .ok (.if_icmp .gt 7, 3) := dk_163 0 7 (dk_at dksX8_isDigit_0 9 rfl rfl)
theorem dX8_isDigit_12 : decode cX8_isDigit 12 = .ok (.iconst 1, 1) := dk_4 (dk_at dksX8_isDigit_0 12 rfl rfl)
theorem dX8_isDigit_13 : decode cX8_isDigit 13 = .ok (.goto 4, 3) := dk_167 0 4 (dk_at dksX8_isDigit_0 13 rfl rfl)
theorem dX8_isDigit_16 : decode cX8_isDigit 16 = .ok (.iconst 0, 1) := dk_3 (dk_at dksX8_isDigit_0 16 rfl rfl)
theorem dX8_isDigit_17 : decode cX8_isDigit 17 = .ok (.ireturn, 1) := dk_172 (dk_at dksX8_isDigit_0 17 rfl rfl)
abbrev cX8_knownWord : ByteArray := prog_19_method_14_code
def yX8_knownWord : MethodName := ⟨RX8, "knownWord", "()I"⟩
def dkwX8_knownWord_2 : List UInt8 := [172]
abbrev dktX8_knownWord_2 : List UInt8 := dkwX8_knownWord_2 ++ []
def dkwX8_knownWord_1 : List UInt8 := [162, 0, 23, 27, 184, 0, 223, 42, 180, 0, 196, 148, 154, 0, 5, 27, 172, 132, 1, 1, 167, 255, 233, 2]
abbrev dktX8_knownWord_1 : List UInt8 := dkwX8_knownWord_1 ++ dktX8_knownWord_2
def dkwX8_knownWord_0 : List UInt8 := [42, 180, 0, 206, 4, 160, 0, 12, 42, 180, 0, 216, 16, 6, 164, 0, 5, 2, 172, 3, 60, 27, 16, 21]
abbrev dktX8_knownWord_0 : List UInt8 := dkwX8_knownWord_0 ++ dktX8_knownWord_1
theorem dksX8_knownWord_0 : cX8_knownWord.data.toList.drop 0 = dktX8_knownWord_0 := by decide +kernel
theorem dksX8_knownWord_1 : cX8_knownWord.data.toList.drop 24 = dktX8_knownWord_1 := dk_seg dksX8_knownWord_0 24 rfl rfl
theorem dksX8_knownWord_2 : cX8_knownWord.data.toList.drop 48 = dktX8_knownWord_2 := dk_seg dksX8_knownWord_1 24 rfl rfl
theorem dX8_knownWord_0 : decode cX8_knownWord 0 = .ok (.aload_n 0, 1) := dk_42 (dk_at dksX8_knownWord_0 0 rfl rfl)
theorem dX8_knownWord_1 : decode cX8_knownWord 1 = .ok (.getfield 206, 3) := dk_180 0 206 (dk_at dksX8_knownWord_0 1 rfl rfl)
theorem dX8_knownWord_4 : decode cX8_knownWord 4 = .ok (.iconst 1, 1) := dk_4 (dk_at dksX8_knownWord_0 4 rfl rfl)
theorem dX8_knownWord_5 : decode cX8_knownWord 5 = .ok (.if_icmp .ne 12, 3) := dk_160 0 12 (dk_at dksX8_knownWord_0 5 rfl rfl)
theorem dX8_knownWord_8 : decode cX8_knownWord 8 = .ok (.aload_n 0, 1) := dk_42 (dk_at dksX8_knownWord_0 8 rfl rfl)
theorem dX8_knownWord_9 : decode cX8_knownWord 9 = .ok (.getfield 216, 3) := dk_180 0 216 (dk_at dksX8_knownWord_0 9 rfl rfl)
theorem dX8_knownWord_12 : decode cX8_knownWord 12 = .ok (.bipush 6, 2) := dk_16 6 (dk_at dksX8_knownWord_0 12 rfl rfl)
theorem dX8_knownWord_14 : decode cX8_knownWord 14 = .ok (.if_icmp .le 5, 3) := dk_164 0 5 (dk_at dksX8_knownWord_0 14 rfl rfl)
theorem dX8_knownWord_17 : decode cX8_knownWord 17 = .ok (.iconst (-1), 1) := dk_2 (dk_at dksX8_knownWord_0 17 rfl rfl)
theorem dX8_knownWord_18 : decode cX8_knownWord 18 = .ok (.ireturn, 1) := dk_172 (dk_at dksX8_knownWord_0 18 rfl rfl)
theorem dX8_knownWord_19 : decode cX8_knownWord 19 = .ok (.iconst 0, 1) := dk_3 (dk_at dksX8_knownWord_0 19 rfl rfl)
theorem dX8_knownWord_20 : decode cX8_knownWord 20 = .ok (.istore_n 1, 1) := dk_60 (dk_at dksX8_knownWord_0 20 rfl rfl)
theorem dX8_knownWord_21 : decode cX8_knownWord 21 = .ok (.iload_n 1, 1) := dk_27 (dk_at dksX8_knownWord_0 21 rfl rfl)
theorem dX8_knownWord_22 : decode cX8_knownWord 22 = .ok (.bipush 21, 2) := dk_16 21 (dk_at dksX8_knownWord_0 22 rfl rfl)
theorem dX8_knownWord_24 : decode cX8_knownWord 24 = .ok (.if_icmp .ge 23, 3) := dk_162 0 23 (dk_at dksX8_knownWord_1 0 rfl rfl)
theorem dX8_knownWord_27 : decode cX8_knownWord 27 = .ok (.iload_n 1, 1) := dk_27 (dk_at dksX8_knownWord_1 3 rfl rfl)
theorem dX8_knownWord_28 : decode cX8_knownWord 28 = .ok (.invokestatic 223, 3) := dk_184 0 223 (dk_at dksX8_knownWord_1 4 rfl rfl)
theorem dX8_knownWord_31 : decode cX8_knownWord 31 = .ok (.aload_n 0, 1) := dk_42 (dk_at dksX8_knownWord_1 7 rfl rfl)
theorem dX8_knownWord_32 : decode cX8_knownWord 32 = .ok (.getfield 196, 3) := dk_180 0 196 (dk_at dksX8_knownWord_1 8 rfl rfl)
theorem dX8_knownWord_35 : decode cX8_knownWord 35 = .ok (.lcmp, 1) := dk_148 (dk_at dksX8_knownWord_1 11 rfl rfl)
theorem dX8_knownWord_36 : decode cX8_knownWord 36 = .ok (.ifCond .ne 5, 3) := dk_154 0 5 (dk_at dksX8_knownWord_1 12 rfl rfl)
theorem dX8_knownWord_39 : decode cX8_knownWord 39 = .ok (.iload_n 1, 1) := dk_27 (dk_at dksX8_knownWord_1 15 rfl rfl)
theorem dX8_knownWord_40 : decode cX8_knownWord 40 = .ok (.ireturn, 1) := dk_172 (dk_at dksX8_knownWord_1 16 rfl rfl)
theorem dX8_knownWord_41 : decode cX8_knownWord 41 = .ok (.iinc 1 1, 3) := dk_132 1 1 (dk_at dksX8_knownWord_1 17 rfl rfl)
theorem dX8_knownWord_44 : decode cX8_knownWord 44 = .ok (.goto (-23), 3) := dk_167 255 233 (dk_at dksX8_knownWord_1 20 rfl rfl)
theorem dX8_knownWord_47 : decode cX8_knownWord 47 = .ok (.iconst (-1), 1) := dk_2 (dk_at dksX8_knownWord_1 23 rfl rfl)
theorem dX8_knownWord_48 : decode cX8_knownWord 48 = .ok (.ireturn, 1) := dk_172 (dk_at dksX8_knownWord_2 0 rfl rfl)
abbrev cX8_letters : ByteArray := prog_19_method_13_code
def yX8_letters : MethodName := ⟨RX8, "letters", "(I)J"⟩
def dkwX8_letters_14 : List UInt8 := [16, 116, 16, 115, 3, 184, 0, 219, 173, 16, 115, 16, 104, 16, 111, 16, 114, 16, 101, 3, 184, 0, 219, 173]
abbrev dktX8_letters_14 : List UInt8 := dkwX8_letters_14 ++ []
def dkwX8_letters_13 : List UInt8 := [173, 16, 114, 16, 111, 16, 119, 16, 101, 16, 114, 16, 115, 184, 0, 219, 173, 16, 98, 16, 111, 16, 97]
abbrev dktX8_letters_13 : List UInt8 := dkwX8_letters_13 ++ dktX8_letters_14
def dkwX8_letters_12 : List UInt8 := [16, 111, 16, 116, 3, 3, 3, 184, 0, 219, 173, 16, 109, 16, 97, 16, 110, 16, 121, 3, 3, 184, 0, 219]
abbrev dktX8_letters_12 : List UInt8 := dkwX8_letters_12 ++ dktX8_letters_13
def dkwX8_letters_11 : List UInt8 := [16, 100, 3, 3, 3, 184, 0, 219, 173, 16, 111, 16, 114, 3, 3, 3, 3, 184, 0, 219, 173, 16, 110]
abbrev dktX8_letters_11 : List UInt8 := dkwX8_letters_11 ++ dktX8_letters_12
def dkwX8_letters_10 : List UInt8 := [184, 0, 219, 173, 16, 97, 16, 98, 16, 111, 16, 97, 16, 114, 16, 100, 184, 0, 219, 173, 16, 97, 16, 110]
abbrev dktX8_letters_10 : List UInt8 := dkwX8_letters_10 ++ dktX8_letters_11
def dkwX8_letters_9 : List UInt8 := [16, 116, 3, 3, 3, 3, 184, 0, 219, 173, 16, 97, 16, 115, 16, 104, 16, 111, 16, 114, 16, 101]
abbrev dktX8_letters_9 : List UInt8 := dkwX8_letters_9 ++ dktX8_letters_10
def dkwX8_letters_8 : List UInt8 := [16, 115, 3, 184, 0, 219, 173, 16, 108, 16, 111, 16, 97, 16, 100, 3, 3, 184, 0, 219, 173, 16, 97]
abbrev dktX8_letters_8 : List UInt8 := dkwX8_letters_8 ++ dktX8_letters_9
def dkwX8_letters_7 : List UInt8 := [173, 16, 114, 16, 111, 16, 119, 16, 115, 3, 3, 184, 0, 219, 173, 16, 104, 16, 111, 16, 108, 16, 100]
abbrev dktX8_letters_7 : List UInt8 := dkwX8_letters_7 ++ dktX8_letters_8
def dkwX8_letters_6 : List UInt8 := [16, 101, 16, 114, 3, 184, 0, 219, 173, 16, 119, 16, 101, 16, 105, 16, 103, 16, 104, 16, 116, 184, 0, 219]
abbrev dktX8_letters_6 : List UInt8 := dkwX8_letters_6 ++ dktX8_letters_7
def dkwX8_letters_5 : List UInt8 := [184, 0, 219, 173, 16, 108, 16, 97, 16, 109, 16, 112, 3, 3, 184, 0, 219, 173, 16, 110, 16, 101, 16, 118]
abbrev dktX8_letters_5 : List UInt8 := dkwX8_letters_5 ++ dktX8_letters_6
def dkwX8_letters_4 : List UInt8 := [16, 97, 16, 116, 16, 101, 16, 114, 3, 184, 0, 219, 173, 16, 119, 16, 97, 16, 121, 3, 3, 3]
abbrev dktX8_letters_4 : List UInt8 := dkwX8_letters_4 ++ dktX8_letters_5
def dkwX8_letters_3 : List UInt8 := [16, 103, 3, 184, 0, 219, 173, 16, 98, 16, 111, 16, 97, 16, 116, 3, 3, 184, 0, 219, 173, 16, 119]
abbrev dktX8_letters_3 : List UInt8 := dkwX8_letters_3 ++ dktX8_letters_4
def dkwX8_letters_2 : List UInt8 := [16, 115, 16, 104, 16, 111, 16, 114, 16, 101, 16, 115, 184, 0, 219, 173, 16, 116, 16, 104, 16, 105, 16, 110]
abbrev dktX8_letters_2 : List UInt8 := dkwX8_letters_2 ++ dktX8_letters_3
def dkwX8_letters_1 : List UInt8 := [170, 0, 0, 0, 0, 1, 127, 0, 0, 0, 0, 0, 0, 0, 19, 0, 0, 0, 95, 0, 0, 0, 111, 0, 0, 0, 126, 0, 0, 0, 140, 0, 0, 0, 155, 0, 0, 0, 168, 0, 0, 0, 182, 0, 0, 0, 197, 0, 0, 0, 213, 0, 0, 0, 227, 0, 0, 0, 242, 0, 0, 1, 0, 0, 0, 1, 12, 0, 0, 1, 28, 0, 0, 1, 44, 0, 0, 1, 57, 0, 0, 1, 69, 0, 0, 1, 82, 0, 0, 1, 96, 0, 0, 1, 112]
abbrev dktX8_letters_1 : List UInt8 := dkwX8_letters_1 ++ dktX8_letters_2
def dkwX8_letters_0 : List UInt8 := [26]
abbrev dktX8_letters_0 : List UInt8 := dkwX8_letters_0 ++ dktX8_letters_1
theorem dksX8_letters_0 : cX8_letters.data.toList.drop 0 = dktX8_letters_0 := by decide +kernel
theorem dksX8_letters_1 : cX8_letters.data.toList.drop 1 = dktX8_letters_1 := dk_seg dksX8_letters_0 1 rfl rfl
theorem dksX8_letters_2 : cX8_letters.data.toList.drop 96 = dktX8_letters_2 := dk_seg dksX8_letters_1 95 rfl rfl
theorem dksX8_letters_3 : cX8_letters.data.toList.drop 120 = dktX8_letters_3 := dk_seg dksX8_letters_2 24 rfl rfl
theorem dksX8_letters_4 : cX8_letters.data.toList.drop 143 = dktX8_letters_4 := dk_seg dksX8_letters_3 23 rfl rfl
theorem dksX8_letters_5 : cX8_letters.data.toList.drop 165 = dktX8_letters_5 := dk_seg dksX8_letters_4 22 rfl rfl
theorem dksX8_letters_6 : cX8_letters.data.toList.drop 189 = dktX8_letters_6 := dk_seg dksX8_letters_5 24 rfl rfl
theorem dksX8_letters_7 : cX8_letters.data.toList.drop 213 = dktX8_letters_7 := dk_seg dksX8_letters_6 24 rfl rfl
theorem dksX8_letters_8 : cX8_letters.data.toList.drop 236 = dktX8_letters_8 := dk_seg dksX8_letters_7 23 rfl rfl
theorem dksX8_letters_9 : cX8_letters.data.toList.drop 259 = dktX8_letters_9 := dk_seg dksX8_letters_8 23 rfl rfl
theorem dksX8_letters_10 : cX8_letters.data.toList.drop 281 = dktX8_letters_10 := dk_seg dksX8_letters_9 22 rfl rfl
theorem dksX8_letters_11 : cX8_letters.data.toList.drop 305 = dktX8_letters_11 := dk_seg dksX8_letters_10 24 rfl rfl
theorem dksX8_letters_12 : cX8_letters.data.toList.drop 328 = dktX8_letters_12 := dk_seg dksX8_letters_11 23 rfl rfl
theorem dksX8_letters_13 : cX8_letters.data.toList.drop 352 = dktX8_letters_13 := dk_seg dksX8_letters_12 24 rfl rfl
theorem dksX8_letters_14 : cX8_letters.data.toList.drop 375 = dktX8_letters_14 := dk_seg dksX8_letters_13 23 rfl rfl
theorem dX8_letters_0 : decode cX8_letters 0 = .ok (.iload_n 0, 1) := dk_26 (dk_at dksX8_letters_0 0 rfl rfl)
theorem dX8_letters_1 : decode cX8_letters 1 = .ok (.tableswitch 383 0 19 #[95, 111, 126, 140, 155, 168, 182, 197, 213, 227, 242, 256, 268, 284, 300, 313, 325, 338, 352, 368], 95) := by decide +kernel
theorem dX8_letters_96 : decode cX8_letters 96 = .ok (.bipush 115, 2) := dk_16 115 (dk_at dksX8_letters_2 0 rfl rfl)
theorem dX8_letters_98 : decode cX8_letters 98 = .ok (.bipush 104, 2) := dk_16 104 (dk_at dksX8_letters_2 2 rfl rfl)
theorem dX8_letters_100 : decode cX8_letters 100 = .ok (.bipush 111, 2) := dk_16 111 (dk_at dksX8_letters_2 4 rfl rfl)
theorem dX8_letters_102 : decode cX8_letters 102 = .ok (.bipush 114, 2) := dk_16 114 (dk_at dksX8_letters_2 6 rfl rfl)
theorem dX8_letters_104 : decode cX8_letters 104 = .ok (.bipush 101, 2) := dk_16 101 (dk_at dksX8_letters_2 8 rfl rfl)
theorem dX8_letters_106 : decode cX8_letters 106 = .ok (.bipush 115, 2) := dk_16 115 (dk_at dksX8_letters_2 10 rfl rfl)
theorem dX8_letters_108 : decode cX8_letters 108 = .ok (.invokestatic 219, 3) := dk_184 0 219 (dk_at dksX8_letters_2 12 rfl rfl)
theorem dX8_letters_111 : decode cX8_letters 111 = .ok (.lreturn, 1) := dk_173 (dk_at dksX8_letters_2 15 rfl rfl)
theorem dX8_letters_112 : decode cX8_letters 112 = .ok (.bipush 116, 2) := dk_16 116 (dk_at dksX8_letters_2 16 rfl rfl)
theorem dX8_letters_114 : decode cX8_letters 114 = .ok (.bipush 104, 2) := dk_16 104 (dk_at dksX8_letters_2 18 rfl rfl)
theorem dX8_letters_116 : decode cX8_letters 116 = .ok (.bipush 105, 2) := dk_16 105 (dk_at dksX8_letters_2 20 rfl rfl)
theorem dX8_letters_118 : decode cX8_letters 118 = .ok (.bipush 110, 2) := dk_16 110 (dk_at dksX8_letters_2 22 rfl rfl)
theorem dX8_letters_120 : decode cX8_letters 120 = .ok (.bipush 103, 2) := dk_16 103 (dk_at dksX8_letters_3 0 rfl rfl)
theorem dX8_letters_122 : decode cX8_letters 122 = .ok (.iconst 0, 1) := dk_3 (dk_at dksX8_letters_3 2 rfl rfl)
theorem dX8_letters_123 : decode cX8_letters 123 = .ok (.invokestatic 219, 3) := dk_184 0 219 (dk_at dksX8_letters_3 3 rfl rfl)
theorem dX8_letters_126 : decode cX8_letters 126 = .ok (.lreturn, 1) := dk_173 (dk_at dksX8_letters_3 6 rfl rfl)
theorem dX8_letters_127 : decode cX8_letters 127 = .ok (.bipush 98, 2) := dk_16 98 (dk_at dksX8_letters_3 7 rfl rfl)
theorem dX8_letters_129 : decode cX8_letters 129 = .ok (.bipush 111, 2) := dk_16 111 (dk_at dksX8_letters_3 9 rfl rfl)
theorem dX8_letters_131 : decode cX8_letters 131 = .ok (.bipush 97, 2) := dk_16 97 (dk_at dksX8_letters_3 11 rfl rfl)
theorem dX8_letters_133 : decode cX8_letters 133 = .ok (.bipush 116, 2) := dk_16 116 (dk_at dksX8_letters_3 13 rfl rfl)
theorem dX8_letters_135 : decode cX8_letters 135 = .ok (.iconst 0, 1) := dk_3 (dk_at dksX8_letters_3 15 rfl rfl)
theorem dX8_letters_136 : decode cX8_letters 136 = .ok (.iconst 0, 1) := dk_3 (dk_at dksX8_letters_3 16 rfl rfl)
theorem dX8_letters_137 : decode cX8_letters 137 = .ok (.invokestatic 219, 3) := dk_184 0 219 (dk_at dksX8_letters_3 17 rfl rfl)
theorem dX8_letters_140 : decode cX8_letters 140 = .ok (.lreturn, 1) := dk_173 (dk_at dksX8_letters_3 20 rfl rfl)
theorem dX8_letters_141 : decode cX8_letters 141 = .ok (.bipush 119, 2) := dk_16 119 (dk_at dksX8_letters_3 21 rfl rfl)
theorem dX8_letters_143 : decode cX8_letters 143 = .ok (.bipush 97, 2) := dk_16 97 (dk_at dksX8_letters_4 0 rfl rfl)
theorem dX8_letters_145 : decode cX8_letters 145 = .ok (.bipush 116, 2) := dk_16 116 (dk_at dksX8_letters_4 2 rfl rfl)
theorem dX8_letters_147 : decode cX8_letters 147 = .ok (.bipush 101, 2) := dk_16 101 (dk_at dksX8_letters_4 4 rfl rfl)
theorem dX8_letters_149 : decode cX8_letters 149 = .ok (.bipush 114, 2) := dk_16 114 (dk_at dksX8_letters_4 6 rfl rfl)
theorem dX8_letters_151 : decode cX8_letters 151 = .ok (.iconst 0, 1) := dk_3 (dk_at dksX8_letters_4 8 rfl rfl)
theorem dX8_letters_152 : decode cX8_letters 152 = .ok (.invokestatic 219, 3) := dk_184 0 219 (dk_at dksX8_letters_4 9 rfl rfl)
theorem dX8_letters_155 : decode cX8_letters 155 = .ok (.lreturn, 1) := dk_173 (dk_at dksX8_letters_4 12 rfl rfl)
theorem dX8_letters_156 : decode cX8_letters 156 = .ok (.bipush 119, 2) := dk_16 119 (dk_at dksX8_letters_4 13 rfl rfl)
theorem dX8_letters_158 : decode cX8_letters 158 = .ok (.bipush 97, 2) := dk_16 97 (dk_at dksX8_letters_4 15 rfl rfl)
theorem dX8_letters_160 : decode cX8_letters 160 = .ok (.bipush 121, 2) := dk_16 121 (dk_at dksX8_letters_4 17 rfl rfl)
theorem dX8_letters_162 : decode cX8_letters 162 = .ok (.iconst 0, 1) := dk_3 (dk_at dksX8_letters_4 19 rfl rfl)
theorem dX8_letters_163 : decode cX8_letters 163 = .ok (.iconst 0, 1) := dk_3 (dk_at dksX8_letters_4 20 rfl rfl)
theorem dX8_letters_164 : decode cX8_letters 164 = .ok (.iconst 0, 1) := dk_3 (dk_at dksX8_letters_4 21 rfl rfl)
theorem dX8_letters_165 : decode cX8_letters 165 = .ok (.invokestatic 219, 3) := dk_184 0 219 (dk_at dksX8_letters_5 0 rfl rfl)
theorem dX8_letters_168 : decode cX8_letters 168 = .ok (.lreturn, 1) := dk_173 (dk_at dksX8_letters_5 3 rfl rfl)
theorem dX8_letters_169 : decode cX8_letters 169 = .ok (.bipush 108, 2) := dk_16 108 (dk_at dksX8_letters_5 4 rfl rfl)
theorem dX8_letters_171 : decode cX8_letters 171 = .ok (.bipush 97, 2) := dk_16 97 (dk_at dksX8_letters_5 6 rfl rfl)
theorem dX8_letters_173 : decode cX8_letters 173 = .ok (.bipush 109, 2) := dk_16 109 (dk_at dksX8_letters_5 8 rfl rfl)
theorem dX8_letters_175 : decode cX8_letters 175 = .ok (.bipush 112, 2) := dk_16 112 (dk_at dksX8_letters_5 10 rfl rfl)
theorem dX8_letters_177 : decode cX8_letters 177 = .ok (.iconst 0, 1) := dk_3 (dk_at dksX8_letters_5 12 rfl rfl)
theorem dX8_letters_178 : decode cX8_letters 178 = .ok (.iconst 0, 1) := dk_3 (dk_at dksX8_letters_5 13 rfl rfl)
theorem dX8_letters_179 : decode cX8_letters 179 = .ok (.invokestatic 219, 3) := dk_184 0 219 (dk_at dksX8_letters_5 14 rfl rfl)
theorem dX8_letters_182 : decode cX8_letters 182 = .ok (.lreturn, 1) := dk_173 (dk_at dksX8_letters_5 17 rfl rfl)
theorem dX8_letters_183 : decode cX8_letters 183 = .ok (.bipush 110, 2) := dk_16 110 (dk_at dksX8_letters_5 18 rfl rfl)
theorem dX8_letters_185 : decode cX8_letters 185 = .ok (.bipush 101, 2) := dk_16 101 (dk_at dksX8_letters_5 20 rfl rfl)
theorem dX8_letters_187 : decode cX8_letters 187 = .ok (.bipush 118, 2) := dk_16 118 (dk_at dksX8_letters_5 22 rfl rfl)
theorem dX8_letters_189 : decode cX8_letters 189 = .ok (.bipush 101, 2) := dk_16 101 (dk_at dksX8_letters_6 0 rfl rfl)
theorem dX8_letters_191 : decode cX8_letters 191 = .ok (.bipush 114, 2) := dk_16 114 (dk_at dksX8_letters_6 2 rfl rfl)
theorem dX8_letters_193 : decode cX8_letters 193 = .ok (.iconst 0, 1) := dk_3 (dk_at dksX8_letters_6 4 rfl rfl)
theorem dX8_letters_194 : decode cX8_letters 194 = .ok (.invokestatic 219, 3) := dk_184 0 219 (dk_at dksX8_letters_6 5 rfl rfl)
theorem dX8_letters_197 : decode cX8_letters 197 = .ok (.lreturn, 1) := dk_173 (dk_at dksX8_letters_6 8 rfl rfl)
theorem dX8_letters_198 : decode cX8_letters 198 = .ok (.bipush 119, 2) := dk_16 119 (dk_at dksX8_letters_6 9 rfl rfl)
theorem dX8_letters_200 : decode cX8_letters 200 = .ok (.bipush 101, 2) := dk_16 101 (dk_at dksX8_letters_6 11 rfl rfl)
theorem dX8_letters_202 : decode cX8_letters 202 = .ok (.bipush 105, 2) := dk_16 105 (dk_at dksX8_letters_6 13 rfl rfl)
theorem dX8_letters_204 : decode cX8_letters 204 = .ok (.bipush 103, 2) := dk_16 103 (dk_at dksX8_letters_6 15 rfl rfl)
theorem dX8_letters_206 : decode cX8_letters 206 = .ok (.bipush 104, 2) := dk_16 104 (dk_at dksX8_letters_6 17 rfl rfl)
theorem dX8_letters_208 : decode cX8_letters 208 = .ok (.bipush 116, 2) := dk_16 116 (dk_at dksX8_letters_6 19 rfl rfl)
theorem dX8_letters_210 : decode cX8_letters 210 = .ok (.invokestatic 219, 3) := dk_184 0 219 (dk_at dksX8_letters_6 21 rfl rfl)
theorem dX8_letters_213 : decode cX8_letters 213 = .ok (.lreturn, 1) := dk_173 (dk_at dksX8_letters_7 0 rfl rfl)
theorem dX8_letters_214 : decode cX8_letters 214 = .ok (.bipush 114, 2) := dk_16 114 (dk_at dksX8_letters_7 1 rfl rfl)
theorem dX8_letters_216 : decode cX8_letters 216 = .ok (.bipush 111, 2) := dk_16 111 (dk_at dksX8_letters_7 3 rfl rfl)
theorem dX8_letters_218 : decode cX8_letters 218 = .ok (.bipush 119, 2) := dk_16 119 (dk_at dksX8_letters_7 5 rfl rfl)
theorem dX8_letters_220 : decode cX8_letters 220 = .ok (.bipush 115, 2) := dk_16 115 (dk_at dksX8_letters_7 7 rfl rfl)
theorem dX8_letters_222 : decode cX8_letters 222 = .ok (.iconst 0, 1) := dk_3 (dk_at dksX8_letters_7 9 rfl rfl)
theorem dX8_letters_223 : decode cX8_letters 223 = .ok (.iconst 0, 1) := dk_3 (dk_at dksX8_letters_7 10 rfl rfl)
theorem dX8_letters_224 : decode cX8_letters 224 = .ok (.invokestatic 219, 3) := dk_184 0 219 (dk_at dksX8_letters_7 11 rfl rfl)
theorem dX8_letters_227 : decode cX8_letters 227 = .ok (.lreturn, 1) := dk_173 (dk_at dksX8_letters_7 14 rfl rfl)
theorem dX8_letters_228 : decode cX8_letters 228 = .ok (.bipush 104, 2) := dk_16 104 (dk_at dksX8_letters_7 15 rfl rfl)
theorem dX8_letters_230 : decode cX8_letters 230 = .ok (.bipush 111, 2) := dk_16 111 (dk_at dksX8_letters_7 17 rfl rfl)
theorem dX8_letters_232 : decode cX8_letters 232 = .ok (.bipush 108, 2) := dk_16 108 (dk_at dksX8_letters_7 19 rfl rfl)
theorem dX8_letters_234 : decode cX8_letters 234 = .ok (.bipush 100, 2) := dk_16 100 (dk_at dksX8_letters_7 21 rfl rfl)
theorem dX8_letters_236 : decode cX8_letters 236 = .ok (.bipush 115, 2) := dk_16 115 (dk_at dksX8_letters_8 0 rfl rfl)
theorem dX8_letters_238 : decode cX8_letters 238 = .ok (.iconst 0, 1) := dk_3 (dk_at dksX8_letters_8 2 rfl rfl)
theorem dX8_letters_239 : decode cX8_letters 239 = .ok (.invokestatic 219, 3) := dk_184 0 219 (dk_at dksX8_letters_8 3 rfl rfl)
theorem dX8_letters_242 : decode cX8_letters 242 = .ok (.lreturn, 1) := dk_173 (dk_at dksX8_letters_8 6 rfl rfl)
theorem dX8_letters_243 : decode cX8_letters 243 = .ok (.bipush 108, 2) := dk_16 108 (dk_at dksX8_letters_8 7 rfl rfl)
theorem dX8_letters_245 : decode cX8_letters 245 = .ok (.bipush 111, 2) := dk_16 111 (dk_at dksX8_letters_8 9 rfl rfl)
theorem dX8_letters_247 : decode cX8_letters 247 = .ok (.bipush 97, 2) := dk_16 97 (dk_at dksX8_letters_8 11 rfl rfl)
theorem dX8_letters_249 : decode cX8_letters 249 = .ok (.bipush 100, 2) := dk_16 100 (dk_at dksX8_letters_8 13 rfl rfl)
theorem dX8_letters_251 : decode cX8_letters 251 = .ok (.iconst 0, 1) := dk_3 (dk_at dksX8_letters_8 15 rfl rfl)
theorem dX8_letters_252 : decode cX8_letters 252 = .ok (.iconst 0, 1) := dk_3 (dk_at dksX8_letters_8 16 rfl rfl)
theorem dX8_letters_253 : decode cX8_letters 253 = .ok (.invokestatic 219, 3) := dk_184 0 219 (dk_at dksX8_letters_8 17 rfl rfl)
theorem dX8_letters_256 : decode cX8_letters 256 = .ok (.lreturn, 1) := dk_173 (dk_at dksX8_letters_8 20 rfl rfl)
theorem dX8_letters_257 : decode cX8_letters 257 = .ok (.bipush 97, 2) := dk_16 97 (dk_at dksX8_letters_8 21 rfl rfl)
theorem dX8_letters_259 : decode cX8_letters 259 = .ok (.bipush 116, 2) := dk_16 116 (dk_at dksX8_letters_9 0 rfl rfl)
theorem dX8_letters_261 : decode cX8_letters 261 = .ok (.iconst 0, 1) := dk_3 (dk_at dksX8_letters_9 2 rfl rfl)
theorem dX8_letters_262 : decode cX8_letters 262 = .ok (.iconst 0, 1) := dk_3 (dk_at dksX8_letters_9 3 rfl rfl)
theorem dX8_letters_263 : decode cX8_letters 263 = .ok (.iconst 0, 1) := dk_3 (dk_at dksX8_letters_9 4 rfl rfl)
theorem dX8_letters_264 : decode cX8_letters 264 = .ok (.iconst 0, 1) := dk_3 (dk_at dksX8_letters_9 5 rfl rfl)
theorem dX8_letters_265 : decode cX8_letters 265 = .ok (.invokestatic 219, 3) := dk_184 0 219 (dk_at dksX8_letters_9 6 rfl rfl)
theorem dX8_letters_268 : decode cX8_letters 268 = .ok (.lreturn, 1) := dk_173 (dk_at dksX8_letters_9 9 rfl rfl)
theorem dX8_letters_269 : decode cX8_letters 269 = .ok (.bipush 97, 2) := dk_16 97 (dk_at dksX8_letters_9 10 rfl rfl)
theorem dX8_letters_271 : decode cX8_letters 271 = .ok (.bipush 115, 2) := dk_16 115 (dk_at dksX8_letters_9 12 rfl rfl)
theorem dX8_letters_273 : decode cX8_letters 273 = .ok (.bipush 104, 2) := dk_16 104 (dk_at dksX8_letters_9 14 rfl rfl)
theorem dX8_letters_275 : decode cX8_letters 275 = .ok (.bipush 111, 2) := dk_16 111 (dk_at dksX8_letters_9 16 rfl rfl)
theorem dX8_letters_277 : decode cX8_letters 277 = .ok (.bipush 114, 2) := dk_16 114 (dk_at dksX8_letters_9 18 rfl rfl)
theorem dX8_letters_279 : decode cX8_letters 279 = .ok (.bipush 101, 2) := dk_16 101 (dk_at dksX8_letters_9 20 rfl rfl)
theorem dX8_letters_281 : decode cX8_letters 281 = .ok (.invokestatic 219, 3) := dk_184 0 219 (dk_at dksX8_letters_10 0 rfl rfl)
theorem dX8_letters_284 : decode cX8_letters 284 = .ok (.lreturn, 1) := dk_173 (dk_at dksX8_letters_10 3 rfl rfl)
theorem dX8_letters_285 : decode cX8_letters 285 = .ok (.bipush 97, 2) := dk_16 97 (dk_at dksX8_letters_10 4 rfl rfl)
theorem dX8_letters_287 : decode cX8_letters 287 = .ok (.bipush 98, 2) := dk_16 98 (dk_at dksX8_letters_10 6 rfl rfl)
theorem dX8_letters_289 : decode cX8_letters 289 = .ok (.bipush 111, 2) := dk_16 111 (dk_at dksX8_letters_10 8 rfl rfl)
theorem dX8_letters_291 : decode cX8_letters 291 = .ok (.bipush 97, 2) := dk_16 97 (dk_at dksX8_letters_10 10 rfl rfl)
theorem dX8_letters_293 : decode cX8_letters 293 = .ok (.bipush 114, 2) := dk_16 114 (dk_at dksX8_letters_10 12 rfl rfl)
theorem dX8_letters_295 : decode cX8_letters 295 = .ok (.bipush 100, 2) := dk_16 100 (dk_at dksX8_letters_10 14 rfl rfl)
theorem dX8_letters_297 : decode cX8_letters 297 = .ok (.invokestatic 219, 3) := dk_184 0 219 (dk_at dksX8_letters_10 16 rfl rfl)
theorem dX8_letters_300 : decode cX8_letters 300 = .ok (.lreturn, 1) := dk_173 (dk_at dksX8_letters_10 19 rfl rfl)
theorem dX8_letters_301 : decode cX8_letters 301 = .ok (.bipush 97, 2) := dk_16 97 (dk_at dksX8_letters_10 20 rfl rfl)
theorem dX8_letters_303 : decode cX8_letters 303 = .ok (.bipush 110, 2) := dk_16 110 (dk_at dksX8_letters_10 22 rfl rfl)
theorem dX8_letters_305 : decode cX8_letters 305 = .ok (.bipush 100, 2) := dk_16 100 (dk_at dksX8_letters_11 0 rfl rfl)
theorem dX8_letters_307 : decode cX8_letters 307 = .ok (.iconst 0, 1) := dk_3 (dk_at dksX8_letters_11 2 rfl rfl)
theorem dX8_letters_308 : decode cX8_letters 308 = .ok (.iconst 0, 1) := dk_3 (dk_at dksX8_letters_11 3 rfl rfl)
theorem dX8_letters_309 : decode cX8_letters 309 = .ok (.iconst 0, 1) := dk_3 (dk_at dksX8_letters_11 4 rfl rfl)
theorem dX8_letters_310 : decode cX8_letters 310 = .ok (.invokestatic 219, 3) := dk_184 0 219 (dk_at dksX8_letters_11 5 rfl rfl)
theorem dX8_letters_313 : decode cX8_letters 313 = .ok (.lreturn, 1) := dk_173 (dk_at dksX8_letters_11 8 rfl rfl)
theorem dX8_letters_314 : decode cX8_letters 314 = .ok (.bipush 111, 2) := dk_16 111 (dk_at dksX8_letters_11 9 rfl rfl)
theorem dX8_letters_316 : decode cX8_letters 316 = .ok (.bipush 114, 2) := dk_16 114 (dk_at dksX8_letters_11 11 rfl rfl)
theorem dX8_letters_318 : decode cX8_letters 318 = .ok (.iconst 0, 1) := dk_3 (dk_at dksX8_letters_11 13 rfl rfl)
theorem dX8_letters_319 : decode cX8_letters 319 = .ok (.iconst 0, 1) := dk_3 (dk_at dksX8_letters_11 14 rfl rfl)
theorem dX8_letters_320 : decode cX8_letters 320 = .ok (.iconst 0, 1) := dk_3 (dk_at dksX8_letters_11 15 rfl rfl)
theorem dX8_letters_321 : decode cX8_letters 321 = .ok (.iconst 0, 1) := dk_3 (dk_at dksX8_letters_11 16 rfl rfl)
theorem dX8_letters_322 : decode cX8_letters 322 = .ok (.invokestatic 219, 3) := dk_184 0 219 (dk_at dksX8_letters_11 17 rfl rfl)
theorem dX8_letters_325 : decode cX8_letters 325 = .ok (.lreturn, 1) := dk_173 (dk_at dksX8_letters_11 20 rfl rfl)
theorem dX8_letters_326 : decode cX8_letters 326 = .ok (.bipush 110, 2) := dk_16 110 (dk_at dksX8_letters_11 21 rfl rfl)
theorem dX8_letters_328 : decode cX8_letters 328 = .ok (.bipush 111, 2) := dk_16 111 (dk_at dksX8_letters_12 0 rfl rfl)
theorem dX8_letters_330 : decode cX8_letters 330 = .ok (.bipush 116, 2) := dk_16 116 (dk_at dksX8_letters_12 2 rfl rfl)
theorem dX8_letters_332 : decode cX8_letters 332 = .ok (.iconst 0, 1) := dk_3 (dk_at dksX8_letters_12 4 rfl rfl)
theorem dX8_letters_333 : decode cX8_letters 333 = .ok (.iconst 0, 1) := dk_3 (dk_at dksX8_letters_12 5 rfl rfl)
theorem dX8_letters_334 : decode cX8_letters 334 = .ok (.iconst 0, 1) := dk_3 (dk_at dksX8_letters_12 6 rfl rfl)
theorem dX8_letters_335 : decode cX8_letters 335 = .ok (.invokestatic 219, 3) := dk_184 0 219 (dk_at dksX8_letters_12 7 rfl rfl)
theorem dX8_letters_338 : decode cX8_letters 338 = .ok (.lreturn, 1) := dk_173 (dk_at dksX8_letters_12 10 rfl rfl)
theorem dX8_letters_339 : decode cX8_letters 339 = .ok (.bipush 109, 2) := dk_16 109 (dk_at dksX8_letters_12 11 rfl rfl)
theorem dX8_letters_341 : decode cX8_letters 341 = .ok (.bipush 97, 2) := dk_16 97 (dk_at dksX8_letters_12 13 rfl rfl)
theorem dX8_letters_343 : decode cX8_letters 343 = .ok (.bipush 110, 2) := dk_16 110 (dk_at dksX8_letters_12 15 rfl rfl)
theorem dX8_letters_345 : decode cX8_letters 345 = .ok (.bipush 121, 2) := dk_16 121 (dk_at dksX8_letters_12 17 rfl rfl)
theorem dX8_letters_347 : decode cX8_letters 347 = .ok (.iconst 0, 1) := dk_3 (dk_at dksX8_letters_12 19 rfl rfl)
theorem dX8_letters_348 : decode cX8_letters 348 = .ok (.iconst 0, 1) := dk_3 (dk_at dksX8_letters_12 20 rfl rfl)
theorem dX8_letters_349 : decode cX8_letters 349 = .ok (.invokestatic 219, 3) := dk_184 0 219 (dk_at dksX8_letters_12 21 rfl rfl)
theorem dX8_letters_352 : decode cX8_letters 352 = .ok (.lreturn, 1) := dk_173 (dk_at dksX8_letters_13 0 rfl rfl)
theorem dX8_letters_353 : decode cX8_letters 353 = .ok (.bipush 114, 2) := dk_16 114 (dk_at dksX8_letters_13 1 rfl rfl)
theorem dX8_letters_355 : decode cX8_letters 355 = .ok (.bipush 111, 2) := dk_16 111 (dk_at dksX8_letters_13 3 rfl rfl)
theorem dX8_letters_357 : decode cX8_letters 357 = .ok (.bipush 119, 2) := dk_16 119 (dk_at dksX8_letters_13 5 rfl rfl)
theorem dX8_letters_359 : decode cX8_letters 359 = .ok (.bipush 101, 2) := dk_16 101 (dk_at dksX8_letters_13 7 rfl rfl)
theorem dX8_letters_361 : decode cX8_letters 361 = .ok (.bipush 114, 2) := dk_16 114 (dk_at dksX8_letters_13 9 rfl rfl)
theorem dX8_letters_363 : decode cX8_letters 363 = .ok (.bipush 115, 2) := dk_16 115 (dk_at dksX8_letters_13 11 rfl rfl)
theorem dX8_letters_365 : decode cX8_letters 365 = .ok (.invokestatic 219, 3) := dk_184 0 219 (dk_at dksX8_letters_13 13 rfl rfl)
theorem dX8_letters_368 : decode cX8_letters 368 = .ok (.lreturn, 1) := dk_173 (dk_at dksX8_letters_13 16 rfl rfl)
theorem dX8_letters_369 : decode cX8_letters 369 = .ok (.bipush 98, 2) := dk_16 98 (dk_at dksX8_letters_13 17 rfl rfl)
theorem dX8_letters_371 : decode cX8_letters 371 = .ok (.bipush 111, 2) := dk_16 111 (dk_at dksX8_letters_13 19 rfl rfl)
theorem dX8_letters_373 : decode cX8_letters 373 = .ok (.bipush 97, 2) := dk_16 97 (dk_at dksX8_letters_13 21 rfl rfl)
theorem dX8_letters_375 : decode cX8_letters 375 = .ok (.bipush 116, 2) := dk_16 116 (dk_at dksX8_letters_14 0 rfl rfl)
theorem dX8_letters_377 : decode cX8_letters 377 = .ok (.bipush 115, 2) := dk_16 115 (dk_at dksX8_letters_14 2 rfl rfl)
theorem dX8_letters_379 : decode cX8_letters 379 = .ok (.iconst 0, 1) := dk_3 (dk_at dksX8_letters_14 4 rfl rfl)
theorem dX8_letters_380 : decode cX8_letters 380 = .ok (.invokestatic 219, 3) := dk_184 0 219 (dk_at dksX8_letters_14 5 rfl rfl)
theorem dX8_letters_383 : decode cX8_letters 383 = .ok (.lreturn, 1) := dk_173 (dk_at dksX8_letters_14 8 rfl rfl)
theorem dX8_letters_384 : decode cX8_letters 384 = .ok (.bipush 115, 2) := dk_16 115 (dk_at dksX8_letters_14 9 rfl rfl)
theorem dX8_letters_386 : decode cX8_letters 386 = .ok (.bipush 104, 2) := dk_16 104 (dk_at dksX8_letters_14 11 rfl rfl)
theorem dX8_letters_388 : decode cX8_letters 388 = .ok (.bipush 111, 2) := dk_16 111 (dk_at dksX8_letters_14 13 rfl rfl)
theorem dX8_letters_390 : decode cX8_letters 390 = .ok (.bipush 114, 2) := dk_16 114 (dk_at dksX8_letters_14 15 rfl rfl)
theorem dX8_letters_392 : decode cX8_letters 392 = .ok (.bipush 101, 2) := dk_16 101 (dk_at dksX8_letters_14 17 rfl rfl)
theorem dX8_letters_394 : decode cX8_letters 394 = .ok (.iconst 0, 1) := dk_3 (dk_at dksX8_letters_14 19 rfl rfl)
theorem dX8_letters_395 : decode cX8_letters 395 = .ok (.invokestatic 219, 3) := dk_184 0 219 (dk_at dksX8_letters_14 20 rfl rfl)
theorem dX8_letters_398 : decode cX8_letters 398 = .ok (.lreturn, 1) := dk_173 (dk_at dksX8_letters_14 23 rfl rfl)
abbrev cX8_spelled : ByteArray := prog_19_method_12_code
def yX8_spelled : MethodName := ⟨RX8, "spelled", "(IIIIII)J"⟩
def dkwX8_spelled_3 : List UInt8 := [55, 6, 21, 5, 153, 0, 16, 22, 6, 8, 121, 21, 5, 16, 96, 100, 133, 129, 55, 6, 22, 6, 173]
abbrev dktX8_spelled_3 : List UInt8 := dkwX8_spelled_3 ++ []
def dkwX8_spelled_2 : List UInt8 := [16, 96, 100, 133, 129, 55, 6, 21, 4, 153, 0, 16, 22, 6, 8, 121, 21, 4, 16, 96, 100, 133, 129]
abbrev dktX8_spelled_2 : List UInt8 := dkwX8_spelled_2 ++ dktX8_spelled_3
def dkwX8_spelled_1 : List UInt8 := [153, 0, 15, 22, 6, 8, 121, 28, 16, 96, 100, 133, 129, 55, 6, 29, 153, 0, 15, 22, 6, 8, 121, 29]
abbrev dktX8_spelled_1 : List UInt8 := dkwX8_spelled_1 ++ dktX8_spelled_2
def dkwX8_spelled_0 : List UInt8 := [26, 16, 96, 100, 133, 55, 6, 27, 153, 0, 15, 22, 6, 8, 121, 27, 16, 96, 100, 133, 129, 55, 6, 28]
abbrev dktX8_spelled_0 : List UInt8 := dkwX8_spelled_0 ++ dktX8_spelled_1
theorem dksX8_spelled_0 : cX8_spelled.data.toList.drop 0 = dktX8_spelled_0 := by decide +kernel
theorem dksX8_spelled_1 : cX8_spelled.data.toList.drop 24 = dktX8_spelled_1 := dk_seg dksX8_spelled_0 24 rfl rfl
theorem dksX8_spelled_2 : cX8_spelled.data.toList.drop 48 = dktX8_spelled_2 := dk_seg dksX8_spelled_1 24 rfl rfl
theorem dksX8_spelled_3 : cX8_spelled.data.toList.drop 71 = dktX8_spelled_3 := dk_seg dksX8_spelled_2 23 rfl rfl
theorem dX8_spelled_0 : decode cX8_spelled 0 = .ok (.iload_n 0, 1) := dk_26 (dk_at dksX8_spelled_0 0 rfl rfl)
theorem dX8_spelled_1 : decode cX8_spelled 1 = .ok (.bipush 96, 2) := dk_16 96 (dk_at dksX8_spelled_0 1 rfl rfl)
theorem dX8_spelled_3 : decode cX8_spelled 3 = .ok (.isub, 1) := dk_100 (dk_at dksX8_spelled_0 3 rfl rfl)
theorem dX8_spelled_4 : decode cX8_spelled 4 = .ok (.i2l, 1) := dk_133 (dk_at dksX8_spelled_0 4 rfl rfl)
theorem dX8_spelled_5 : decode cX8_spelled 5 = .ok (.lstore 6, 2) := dk_55 6 (dk_at dksX8_spelled_0 5 rfl rfl)
theorem dX8_spelled_7 : decode cX8_spelled 7 = .ok (.iload_n 1, 1) := dk_27 (dk_at dksX8_spelled_0 7 rfl rfl)
theorem dX8_spelled_8 : decode cX8_spelled 8 = .ok (.ifCond .eq 15, 3) := dk_153 0 15 (dk_at dksX8_spelled_0 8 rfl rfl)
theorem dX8_spelled_11 : decode cX8_spelled 11 = .ok (.lload 6, 2) := dk_22 6 (dk_at dksX8_spelled_0 11 rfl rfl)
theorem dX8_spelled_13 : decode cX8_spelled 13 = .ok (.iconst 5, 1) := dk_8 (dk_at dksX8_spelled_0 13 rfl rfl)
theorem dX8_spelled_14 : decode cX8_spelled 14 = .ok (.lshl, 1) := dk_121 (dk_at dksX8_spelled_0 14 rfl rfl)
theorem dX8_spelled_15 : decode cX8_spelled 15 = .ok (.iload_n 1, 1) := dk_27 (dk_at dksX8_spelled_0 15 rfl rfl)
theorem dX8_spelled_16 : decode cX8_spelled 16 = .ok (.bipush 96, 2) := dk_16 96 (dk_at dksX8_spelled_0 16 rfl rfl)
theorem dX8_spelled_18 : decode cX8_spelled 18 = .ok (.isub, 1) := dk_100 (dk_at dksX8_spelled_0 18 rfl rfl)
theorem dX8_spelled_19 : decode cX8_spelled 19 = .ok (.i2l, 1) := dk_133 (dk_at dksX8_spelled_0 19 rfl rfl)
theorem dX8_spelled_20 : decode cX8_spelled 20 = .ok (.lor, 1) := dk_129 (dk_at dksX8_spelled_0 20 rfl rfl)
theorem dX8_spelled_21 : decode cX8_spelled 21 = .ok (.lstore 6, 2) := dk_55 6 (dk_at dksX8_spelled_0 21 rfl rfl)
theorem dX8_spelled_23 : decode cX8_spelled 23 = .ok (.iload_n 2, 1) := dk_28 (dk_at dksX8_spelled_0 23 rfl rfl)
theorem dX8_spelled_24 : decode cX8_spelled 24 = .ok (.ifCond .eq 15, 3) := dk_153 0 15 (dk_at dksX8_spelled_1 0 rfl rfl)
theorem dX8_spelled_27 : decode cX8_spelled 27 = .ok (.lload 6, 2) := dk_22 6 (dk_at dksX8_spelled_1 3 rfl rfl)
theorem dX8_spelled_29 : decode cX8_spelled 29 = .ok (.iconst 5, 1) := dk_8 (dk_at dksX8_spelled_1 5 rfl rfl)
theorem dX8_spelled_30 : decode cX8_spelled 30 = .ok (.lshl, 1) := dk_121 (dk_at dksX8_spelled_1 6 rfl rfl)
theorem dX8_spelled_31 : decode cX8_spelled 31 = .ok (.iload_n 2, 1) := dk_28 (dk_at dksX8_spelled_1 7 rfl rfl)
theorem dX8_spelled_32 : decode cX8_spelled 32 = .ok (.bipush 96, 2) := dk_16 96 (dk_at dksX8_spelled_1 8 rfl rfl)
theorem dX8_spelled_34 : decode cX8_spelled 34 = .ok (.isub, 1) := dk_100 (dk_at dksX8_spelled_1 10 rfl rfl)
theorem dX8_spelled_35 : decode cX8_spelled 35 = .ok (.i2l, 1) := dk_133 (dk_at dksX8_spelled_1 11 rfl rfl)
theorem dX8_spelled_36 : decode cX8_spelled 36 = .ok (.lor, 1) := dk_129 (dk_at dksX8_spelled_1 12 rfl rfl)
theorem dX8_spelled_37 : decode cX8_spelled 37 = .ok (.lstore 6, 2) := dk_55 6 (dk_at dksX8_spelled_1 13 rfl rfl)
theorem dX8_spelled_39 : decode cX8_spelled 39 = .ok (.iload_n 3, 1) := dk_29 (dk_at dksX8_spelled_1 15 rfl rfl)
theorem dX8_spelled_40 : decode cX8_spelled 40 = .ok (.ifCond .eq 15, 3) := dk_153 0 15 (dk_at dksX8_spelled_1 16 rfl rfl)
theorem dX8_spelled_43 : decode cX8_spelled 43 = .ok (.lload 6, 2) := dk_22 6 (dk_at dksX8_spelled_1 19 rfl rfl)
theorem dX8_spelled_45 : decode cX8_spelled 45 = .ok (.iconst 5, 1) := dk_8 (dk_at dksX8_spelled_1 21 rfl rfl)
theorem dX8_spelled_46 : decode cX8_spelled 46 = .ok (.lshl, 1) := dk_121 (dk_at dksX8_spelled_1 22 rfl rfl)
theorem dX8_spelled_47 : decode cX8_spelled 47 = .ok (.iload_n 3, 1) := dk_29 (dk_at dksX8_spelled_1 23 rfl rfl)
theorem dX8_spelled_48 : decode cX8_spelled 48 = .ok (.bipush 96, 2) := dk_16 96 (dk_at dksX8_spelled_2 0 rfl rfl)
theorem dX8_spelled_50 : decode cX8_spelled 50 = .ok (.isub, 1) := dk_100 (dk_at dksX8_spelled_2 2 rfl rfl)
theorem dX8_spelled_51 : decode cX8_spelled 51 = .ok (.i2l, 1) := dk_133 (dk_at dksX8_spelled_2 3 rfl rfl)
theorem dX8_spelled_52 : decode cX8_spelled 52 = .ok (.lor, 1) := dk_129 (dk_at dksX8_spelled_2 4 rfl rfl)
theorem dX8_spelled_53 : decode cX8_spelled 53 = .ok (.lstore 6, 2) := dk_55 6 (dk_at dksX8_spelled_2 5 rfl rfl)
theorem dX8_spelled_55 : decode cX8_spelled 55 = .ok (.iload 4, 2) := dk_21 4 (dk_at dksX8_spelled_2 7 rfl rfl)
theorem dX8_spelled_57 : decode cX8_spelled 57 = .ok (.ifCond .eq 16, 3) := dk_153 0 16 (dk_at dksX8_spelled_2 9 rfl rfl)
theorem dX8_spelled_60 : decode cX8_spelled 60 = .ok (.lload 6, 2) := dk_22 6 (dk_at dksX8_spelled_2 12 rfl rfl)
theorem dX8_spelled_62 : decode cX8_spelled 62 = .ok (.iconst 5, 1) := dk_8 (dk_at dksX8_spelled_2 14 rfl rfl)
theorem dX8_spelled_63 : decode cX8_spelled 63 = .ok (.lshl, 1) := dk_121 (dk_at dksX8_spelled_2 15 rfl rfl)
theorem dX8_spelled_64 : decode cX8_spelled 64 = .ok (.iload 4, 2) := dk_21 4 (dk_at dksX8_spelled_2 16 rfl rfl)
theorem dX8_spelled_66 : decode cX8_spelled 66 = .ok (.bipush 96, 2) := dk_16 96 (dk_at dksX8_spelled_2 18 rfl rfl)
theorem dX8_spelled_68 : decode cX8_spelled 68 = .ok (.isub, 1) := dk_100 (dk_at dksX8_spelled_2 20 rfl rfl)
theorem dX8_spelled_69 : decode cX8_spelled 69 = .ok (.i2l, 1) := dk_133 (dk_at dksX8_spelled_2 21 rfl rfl)
theorem dX8_spelled_70 : decode cX8_spelled 70 = .ok (.lor, 1) := dk_129 (dk_at dksX8_spelled_2 22 rfl rfl)
theorem dX8_spelled_71 : decode cX8_spelled 71 = .ok (.lstore 6, 2) := dk_55 6 (dk_at dksX8_spelled_3 0 rfl rfl)
theorem dX8_spelled_73 : decode cX8_spelled 73 = .ok (.iload 5, 2) := dk_21 5 (dk_at dksX8_spelled_3 2 rfl rfl)
theorem dX8_spelled_75 : decode cX8_spelled 75 = .ok (.ifCond .eq 16, 3) := dk_153 0 16 (dk_at dksX8_spelled_3 4 rfl rfl)
theorem dX8_spelled_78 : decode cX8_spelled 78 = .ok (.lload 6, 2) := dk_22 6 (dk_at dksX8_spelled_3 7 rfl rfl)
theorem dX8_spelled_80 : decode cX8_spelled 80 = .ok (.iconst 5, 1) := dk_8 (dk_at dksX8_spelled_3 9 rfl rfl)
theorem dX8_spelled_81 : decode cX8_spelled 81 = .ok (.lshl, 1) := dk_121 (dk_at dksX8_spelled_3 10 rfl rfl)
theorem dX8_spelled_82 : decode cX8_spelled 82 = .ok (.iload 5, 2) := dk_21 5 (dk_at dksX8_spelled_3 11 rfl rfl)
theorem dX8_spelled_84 : decode cX8_spelled 84 = .ok (.bipush 96, 2) := dk_16 96 (dk_at dksX8_spelled_3 13 rfl rfl)
theorem dX8_spelled_86 : decode cX8_spelled 86 = .ok (.isub, 1) := dk_100 (dk_at dksX8_spelled_3 15 rfl rfl)
theorem dX8_spelled_87 : decode cX8_spelled 87 = .ok (.i2l, 1) := dk_133 (dk_at dksX8_spelled_3 16 rfl rfl)
theorem dX8_spelled_88 : decode cX8_spelled 88 = .ok (.lor, 1) := dk_129 (dk_at dksX8_spelled_3 17 rfl rfl)
theorem dX8_spelled_89 : decode cX8_spelled 89 = .ok (.lstore 6, 2) := dk_55 6 (dk_at dksX8_spelled_3 18 rfl rfl)
theorem dX8_spelled_91 : decode cX8_spelled 91 = .ok (.lload 6, 2) := dk_22 6 (dk_at dksX8_spelled_3 20 rfl rfl)
theorem dX8_spelled_93 : decode cX8_spelled 93 = .ok (.lreturn, 1) := dk_173 (dk_at dksX8_spelled_3 22 rfl rfl)
abbrev cX8_number : ByteArray := prog_19_method_19_code
def yX8_number : MethodName := ⟨RX8, "number", "(II)I"⟩
def dkwX8_number_3 : List UInt8 := [29, 172]
abbrev dktX8_number_3 : List UInt8 := dkwX8_number_3 ++ []
def dkwX8_number_2 : List UInt8 := [164, 0, 8, 42, 5, 182, 0, 241, 42, 180, 0, 200, 62, 42, 182, 0, 230, 153, 0, 7, 42, 182, 0, 238]
abbrev dktX8_number_2 : List UInt8 := dkwX8_number_2 ++ dktX8_number_3
def dkwX8_number_1 : List UInt8 := [167, 0, 32, 42, 180, 0, 216, 6, 163, 0, 19, 42, 180, 0, 200, 27, 161, 0, 11, 42, 180, 0, 200, 28]
abbrev dktX8_number_1 : List UInt8 := dkwX8_number_1 ++ dktX8_number_2
def dkwX8_number_0 : List UInt8 := [42, 182, 0, 230, 154, 0, 5, 3, 172, 42, 180, 0, 206, 5, 159, 0, 11, 42, 4, 182, 0, 241]
abbrev dktX8_number_0 : List UInt8 := dkwX8_number_0 ++ dktX8_number_1
theorem dksX8_number_0 : cX8_number.data.toList.drop 0 = dktX8_number_0 := by decide +kernel
theorem dksX8_number_1 : cX8_number.data.toList.drop 22 = dktX8_number_1 := dk_seg dksX8_number_0 22 rfl rfl
theorem dksX8_number_2 : cX8_number.data.toList.drop 46 = dktX8_number_2 := dk_seg dksX8_number_1 24 rfl rfl
theorem dksX8_number_3 : cX8_number.data.toList.drop 70 = dktX8_number_3 := dk_seg dksX8_number_2 24 rfl rfl
theorem dX8_number_0 : decode cX8_number 0 = .ok (.aload_n 0, 1) := dk_42 (dk_at dksX8_number_0 0 rfl rfl)
theorem dX8_number_1 : decode cX8_number 1 = .ok (.invokevirtual 230, 3) := dk_182 0 230 (dk_at dksX8_number_0 1 rfl rfl)
theorem dX8_number_4 : decode cX8_number 4 = .ok (.ifCond .ne 5, 3) := dk_154 0 5 (dk_at dksX8_number_0 4 rfl rfl)
theorem dX8_number_7 : decode cX8_number 7 = .ok (.iconst 0, 1) := dk_3 (dk_at dksX8_number_0 7 rfl rfl)
theorem dX8_number_8 : decode cX8_number 8 = .ok (.ireturn, 1) := dk_172 (dk_at dksX8_number_0 8 rfl rfl)
theorem dX8_number_9 : decode cX8_number 9 = .ok (.aload_n 0, 1) := dk_42 (dk_at dksX8_number_0 9 rfl rfl)
theorem dX8_number_10 : decode cX8_number 10 = .ok (.getfield 206, 3) := dk_180 0 206 (dk_at dksX8_number_0 10 rfl rfl)
theorem dX8_number_13 : decode cX8_number 13 = .ok (.iconst 2, 1) := dk_5 (dk_at dksX8_number_0 13 rfl rfl)
theorem dX8_number_14 : decode cX8_number 14 = .ok (.if_icmp .eq 11, 3) := dk_159 0 11 (dk_at dksX8_number_0 14 rfl rfl)
theorem dX8_number_17 : decode cX8_number 17 = .ok (.aload_n 0, 1) := dk_42 (dk_at dksX8_number_0 17 rfl rfl)
theorem dX8_number_18 : decode cX8_number 18 = .ok (.iconst 1, 1) := dk_4 (dk_at dksX8_number_0 18 rfl rfl)
theorem dX8_number_19 : decode cX8_number 19 = .ok (.invokevirtual 241, 3) := dk_182 0 241 (dk_at dksX8_number_0 19 rfl rfl)
theorem dX8_number_22 : decode cX8_number 22 = .ok (.goto 32, 3) := dk_167 0 32 (dk_at dksX8_number_1 0 rfl rfl)
theorem dX8_number_25 : decode cX8_number 25 = .ok (.aload_n 0, 1) := dk_42 (dk_at dksX8_number_1 3 rfl rfl)
theorem dX8_number_26 : decode cX8_number 26 = .ok (.getfield 216, 3) := dk_180 0 216 (dk_at dksX8_number_1 4 rfl rfl)
theorem dX8_number_29 : decode cX8_number 29 = .ok (.iconst 3, 1) := dk_6 (dk_at dksX8_number_1 7 rfl rfl)
theorem dX8_number_30 : decode cX8_number 30 = .ok (.if_icmp .gt 19, 3) := dk_163 0 19 (dk_at dksX8_number_1 8 rfl rfl)
theorem dX8_number_33 : decode cX8_number 33 = .ok (.aload_n 0, 1) := dk_42 (dk_at dksX8_number_1 11 rfl rfl)
theorem dX8_number_34 : decode cX8_number 34 = .ok (.getfield 200, 3) := dk_180 0 200 (dk_at dksX8_number_1 12 rfl rfl)
theorem dX8_number_37 : decode cX8_number 37 = .ok (.iload_n 1, 1) := dk_27 (dk_at dksX8_number_1 15 rfl rfl)
theorem dX8_number_38 : decode cX8_number 38 = .ok (.if_icmp .lt 11, 3) := dk_161 0 11 (dk_at dksX8_number_1 16 rfl rfl)
theorem dX8_number_41 : decode cX8_number 41 = .ok (.aload_n 0, 1) := dk_42 (dk_at dksX8_number_1 19 rfl rfl)
theorem dX8_number_42 : decode cX8_number 42 = .ok (.getfield 200, 3) := dk_180 0 200 (dk_at dksX8_number_1 20 rfl rfl)
theorem dX8_number_45 : decode cX8_number 45 = .ok (.iload_n 2, 1) := dk_28 (dk_at dksX8_number_1 23 rfl rfl)
theorem dX8_number_46 : decode cX8_number 46 = .ok (.if_icmp .le 8, 3) := dk_164 0 8 (dk_at dksX8_number_2 0 rfl rfl)
theorem dX8_number_49 : decode cX8_number 49 = .ok (.aload_n 0, 1) := dk_42 (dk_at dksX8_number_2 3 rfl rfl)
theorem dX8_number_50 : decode cX8_number 50 = .ok (.iconst 2, 1) := dk_5 (dk_at dksX8_number_2 4 rfl rfl)
theorem dX8_number_51 : decode cX8_number 51 = .ok (.invokevirtual 241, 3) := dk_182 0 241 (dk_at dksX8_number_2 5 rfl rfl)
theorem dX8_number_54 : decode cX8_number 54 = .ok (.aload_n 0, 1) := dk_42 (dk_at dksX8_number_2 8 rfl rfl)
theorem dX8_number_55 : decode cX8_number 55 = .ok (.getfield 200, 3) := dk_180 0 200 (dk_at dksX8_number_2 9 rfl rfl)
theorem dX8_number_58 : decode cX8_number 58 = .ok (.istore_n 3, 1) := dk_62 (dk_at dksX8_number_2 12 rfl rfl)
theorem dX8_number_59 : decode cX8_number 59 = .ok (.aload_n 0, 1) := dk_42 (dk_at dksX8_number_2 13 rfl rfl)
theorem dX8_number_60 : decode cX8_number 60 = .ok (.invokevirtual 230, 3) := dk_182 0 230 (dk_at dksX8_number_2 14 rfl rfl)
theorem dX8_number_63 : decode cX8_number 63 = .ok (.ifCond .eq 7, 3) := dk_153 0 7 (dk_at dksX8_number_2 17 rfl rfl)
theorem dX8_number_66 : decode cX8_number 66 = .ok (.aload_n 0, 1) := dk_42 (dk_at dksX8_number_2 20 rfl rfl)
theorem dX8_number_67 : decode cX8_number 67 = .ok (.invokevirtual 238, 3) := dk_182 0 238 (dk_at dksX8_number_2 21 rfl rfl)
theorem dX8_number_70 : decode cX8_number 70 = .ok (.iload_n 3, 1) := dk_29 (dk_at dksX8_number_3 0 rfl rfl)
theorem dX8_number_71 : decode cX8_number 71 = .ok (.ireturn, 1) := dk_172 (dk_at dksX8_number_3 1 rfl rfl)
abbrev cX8_isGood : ByteArray := prog_19_method_16_code
def yX8_isGood : MethodName := ⟨RX8, "isGood", "()Z"⟩
def dkwX8_isGood_0 : List UInt8 := [42, 180, 0, 227, 154, 0, 7, 4, 167, 0, 4, 3, 172]
abbrev dktX8_isGood_0 : List UInt8 := dkwX8_isGood_0 ++ []
theorem dksX8_isGood_0 : cX8_isGood.data.toList.drop 0 = dktX8_isGood_0 := by decide +kernel
theorem dX8_isGood_0 : decode cX8_isGood 0 = .ok (.aload_n 0, 1) := dk_42 (dk_at dksX8_isGood_0 0 rfl rfl)
theorem dX8_isGood_1 : decode cX8_isGood 1 = .ok (.getfield 227, 3) := dk_180 0 227 (dk_at dksX8_isGood_0 1 rfl rfl)
theorem dX8_isGood_4 : decode cX8_isGood 4 = .ok (.ifCond .ne 7, 3) := dk_154 0 7 (dk_at dksX8_isGood_0 4 rfl rfl)
theorem dX8_isGood_7 : decode cX8_isGood 7 = .ok (.iconst 1, 1) := dk_4 (dk_at dksX8_isGood_0 7 rfl rfl)
theorem dX8_isGood_8 : decode cX8_isGood 8 = .ok (.goto 4, 3) := dk_167 0 4 (dk_at dksX8_isGood_0 8 rfl rfl)
theorem dX8_isGood_11 : decode cX8_isGood 11 = .ok (.iconst 0, 1) := dk_3 (dk_at dksX8_isGood_0 11 rfl rfl)
theorem dX8_isGood_12 : decode cX8_isGood 12 = .ok (.ireturn, 1) := dk_172 (dk_at dksX8_isGood_0 12 rfl rfl)
abbrev cX8_wrong : ByteArray := prog_19_method_15_code
def yX8_wrong : MethodName := ⟨RX8, "wrong", "(I)V"⟩
def dkwX8_wrong_0 : List UInt8 := [42, 180, 0, 227, 153, 0, 4, 177, 42, 27, 181, 0, 227, 42, 42, 180, 0, 193, 181, 0, 51, 177]
abbrev dktX8_wrong_0 : List UInt8 := dkwX8_wrong_0 ++ []
theorem dksX8_wrong_0 : cX8_wrong.data.toList.drop 0 = dktX8_wrong_0 := by decide +kernel
theorem dX8_wrong_0 : decode cX8_wrong 0 = .ok (.aload_n 0, 1) := dk_42 (dk_at dksX8_wrong_0 0 rfl rfl)
theorem dX8_wrong_1 : decode cX8_wrong 1 = .ok (.getfield 227, 3) := dk_180 0 227 (dk_at dksX8_wrong_0 1 rfl rfl)
theorem dX8_wrong_4 : decode cX8_wrong 4 = .ok (.ifCond .eq 4, 3) := dk_153 0 4 (dk_at dksX8_wrong_0 4 rfl rfl)
theorem dX8_wrong_7 : decode cX8_wrong 7 = .ok (.return_, 1) := dk_177 (dk_at dksX8_wrong_0 7 rfl rfl)
theorem dX8_wrong_8 : decode cX8_wrong 8 = .ok (.aload_n 0, 1) := dk_42 (dk_at dksX8_wrong_0 8 rfl rfl)
theorem dX8_wrong_9 : decode cX8_wrong 9 = .ok (.iload_n 1, 1) := dk_27 (dk_at dksX8_wrong_0 9 rfl rfl)
theorem dX8_wrong_10 : decode cX8_wrong 10 = .ok (.putfield 227, 3) := dk_181 0 227 (dk_at dksX8_wrong_0 10 rfl rfl)
theorem dX8_wrong_13 : decode cX8_wrong 13 = .ok (.aload_n 0, 1) := dk_42 (dk_at dksX8_wrong_0 13 rfl rfl)
theorem dX8_wrong_14 : decode cX8_wrong 14 = .ok (.aload_n 0, 1) := dk_42 (dk_at dksX8_wrong_0 14 rfl rfl)
theorem dX8_wrong_15 : decode cX8_wrong 15 = .ok (.getfield 193, 3) := dk_180 0 193 (dk_at dksX8_wrong_0 15 rfl rfl)
theorem dX8_wrong_18 : decode cX8_wrong 18 = .ok (.putfield 51, 3) := dk_181 0 51 (dk_at dksX8_wrong_0 18 rfl rfl)
theorem dX8_wrong_21 : decode cX8_wrong 21 = .ok (.return_, 1) := dk_177 (dk_at dksX8_wrong_0 21 rfl rfl)
abbrev cX8_isSign : ByteArray := prog_19_method_17_code
def yX8_isSign : MethodName := ⟨RX8, "isSign", "(I)Z"⟩
def dkwX8_isSign_0 : List UInt8 := [42, 180, 0, 206, 6, 160, 0, 15, 42, 180, 0, 203, 27, 160, 0, 7, 4, 167, 0, 4, 3, 172]
abbrev dktX8_isSign_0 : List UInt8 := dkwX8_isSign_0 ++ []
theorem dksX8_isSign_0 : cX8_isSign.data.toList.drop 0 = dktX8_isSign_0 := by decide +kernel
theorem dX8_isSign_0 : decode cX8_isSign 0 = .ok (.aload_n 0, 1) := dk_42 (dk_at dksX8_isSign_0 0 rfl rfl)
theorem dX8_isSign_1 : decode cX8_isSign 1 = .ok (.getfield 206, 3) := dk_180 0 206 (dk_at dksX8_isSign_0 1 rfl rfl)
theorem dX8_isSign_4 : decode cX8_isSign 4 = .ok (.iconst 3, 1) := dk_6 (dk_at dksX8_isSign_0 4 rfl rfl)
theorem dX8_isSign_5 : decode cX8_isSign 5 = .ok (.if_icmp .ne 15, 3) := dk_160 0 15 (dk_at dksX8_isSign_0 5 rfl rfl)
theorem dX8_isSign_8 : decode cX8_isSign 8 = .ok (.aload_n 0, 1) := dk_42 (dk_at dksX8_isSign_0 8 rfl rfl)
theorem dX8_isSign_9 : decode cX8_isSign 9 = .ok (.getfield 203, 3) := dk_180 0 203 (dk_at dksX8_isSign_0 9 rfl rfl)
theorem dX8_isSign_12 : decode cX8_isSign 12 = .ok (.iload_n 1, 1) := dk_27 (dk_at dksX8_isSign_0 12 rfl rfl)
theorem dX8_isSign_13 : decode cX8_isSign 13 = .ok (.if_icmp .ne 7, 3) := dk_160 0 7 (dk_at dksX8_isSign_0 13 rfl rfl)
theorem dX8_isSign_16 : decode cX8_isSign 16 = .ok (.iconst 1, 1) := dk_4 (dk_at dksX8_isSign_0 16 rfl rfl)
theorem dX8_isSign_17 : decode cX8_isSign 17 = .ok (.goto 4, 3) := dk_167 0 4 (dk_at dksX8_isSign_0 17 rfl rfl)
theorem dX8_isSign_20 : decode cX8_isSign 20 = .ok (.iconst 0, 1) := dk_3 (dk_at dksX8_isSign_0 20 rfl rfl)
theorem dX8_isSign_21 : decode cX8_isSign 21 = .ok (.ireturn, 1) := dk_172 (dk_at dksX8_isSign_0 21 rfl rfl)
abbrev cX8_clause : ByteArray := prog_19_method_27_code
def yX8_clause : MethodName := ⟨RX8, "clause", "()V"⟩
def dkwX8_clause_5 : List UInt8 := [42, 182, 0, 230, 153, 0, 7, 42, 182, 0, 238, 177]
abbrev dktX8_clause_5 : List UInt8 := dkwX8_clause_5 ++ []
def dkwX8_clause_4 : List UInt8 := [182, 1, 36, 42, 182, 0, 230, 153, 0, 17, 42, 16, 59, 182, 1, 39, 154, 0, 8, 42, 4, 182, 0, 241]
abbrev dktX8_clause_4 : List UInt8 := dkwX8_clause_4 ++ dktX8_clause_5
def dkwX8_clause_3 : List UInt8 := [167, 0, 4, 3, 182, 1, 29, 167, 0, 19, 27, 8, 160, 0, 10, 42, 182, 1, 33, 167, 0, 7, 42]
abbrev dktX8_clause_3 : List UInt8 := dkwX8_clause_3 ++ dktX8_clause_4
def dkwX8_clause_2 : List UInt8 := [42, 182, 1, 26, 167, 0, 46, 27, 6, 159, 0, 8, 27, 7, 160, 0, 20, 42, 27, 6, 160, 0, 7, 4]
abbrev dktX8_clause_2 : List UInt8 := dkwX8_clause_2 ++ dktX8_clause_3
def dkwX8_clause_1 : List UInt8 := [182, 0, 230, 154, 0, 4, 177, 27, 4, 160, 0, 10, 42, 182, 1, 23, 167, 0, 58, 27, 5, 160, 0, 10]
abbrev dktX8_clause_1 : List UInt8 := dkwX8_clause_1 ++ dktX8_clause_2
def dkwX8_clause_0 : List UInt8 := [42, 182, 0, 234, 60, 27, 4, 161, 0, 9, 27, 16, 6, 164, 0, 8, 42, 4, 182, 0, 241, 42]
abbrev dktX8_clause_0 : List UInt8 := dkwX8_clause_0 ++ dktX8_clause_1
theorem dksX8_clause_0 : cX8_clause.data.toList.drop 0 = dktX8_clause_0 := by decide +kernel
theorem dksX8_clause_1 : cX8_clause.data.toList.drop 22 = dktX8_clause_1 := dk_seg dksX8_clause_0 22 rfl rfl
theorem dksX8_clause_2 : cX8_clause.data.toList.drop 46 = dktX8_clause_2 := dk_seg dksX8_clause_1 24 rfl rfl
theorem dksX8_clause_3 : cX8_clause.data.toList.drop 70 = dktX8_clause_3 := dk_seg dksX8_clause_2 24 rfl rfl
theorem dksX8_clause_4 : cX8_clause.data.toList.drop 93 = dktX8_clause_4 := dk_seg dksX8_clause_3 23 rfl rfl
theorem dksX8_clause_5 : cX8_clause.data.toList.drop 117 = dktX8_clause_5 := dk_seg dksX8_clause_4 24 rfl rfl
theorem dX8_clause_0 : decode cX8_clause 0 = .ok (.aload_n 0, 1) := dk_42 (dk_at dksX8_clause_0 0 rfl rfl)
theorem dX8_clause_1 : decode cX8_clause 1 = .ok (.invokevirtual 234, 3) := dk_182 0 234 (dk_at dksX8_clause_0 1 rfl rfl)
theorem dX8_clause_4 : decode cX8_clause 4 = .ok (.istore_n 1, 1) := dk_60 (dk_at dksX8_clause_0 4 rfl rfl)
theorem dX8_clause_5 : decode cX8_clause 5 = .ok (.iload_n 1, 1) := dk_27 (dk_at dksX8_clause_0 5 rfl rfl)
theorem dX8_clause_6 : decode cX8_clause 6 = .ok (.iconst 1, 1) := dk_4 (dk_at dksX8_clause_0 6 rfl rfl)
theorem dX8_clause_7 : decode cX8_clause 7 = .ok (.if_icmp .lt 9, 3) := dk_161 0 9 (dk_at dksX8_clause_0 7 rfl rfl)
theorem dX8_clause_10 : decode cX8_clause 10 = .ok (.iload_n 1, 1) := dk_27 (dk_at dksX8_clause_0 10 rfl rfl)
theorem dX8_clause_11 : decode cX8_clause 11 = .ok (.bipush 6, 2) := dk_16 6 (dk_at dksX8_clause_0 11 rfl rfl)
theorem dX8_clause_13 : decode cX8_clause 13 = .ok (.if_icmp .le 8, 3) := dk_164 0 8 (dk_at dksX8_clause_0 13 rfl rfl)
theorem dX8_clause_16 : decode cX8_clause 16 = .ok (.aload_n 0, 1) := dk_42 (dk_at dksX8_clause_0 16 rfl rfl)
theorem dX8_clause_17 : decode cX8_clause 17 = .ok (.iconst 1, 1) := dk_4 (dk_at dksX8_clause_0 17 rfl rfl)
theorem dX8_clause_18 : decode cX8_clause 18 = .ok (.invokevirtual 241, 3) := dk_182 0 241 (dk_at dksX8_clause_0 18 rfl rfl)
theorem dX8_clause_21 : decode cX8_clause 21 = .ok (.aload_n 0, 1) := dk_42 (dk_at dksX8_clause_0 21 rfl rfl)
theorem dX8_clause_22 : decode cX8_clause 22 = .ok (.invokevirtual 230, 3) := dk_182 0 230 (dk_at dksX8_clause_1 0 rfl rfl)
theorem dX8_clause_25 : decode cX8_clause 25 = .ok (.ifCond .ne 4, 3) := dk_154 0 4 (dk_at dksX8_clause_1 3 rfl rfl)
theorem dX8_clause_28 : decode cX8_clause 28 = .ok (.return_, 1) := dk_177 (dk_at dksX8_clause_1 6 rfl rfl)
theorem dX8_clause_29 : decode cX8_clause 29 = .ok (.iload_n 1, 1) := dk_27 (dk_at dksX8_clause_1 7 rfl rfl)
theorem dX8_clause_30 : decode cX8_clause 30 = .ok (.iconst 1, 1) := dk_4 (dk_at dksX8_clause_1 8 rfl rfl)
theorem dX8_clause_31 : decode cX8_clause 31 = .ok (.if_icmp .ne 10, 3) := dk_160 0 10 (dk_at dksX8_clause_1 9 rfl rfl)
theorem dX8_clause_34 : decode cX8_clause 34 = .ok (.aload_n 0, 1) := dk_42 (dk_at dksX8_clause_1 12 rfl rfl)
theorem dX8_clause_35 : decode cX8_clause 35 = .ok (.invokevirtual 279, 3) := dk_182 1 23 (dk_at dksX8_clause_1 13 rfl rfl)
theorem dX8_clause_38 : decode cX8_clause 38 = .ok (.goto 58, 3) := dk_167 0 58 (dk_at dksX8_clause_1 16 rfl rfl)
theorem dX8_clause_41 : decode cX8_clause 41 = .ok (.iload_n 1, 1) := dk_27 (dk_at dksX8_clause_1 19 rfl rfl)
theorem dX8_clause_42 : decode cX8_clause 42 = .ok (.iconst 2, 1) := dk_5 (dk_at dksX8_clause_1 20 rfl rfl)
theorem dX8_clause_43 : decode cX8_clause 43 = .ok (.if_icmp .ne 10, 3) := dk_160 0 10 (dk_at dksX8_clause_1 21 rfl rfl)
theorem dX8_clause_46 : decode cX8_clause 46 = .ok (.aload_n 0, 1) := dk_42 (dk_at dksX8_clause_2 0 rfl rfl)
theorem dX8_clause_47 : decode cX8_clause 47 = .ok (.invokevirtual 282, 3) := dk_182 1 26 (dk_at dksX8_clause_2 1 rfl rfl)
theorem dX8_clause_50 : decode cX8_clause 50 = .ok (.goto 46, 3) := dk_167 0 46 (dk_at dksX8_clause_2 4 rfl rfl)
theorem dX8_clause_53 : decode cX8_clause 53 = .ok (.iload_n 1, 1) := dk_27 (dk_at dksX8_clause_2 7 rfl rfl)
theorem dX8_clause_54 : decode cX8_clause 54 = .ok (.iconst 3, 1) := dk_6 (dk_at dksX8_clause_2 8 rfl rfl)
theorem dX8_clause_55 : decode cX8_clause 55 = .ok (.if_icmp .eq 8, 3) := dk_159 0 8 (dk_at dksX8_clause_2 9 rfl rfl)
theorem dX8_clause_58 : decode cX8_clause 58 = .ok (.iload_n 1, 1) := dk_27 (dk_at dksX8_clause_2 12 rfl rfl)
theorem dX8_clause_59 : decode cX8_clause 59 = .ok (.iconst 4, 1) := dk_7 (dk_at dksX8_clause_2 13 rfl rfl)
theorem dX8_clause_60 : decode cX8_clause 60 = .ok (.if_icmp .ne 20, 3) := dk_160 0 20 (dk_at dksX8_clause_2 14 rfl rfl)
theorem dX8_clause_63 : decode cX8_clause 63 = .ok (.aload_n 0, 1) := dk_42 (dk_at dksX8_clause_2 17 rfl rfl)
theorem dX8_clause_64 : decode cX8_clause 64 = .ok (.iload_n 1, 1) := dk_27 (dk_at dksX8_clause_2 18 rfl rfl)
theorem dX8_clause_65 : decode cX8_clause 65 = .ok (.iconst 3, 1) := dk_6 (dk_at dksX8_clause_2 19 rfl rfl)
theorem dX8_clause_66 : decode cX8_clause 66 = .ok (.if_icmp .ne 7, 3) := dk_160 0 7 (dk_at dksX8_clause_2 20 rfl rfl)
theorem dX8_clause_69 : decode cX8_clause 69 = .ok (.iconst 1, 1) := dk_4 (dk_at dksX8_clause_2 23 rfl rfl)
theorem dX8_clause_70 : decode cX8_clause 70 = .ok (.goto 4, 3) := dk_167 0 4 (dk_at dksX8_clause_3 0 rfl rfl)
theorem dX8_clause_73 : decode cX8_clause 73 = .ok (.iconst 0, 1) := dk_3 (dk_at dksX8_clause_3 3 rfl rfl)
theorem dX8_clause_74 : decode cX8_clause 74 = .ok (.invokevirtual 285, 3) := dk_182 1 29 (dk_at dksX8_clause_3 4 rfl rfl)
theorem dX8_clause_77 : decode cX8_clause 77 = .ok (.goto 19, 3) := dk_167 0 19 (dk_at dksX8_clause_3 7 rfl rfl)
theorem dX8_clause_80 : decode cX8_clause 80 = .ok (.iload_n 1, 1) := dk_27 (dk_at dksX8_clause_3 10 rfl rfl)
theorem dX8_clause_81 : decode cX8_clause 81 = .ok (.iconst 5, 1) := dk_8 (dk_at dksX8_clause_3 11 rfl rfl)
theorem dX8_clause_82 : decode cX8_clause 82 = .ok (.if_icmp .ne 10, 3) := dk_160 0 10 (dk_at dksX8_clause_3 12 rfl rfl)
theorem dX8_clause_85 : decode cX8_clause 85 = .ok (.aload_n 0, 1) := dk_42 (dk_at dksX8_clause_3 15 rfl rfl)
theorem dX8_clause_86 : decode cX8_clause 86 = .ok (.invokevirtual 289, 3) := dk_182 1 33 (dk_at dksX8_clause_3 16 rfl rfl)
theorem dX8_clause_89 : decode cX8_clause 89 = .ok (.goto 7, 3) := dk_167 0 7 (dk_at dksX8_clause_3 19 rfl rfl)
theorem dX8_clause_92 : decode cX8_clause 92 = .ok (.aload_n 0, 1) := dk_42 (dk_at dksX8_clause_3 22 rfl rfl)
theorem dX8_clause_93 : decode cX8_clause 93 = .ok (.invokevirtual 292, 3) := dk_182 1 36 (dk_at dksX8_clause_4 0 rfl rfl)
theorem dX8_clause_96 : decode cX8_clause 96 = .ok (.aload_n 0, 1) := dk_42 (dk_at dksX8_clause_4 3 rfl rfl)
theorem dX8_clause_97 : decode cX8_clause 97 = .ok (.invokevirtual 230, 3) := dk_182 0 230 (dk_at dksX8_clause_4 4 rfl rfl)
theorem dX8_clause_100 : decode cX8_clause 100 = .ok (.ifCond .eq 17, 3) := dk_153 0 17 (dk_at dksX8_clause_4 7 rfl rfl)
theorem dX8_clause_103 : decode cX8_clause 103 = .ok (.aload_n 0, 1) := dk_42 (dk_at dksX8_clause_4 10 rfl rfl)
theorem dX8_clause_104 : decode cX8_clause 104 = .ok (.bipush 59, 2) := dk_16 59 (dk_at dksX8_clause_4 11 rfl rfl)
theorem dX8_clause_106 : decode cX8_clause 106 = .ok (.invokevirtual 295, 3) := dk_182 1 39 (dk_at dksX8_clause_4 13 rfl rfl)
theorem dX8_clause_109 : decode cX8_clause 109 = .ok (.ifCond .ne 8, 3) := dk_154 0 8 (dk_at dksX8_clause_4 16 rfl rfl)
theorem dX8_clause_112 : decode cX8_clause 112 = .ok (.aload_n 0, 1) := dk_42 (dk_at dksX8_clause_4 19 rfl rfl)
theorem dX8_clause_113 : decode cX8_clause 113 = .ok (.iconst 1, 1) := dk_4 (dk_at dksX8_clause_4 20 rfl rfl)
theorem dX8_clause_114 : decode cX8_clause 114 = .ok (.invokevirtual 241, 3) := dk_182 0 241 (dk_at dksX8_clause_4 21 rfl rfl)
theorem dX8_clause_117 : decode cX8_clause 117 = .ok (.aload_n 0, 1) := dk_42 (dk_at dksX8_clause_5 0 rfl rfl)
theorem dX8_clause_118 : decode cX8_clause 118 = .ok (.invokevirtual 230, 3) := dk_182 0 230 (dk_at dksX8_clause_5 1 rfl rfl)
theorem dX8_clause_121 : decode cX8_clause 121 = .ok (.ifCond .eq 7, 3) := dk_153 0 7 (dk_at dksX8_clause_5 4 rfl rfl)
theorem dX8_clause_124 : decode cX8_clause 124 = .ok (.aload_n 0, 1) := dk_42 (dk_at dksX8_clause_5 7 rfl rfl)
theorem dX8_clause_125 : decode cX8_clause 125 = .ok (.invokevirtual 238, 3) := dk_182 0 238 (dk_at dksX8_clause_5 8 rfl rfl)
theorem dX8_clause_128 : decode cX8_clause 128 = .ok (.return_, 1) := dk_177 (dk_at dksX8_clause_5 11 rfl rfl)
abbrev cX8_thing : ByteArray := prog_19_method_22_code
def yX8_thing : MethodName := ⟨RX8, "thing", "()V"⟩
def dkwX8_thing_7 : List UInt8 := [79, 42, 89, 180, 0, 247, 4, 96, 181, 0, 247, 177]
abbrev dktX8_thing_7 : List UInt8 := dkwX8_thing_7 ++ []
def dkwX8_thing_6 : List UInt8 := [180, 0, 247, 27, 79, 42, 180, 0, 54, 42, 180, 0, 247, 28, 79, 42, 180, 0, 57, 42, 180, 0, 247, 29]
abbrev dktX8_thing_6 : List UInt8 := dkwX8_thing_6 ++ dktX8_thing_7
def dkwX8_thing_5 : List UInt8 := [182, 0, 238, 42, 4, 16, 99, 182, 1, 0, 62, 42, 182, 0, 230, 154, 0, 4, 177, 42, 180, 0, 60, 42]
abbrev dktX8_thing_5 : List UInt8 := dkwX8_thing_5 ++ dktX8_thing_6
def dkwX8_thing_4 : List UInt8 := [182, 1, 0, 61, 3, 62, 42, 182, 0, 230, 153, 0, 24, 42, 182, 0, 234, 16, 8, 160, 0, 15, 42]
abbrev dktX8_thing_4 : List UInt8 := dkwX8_thing_4 ++ dktX8_thing_5
def dkwX8_thing_3 : List UInt8 := [154, 0, 4, 177, 42, 180, 0, 203, 60, 42, 182, 0, 238, 42, 16, 7, 182, 0, 253, 42, 3, 16, 99]
abbrev dktX8_thing_3 : List UInt8 := dkwX8_thing_3 ++ dktX8_thing_4
def dkwX8_thing_2 : List UInt8 := [167, 0, 20, 42, 42, 180, 0, 203, 182, 0, 250, 2, 159, 0, 8, 42, 8, 182, 0, 241, 42, 182, 0, 230]
abbrev dktX8_thing_2 : List UInt8 := dkwX8_thing_2 ++ dktX8_thing_3
def dkwX8_thing_1 : List UInt8 := [182, 0, 238, 42, 180, 0, 206, 4, 160, 0, 11, 42, 180, 0, 216, 4, 159, 0, 11, 42, 4, 182, 0, 241]
abbrev dktX8_thing_1 : List UInt8 := dkwX8_thing_1 ++ dktX8_thing_2
def dkwX8_thing_0 : List UInt8 := [42, 180, 0, 247, 16, 8, 160, 0, 8, 42, 5, 182, 0, 241, 42, 182, 0, 230, 154, 0, 4, 177, 42]
abbrev dktX8_thing_0 : List UInt8 := dkwX8_thing_0 ++ dktX8_thing_1
theorem dksX8_thing_0 : cX8_thing.data.toList.drop 0 = dktX8_thing_0 := by decide +kernel
theorem dksX8_thing_1 : cX8_thing.data.toList.drop 23 = dktX8_thing_1 := dk_seg dksX8_thing_0 23 rfl rfl
theorem dksX8_thing_2 : cX8_thing.data.toList.drop 47 = dktX8_thing_2 := dk_seg dksX8_thing_1 24 rfl rfl
theorem dksX8_thing_3 : cX8_thing.data.toList.drop 71 = dktX8_thing_3 := dk_seg dksX8_thing_2 24 rfl rfl
theorem dksX8_thing_4 : cX8_thing.data.toList.drop 94 = dktX8_thing_4 := dk_seg dksX8_thing_3 23 rfl rfl
theorem dksX8_thing_5 : cX8_thing.data.toList.drop 117 = dktX8_thing_5 := dk_seg dksX8_thing_4 23 rfl rfl
theorem dksX8_thing_6 : cX8_thing.data.toList.drop 141 = dktX8_thing_6 := dk_seg dksX8_thing_5 24 rfl rfl
theorem dksX8_thing_7 : cX8_thing.data.toList.drop 165 = dktX8_thing_7 := dk_seg dksX8_thing_6 24 rfl rfl
theorem dX8_thing_0 : decode cX8_thing 0 = .ok (.aload_n 0, 1) := dk_42 (dk_at dksX8_thing_0 0 rfl rfl)
theorem dX8_thing_1 : decode cX8_thing 1 = .ok (.getfield 247, 3) := dk_180 0 247 (dk_at dksX8_thing_0 1 rfl rfl)
theorem dX8_thing_4 : decode cX8_thing 4 = .ok (.bipush 8, 2) := dk_16 8 (dk_at dksX8_thing_0 4 rfl rfl)
theorem dX8_thing_6 : decode cX8_thing 6 = .ok (.if_icmp .ne 8, 3) := dk_160 0 8 (dk_at dksX8_thing_0 6 rfl rfl)
theorem dX8_thing_9 : decode cX8_thing 9 = .ok (.aload_n 0, 1) := dk_42 (dk_at dksX8_thing_0 9 rfl rfl)
theorem dX8_thing_10 : decode cX8_thing 10 = .ok (.iconst 2, 1) := dk_5 (dk_at dksX8_thing_0 10 rfl rfl)
theorem dX8_thing_11 : decode cX8_thing 11 = .ok (.invokevirtual 241, 3) := dk_182 0 241 (dk_at dksX8_thing_0 11 rfl rfl)
theorem dX8_thing_14 : decode cX8_thing 14 = .ok (.aload_n 0, 1) := dk_42 (dk_at dksX8_thing_0 14 rfl rfl)
theorem dX8_thing_15 : decode cX8_thing 15 = .ok (.invokevirtual 230, 3) := dk_182 0 230 (dk_at dksX8_thing_0 15 rfl rfl)
theorem dX8_thing_18 : decode cX8_thing 18 = .ok (.ifCond .ne 4, 3) := dk_154 0 4 (dk_at dksX8_thing_0 18 rfl rfl)
theorem dX8_thing_21 : decode cX8_thing 21 = .ok (.return_, 1) := dk_177 (dk_at dksX8_thing_0 21 rfl rfl)
theorem dX8_thing_22 : decode cX8_thing 22 = .ok (.aload_n 0, 1) := dk_42 (dk_at dksX8_thing_0 22 rfl rfl)
theorem dX8_thing_23 : decode cX8_thing 23 = .ok (.invokevirtual 238, 3) := dk_182 0 238 (dk_at dksX8_thing_1 0 rfl rfl)
theorem dX8_thing_26 : decode cX8_thing 26 = .ok (.aload_n 0, 1) := dk_42 (dk_at dksX8_thing_1 3 rfl rfl)
theorem dX8_thing_27 : decode cX8_thing 27 = .ok (.getfield 206, 3) := dk_180 0 206 (dk_at dksX8_thing_1 4 rfl rfl)
theorem dX8_thing_30 : decode cX8_thing 30 = .ok (.iconst 1, 1) := dk_4 (dk_at dksX8_thing_1 7 rfl rfl)
theorem dX8_thing_31 : decode cX8_thing 31 = .ok (.if_icmp .ne 11, 3) := dk_160 0 11 (dk_at dksX8_thing_1 8 rfl rfl)
theorem dX8_thing_34 : decode cX8_thing 34 = .ok (.aload_n 0, 1) := dk_42 (dk_at dksX8_thing_1 11 rfl rfl)
theorem dX8_thing_35 : decode cX8_thing 35 = .ok (.getfield 216, 3) := dk_180 0 216 (dk_at dksX8_thing_1 12 rfl rfl)
theorem dX8_thing_38 : decode cX8_thing 38 = .ok (.iconst 1, 1) := dk_4 (dk_at dksX8_thing_1 15 rfl rfl)
theorem dX8_thing_39 : decode cX8_thing 39 = .ok (.if_icmp .eq 11, 3) := dk_159 0 11 (dk_at dksX8_thing_1 16 rfl rfl)
theorem dX8_thing_42 : decode cX8_thing 42 = .ok (.aload_n 0, 1) := dk_42 (dk_at dksX8_thing_1 19 rfl rfl)
theorem dX8_thing_43 : decode cX8_thing 43 = .ok (.iconst 1, 1) := dk_4 (dk_at dksX8_thing_1 20 rfl rfl)
theorem dX8_thing_44 : decode cX8_thing 44 = .ok (.invokevirtual 241, 3) := dk_182 0 241 (dk_at dksX8_thing_1 21 rfl rfl)
theorem dX8_thing_47 : decode cX8_thing 47 = .ok (.goto 20, 3) := dk_167 0 20 (dk_at dksX8_thing_2 0 rfl rfl)
theorem dX8_thing_50 : decode cX8_thing 50 = .ok (.aload_n 0, 1) := dk_42 (dk_at dksX8_thing_2 3 rfl rfl)
theorem dX8_thing_51 : decode cX8_thing 51 = .ok (.aload_n 0, 1) := dk_42 (dk_at dksX8_thing_2 4 rfl rfl)
theorem dX8_thing_52 : decode cX8_thing 52 = .ok (.getfield 203, 3) := dk_180 0 203 (dk_at dksX8_thing_2 5 rfl rfl)
theorem dX8_thing_55 : decode cX8_thing 55 = .ok (.invokevirtual 250, 3) := dk_182 0 250 (dk_at dksX8_thing_2 8 rfl rfl)
theorem dX8_thing_58 : decode cX8_thing 58 = .ok (.iconst (-1), 1) := dk_2 (dk_at dksX8_thing_2 11 rfl rfl)
theorem dX8_thing_59 : decode cX8_thing 59 = .ok (.if_icmp .eq 8, 3) := dk_159 0 8 (dk_at dksX8_thing_2 12 rfl rfl)
theorem dX8_thing_62 : decode cX8_thing 62 = .ok (.aload_n 0, 1) := dk_42 (dk_at dksX8_thing_2 15 rfl rfl)
theorem dX8_thing_63 : decode cX8_thing 63 = .ok (.iconst 5, 1) := dk_8 (dk_at dksX8_thing_2 16 rfl rfl)
theorem dX8_thing_64 : decode cX8_thing 64 = .ok (.invokevirtual 241, 3) := dk_182 0 241 (dk_at dksX8_thing_2 17 rfl rfl)
theorem dX8_thing_67 : decode cX8_thing 67 = .ok (.aload_n 0, 1) := dk_42 (dk_at dksX8_thing_2 20 rfl rfl)
theorem dX8_thing_68 : decode cX8_thing 68 = .ok (.invokevirtual 230, 3) := dk_182 0 230 (dk_at dksX8_thing_2 21 rfl rfl)
theorem dX8_thing_71 : decode cX8_thing 71 = .ok (.ifCond .ne 4, 3) := dk_154 0 4 (dk_at dksX8_thing_3 0 rfl rfl)
theorem dX8_thing_74 : decode cX8_thing 74 = .ok (.return_, 1) := dk_177 (dk_at dksX8_thing_3 3 rfl rfl)
theorem dX8_thing_75 : decode cX8_thing 75 = .ok (.aload_n 0, 1) := dk_42 (dk_at dksX8_thing_3 4 rfl rfl)
theorem dX8_thing_76 : decode cX8_thing 76 = .ok (.getfield 203, 3) := dk_180 0 203 (dk_at dksX8_thing_3 5 rfl rfl)
theorem dX8_thing_79 : decode cX8_thing 79 = .ok (.istore_n 1, 1) := dk_60 (dk_at dksX8_thing_3 8 rfl rfl)
theorem dX8_thing_80 : decode cX8_thing 80 = .ok (.aload_n 0, 1) := dk_42 (dk_at dksX8_thing_3 9 rfl rfl)
theorem dX8_thing_81 : decode cX8_thing 81 = .ok (.invokevirtual 238, 3) := dk_182 0 238 (dk_at dksX8_thing_3 10 rfl rfl)
theorem dX8_thing_84 : decode cX8_thing 84 = .ok (.aload_n 0, 1) := dk_42 (dk_at dksX8_thing_3 13 rfl rfl)
theorem dX8_thing_85 : decode cX8_thing 85 = .ok (.bipush 7, 2) := dk_16 7 (dk_at dksX8_thing_3 14 rfl rfl)
theorem dX8_thing_87 : decode cX8_thing 87 = .ok (.invokevirtual 253, 3) := dk_182 0 253 (dk_at dksX8_thing_3 16 rfl rfl)
theorem dX8_thing_90 : decode cX8_thing 90 = .ok (.aload_n 0, 1) := dk_42 (dk_at dksX8_thing_3 19 rfl rfl)
theorem dX8_thing_91 : decode cX8_thing 91 = .ok (.iconst 0, 1) := dk_3 (dk_at dksX8_thing_3 20 rfl rfl)
theorem dX8_thing_92 : decode cX8_thing 92 = .ok (.bipush 99, 2) := dk_16 99 (dk_at dksX8_thing_3 21 rfl rfl)
theorem dX8_thing_94 : decode cX8_thing 94 = .ok (.invokevirtual 256, 3) := dk_182 1 0 (dk_at dksX8_thing_4 0 rfl rfl)
theorem dX8_thing_97 : decode cX8_thing 97 = .ok (.istore_n 2, 1) := dk_61 (dk_at dksX8_thing_4 3 rfl rfl)
theorem dX8_thing_98 : decode cX8_thing 98 = .ok (.iconst 0, 1) := dk_3 (dk_at dksX8_thing_4 4 rfl rfl)
theorem dX8_thing_99 : decode cX8_thing 99 = .ok (.istore_n 3, 1) := dk_62 (dk_at dksX8_thing_4 5 rfl rfl)
theorem dX8_thing_100 : decode cX8_thing 100 = .ok (.aload_n 0, 1) := dk_42 (dk_at dksX8_thing_4 6 rfl rfl)
theorem dX8_thing_101 : decode cX8_thing 101 = .ok (.invokevirtual 230, 3) := dk_182 0 230 (dk_at dksX8_thing_4 7 rfl rfl)
theorem dX8_thing_104 : decode cX8_thing 104 = .ok (.ifCond .eq 24, 3) := dk_153 0 24 (dk_at dksX8_thing_4 10 rfl rfl)
theorem dX8_thing_107 : decode cX8_thing 107 = .ok (.aload_n 0, 1) := dk_42 (dk_at dksX8_thing_4 13 rfl rfl)
theorem dX8_thing_108 : decode cX8_thing 108 = .ok (.invokevirtual 234, 3) := dk_182 0 234 (dk_at dksX8_thing_4 14 rfl rfl)
theorem dX8_thing_111 : decode cX8_thing 111 = .ok (.bipush 8, 2) := dk_16 8 (dk_at dksX8_thing_4 17 rfl rfl)
theorem dX8_thing_113 : decode cX8_thing 113 = .ok (.if_icmp .ne 15, 3) := dk_160 0 15 (dk_at dksX8_thing_4 19 rfl rfl)
theorem dX8_thing_116 : decode cX8_thing 116 = .ok (.aload_n 0, 1) := dk_42 (dk_at dksX8_thing_4 22 rfl rfl)
theorem dX8_thing_117 : decode cX8_thing 117 = .ok (.invokevirtual 238, 3) := dk_182 0 238 (dk_at dksX8_thing_5 0 rfl rfl)
theorem dX8_thing_120 : decode cX8_thing 120 = .ok (.aload_n 0, 1) := dk_42 (dk_at dksX8_thing_5 3 rfl rfl)
theorem dX8_thing_121 : decode cX8_thing 121 = .ok (.iconst 1, 1) := dk_4 (dk_at dksX8_thing_5 4 rfl rfl)
theorem dX8_thing_122 : decode cX8_thing 122 = .ok (.bipush 99, 2) := dk_16 99 (dk_at dksX8_thing_5 5 rfl rfl)
theorem dX8_thing_124 : decode cX8_thing 124 = .ok (.invokevirtual 256, 3) := dk_182 1 0 (dk_at dksX8_thing_5 7 rfl rfl)
theorem dX8_thing_127 : decode cX8_thing 127 = .ok (.istore_n 3, 1) := dk_62 (dk_at dksX8_thing_5 10 rfl rfl)
theorem dX8_thing_128 : decode cX8_thing 128 = .ok (.aload_n 0, 1) := dk_42 (dk_at dksX8_thing_5 11 rfl rfl)
theorem dX8_thing_129 : decode cX8_thing 129 = .ok (.invokevirtual 230, 3) := dk_182 0 230 (dk_at dksX8_thing_5 12 rfl rfl)
theorem dX8_thing_132 : decode cX8_thing 132 = .ok (.ifCond .ne 4, 3) := dk_154 0 4 (dk_at dksX8_thing_5 15 rfl rfl)
theorem dX8_thing_135 : decode cX8_thing 135 = .ok (.return_, 1) := dk_177 (dk_at dksX8_thing_5 18 rfl rfl)
theorem dX8_thing_136 : decode cX8_thing 136 = .ok (.aload_n 0, 1) := dk_42 (dk_at dksX8_thing_5 19 rfl rfl)
theorem dX8_thing_137 : decode cX8_thing 137 = .ok (.getfield 60, 3) := dk_180 0 60 (dk_at dksX8_thing_5 20 rfl rfl)
theorem dX8_thing_140 : decode cX8_thing 140 = .ok (.aload_n 0, 1) := dk_42 (dk_at dksX8_thing_5 23 rfl rfl)
theorem dX8_thing_141 : decode cX8_thing 141 = .ok (.getfield 247, 3) := dk_180 0 247 (dk_at dksX8_thing_6 0 rfl rfl)
theorem dX8_thing_144 : decode cX8_thing 144 = .ok (.iload_n 1, 1) := dk_27 (dk_at dksX8_thing_6 3 rfl rfl)
theorem dX8_thing_145 : decode cX8_thing 145 = .ok (.iastore, 1) := dk_79 (dk_at dksX8_thing_6 4 rfl rfl)
theorem dX8_thing_146 : decode cX8_thing 146 = .ok (.aload_n 0, 1) := dk_42 (dk_at dksX8_thing_6 5 rfl rfl)
theorem dX8_thing_147 : decode cX8_thing 147 = .ok (.getfield 54, 3) := dk_180 0 54 (dk_at dksX8_thing_6 6 rfl rfl)
theorem dX8_thing_150 : decode cX8_thing 150 = .ok (.aload_n 0, 1) := dk_42 (dk_at dksX8_thing_6 9 rfl rfl)
theorem dX8_thing_151 : decode cX8_thing 151 = .ok (.getfield 247, 3) := dk_180 0 247 (dk_at dksX8_thing_6 10 rfl rfl)
theorem dX8_thing_154 : decode cX8_thing 154 = .ok (.iload_n 2, 1) := dk_28 (dk_at dksX8_thing_6 13 rfl rfl)
theorem dX8_thing_155 : decode cX8_thing 155 = .ok (.iastore, 1) := dk_79 (dk_at dksX8_thing_6 14 rfl rfl)
theorem dX8_thing_156 : decode cX8_thing 156 = .ok (.aload_n 0, 1) := dk_42 (dk_at dksX8_thing_6 15 rfl rfl)
theorem dX8_thing_157 : decode cX8_thing 157 = .ok (.getfield 57, 3) := dk_180 0 57 (dk_at dksX8_thing_6 16 rfl rfl)
theorem dX8_thing_160 : decode cX8_thing 160 = .ok (.aload_n 0, 1) := dk_42 (dk_at dksX8_thing_6 19 rfl rfl)
theorem dX8_thing_161 : decode cX8_thing 161 = .ok (.getfield 247, 3) := dk_180 0 247 (dk_at dksX8_thing_6 20 rfl rfl)
theorem dX8_thing_164 : decode cX8_thing 164 = .ok (.iload_n 3, 1) := dk_29 (dk_at dksX8_thing_6 23 rfl rfl)
theorem dX8_thing_165 : decode cX8_thing 165 = .ok (.iastore, 1) := dk_79 (dk_at dksX8_thing_7 0 rfl rfl)
theorem dX8_thing_166 : decode cX8_thing 166 = .ok (.aload_n 0, 1) := dk_42 (dk_at dksX8_thing_7 1 rfl rfl)
theorem dX8_thing_167 : decode cX8_thing 167 = .ok (.dup, 1) := dk_89 (dk_at dksX8_thing_7 2 rfl rfl)
theorem dX8_thing_168 : decode cX8_thing 168 = .ok (.getfield 247, 3) := dk_180 0 247 (dk_at dksX8_thing_7 3 rfl rfl)
theorem dX8_thing_171 : decode cX8_thing 171 = .ok (.iconst 1, 1) := dk_4 (dk_at dksX8_thing_7 6 rfl rfl)
theorem dX8_thing_172 : decode cX8_thing 172 = .ok (.iadd, 1) := dk_96 (dk_at dksX8_thing_7 7 rfl rfl)
theorem dX8_thing_173 : decode cX8_thing 173 = .ok (.putfield 247, 3) := dk_181 0 247 (dk_at dksX8_thing_7 8 rfl rfl)
theorem dX8_thing_176 : decode cX8_thing 176 = .ok (.return_, 1) := dk_177 (dk_at dksX8_thing_7 11 rfl rfl)
abbrev cX8_named : ByteArray := prog_19_method_21_code
def yX8_named : MethodName := ⟨RX8, "named", "(I)I"⟩
def dkwX8_named_1 : List UInt8 := [132, 2, 1, 167, 255, 233, 2, 172]
abbrev dktX8_named_1 : List UInt8 := dkwX8_named_1 ++ []
def dkwX8_named_0 : List UInt8 := [3, 61, 28, 42, 180, 0, 247, 162, 0, 21, 42, 180, 0, 60, 28, 46, 27, 160, 0, 5, 28, 172]
abbrev dktX8_named_0 : List UInt8 := dkwX8_named_0 ++ dktX8_named_1
theorem dksX8_named_0 : cX8_named.data.toList.drop 0 = dktX8_named_0 := by decide +kernel
theorem dksX8_named_1 : cX8_named.data.toList.drop 22 = dktX8_named_1 := dk_seg dksX8_named_0 22 rfl rfl
theorem dX8_named_0 : decode cX8_named 0 = .ok (.iconst 0, 1) := dk_3 (dk_at dksX8_named_0 0 rfl rfl)
theorem dX8_named_1 : decode cX8_named 1 = .ok (.istore_n 2, 1) := dk_61 (dk_at dksX8_named_0 1 rfl rfl)
theorem dX8_named_2 : decode cX8_named 2 = .ok (.iload_n 2, 1) := dk_28 (dk_at dksX8_named_0 2 rfl rfl)
theorem dX8_named_3 : decode cX8_named 3 = .ok (.aload_n 0, 1) := dk_42 (dk_at dksX8_named_0 3 rfl rfl)
theorem dX8_named_4 : decode cX8_named 4 = .ok (.getfield 247, 3) := dk_180 0 247 (dk_at dksX8_named_0 4 rfl rfl)
theorem dX8_named_7 : decode cX8_named 7 = .ok (.if_icmp .ge 21, 3) := dk_162 0 21 (dk_at dksX8_named_0 7 rfl rfl)
theorem dX8_named_10 : decode cX8_named 10 = .ok (.aload_n 0, 1) := dk_42 (dk_at dksX8_named_0 10 rfl rfl)
theorem dX8_named_11 : decode cX8_named 11 = .ok (.getfield 60, 3) := dk_180 0 60 (dk_at dksX8_named_0 11 rfl rfl)
theorem dX8_named_14 : decode cX8_named 14 = .ok (.iload_n 2, 1) := dk_28 (dk_at dksX8_named_0 14 rfl rfl)
theorem dX8_named_15 : decode cX8_named 15 = .ok (.iaload, 1) := dk_46 (dk_at dksX8_named_0 15 rfl rfl)
theorem dX8_named_16 : decode cX8_named 16 = .ok (.iload_n 1, 1) := dk_27 (dk_at dksX8_named_0 16 rfl rfl)
theorem dX8_named_17 : decode cX8_named 17 = .ok (.if_icmp .ne 5, 3) := dk_160 0 5 (dk_at dksX8_named_0 17 rfl rfl)
theorem dX8_named_20 : decode cX8_named 20 = .ok (.iload_n 2, 1) := dk_28 (dk_at dksX8_named_0 20 rfl rfl)
theorem dX8_named_21 : decode cX8_named 21 = .ok (.ireturn, 1) := dk_172 (dk_at dksX8_named_0 21 rfl rfl)
theorem dX8_named_22 : decode cX8_named 22 = .ok (.iinc 2 1, 3) := dk_132 2 1 (dk_at dksX8_named_1 0 rfl rfl)
theorem dX8_named_25 : decode cX8_named 25 = .ok (.goto (-23), 3) := dk_167 255 233 (dk_at dksX8_named_1 3 rfl rfl)
theorem dX8_named_28 : decode cX8_named 28 = .ok (.iconst (-1), 1) := dk_2 (dk_at dksX8_named_1 6 rfl rfl)
theorem dX8_named_29 : decode cX8_named 29 = .ok (.ireturn, 1) := dk_172 (dk_at dksX8_named_1 7 rfl rfl)
abbrev cX8_need : ByteArray := prog_19_method_18_code
def yX8_need : MethodName := ⟨RX8, "need", "(I)V"⟩
def dkwX8_need_1 : List UInt8 := [4, 182, 0, 241, 177]
abbrev dktX8_need_1 : List UInt8 := dkwX8_need_1 ++ []
def dkwX8_need_0 : List UInt8 := [42, 182, 0, 230, 154, 0, 4, 177, 42, 182, 0, 234, 27, 160, 0, 10, 42, 182, 0, 238, 167, 0, 8, 42]
abbrev dktX8_need_0 : List UInt8 := dkwX8_need_0 ++ dktX8_need_1
theorem dksX8_need_0 : cX8_need.data.toList.drop 0 = dktX8_need_0 := by decide +kernel
theorem dksX8_need_1 : cX8_need.data.toList.drop 24 = dktX8_need_1 := dk_seg dksX8_need_0 24 rfl rfl
theorem dX8_need_0 : decode cX8_need 0 = .ok (.aload_n 0, 1) := dk_42 (dk_at dksX8_need_0 0 rfl rfl)
theorem dX8_need_1 : decode cX8_need 1 = .ok (.invokevirtual 230, 3) := dk_182 0 230 (dk_at dksX8_need_0 1 rfl rfl)
theorem dX8_need_4 : decode cX8_need 4 = .ok (.ifCond .ne 4, 3) := dk_154 0 4 (dk_at dksX8_need_0 4 rfl rfl)
theorem dX8_need_7 : decode cX8_need 7 = .ok (.return_, 1) := dk_177 (dk_at dksX8_need_0 7 rfl rfl)
theorem dX8_need_8 : decode cX8_need 8 = .ok (.aload_n 0, 1) := dk_42 (dk_at dksX8_need_0 8 rfl rfl)
theorem dX8_need_9 : decode cX8_need 9 = .ok (.invokevirtual 234, 3) := dk_182 0 234 (dk_at dksX8_need_0 9 rfl rfl)
theorem dX8_need_12 : decode cX8_need 12 = .ok (.iload_n 1, 1) := dk_27 (dk_at dksX8_need_0 12 rfl rfl)
theorem dX8_need_13 : decode cX8_need 13 = .ok (.if_icmp .ne 10, 3) := dk_160 0 10 (dk_at dksX8_need_0 13 rfl rfl)
theorem dX8_need_16 : decode cX8_need 16 = .ok (.aload_n 0, 1) := dk_42 (dk_at dksX8_need_0 16 rfl rfl)
theorem dX8_need_17 : decode cX8_need 17 = .ok (.invokevirtual 238, 3) := dk_182 0 238 (dk_at dksX8_need_0 17 rfl rfl)
theorem dX8_need_20 : decode cX8_need 20 = .ok (.goto 8, 3) := dk_167 0 8 (dk_at dksX8_need_0 20 rfl rfl)
theorem dX8_need_23 : decode cX8_need 23 = .ok (.aload_n 0, 1) := dk_42 (dk_at dksX8_need_0 23 rfl rfl)
theorem dX8_need_24 : decode cX8_need 24 = .ok (.iconst 1, 1) := dk_4 (dk_at dksX8_need_1 0 rfl rfl)
theorem dX8_need_25 : decode cX8_need 25 = .ok (.invokevirtual 241, 3) := dk_182 0 241 (dk_at dksX8_need_1 1 rfl rfl)
theorem dX8_need_28 : decode cX8_need 28 = .ok (.return_, 1) := dk_177 (dk_at dksX8_need_1 4 rfl rfl)
abbrev cX8_boat : ByteArray := prog_19_method_23_code
def yX8_boat : MethodName := ⟨RX8, "boat", "()V"⟩
def dkwX8_boat_4 : List UInt8 := [42, 180, 0, 69, 42, 180, 1, 4, 29, 79, 42, 89, 180, 1, 4, 4, 96, 181, 1, 4, 177]
abbrev dktX8_boat_4 : List UInt8 := dkwX8_boat_4 ++ []
def dkwX8_boat_3 : List UInt8 := [154, 0, 4, 177, 42, 180, 0, 63, 42, 180, 1, 4, 27, 79, 42, 180, 0, 66, 42, 180, 1, 4, 28, 79]
abbrev dktX8_boat_3 : List UInt8 := dkwX8_boat_3 ++ dktX8_boat_4
def dkwX8_boat_2 : List UInt8 := [3, 17, 3, 231, 182, 1, 0, 61, 42, 16, 11, 182, 0, 253, 42, 2, 182, 1, 7, 62, 42, 182, 0, 230]
abbrev dktX8_boat_2 : List UInt8 := dkwX8_boat_2 ++ dktX8_boat_3
def dkwX8_boat_1 : List UInt8 := [182, 0, 238, 42, 16, 9, 182, 0, 253, 42, 4, 16, 8, 182, 1, 0, 60, 42, 16, 10, 182, 0, 253, 42]
abbrev dktX8_boat_1 : List UInt8 := dkwX8_boat_1 ++ dktX8_boat_2
def dkwX8_boat_0 : List UInt8 := [42, 180, 1, 4, 5, 160, 0, 8, 42, 5, 182, 0, 241, 42, 182, 0, 230, 154, 0, 4, 177, 42]
abbrev dktX8_boat_0 : List UInt8 := dkwX8_boat_0 ++ dktX8_boat_1
theorem dksX8_boat_0 : cX8_boat.data.toList.drop 0 = dktX8_boat_0 := by decide +kernel
theorem dksX8_boat_1 : cX8_boat.data.toList.drop 22 = dktX8_boat_1 := dk_seg dksX8_boat_0 22 rfl rfl
theorem dksX8_boat_2 : cX8_boat.data.toList.drop 46 = dktX8_boat_2 := dk_seg dksX8_boat_1 24 rfl rfl
theorem dksX8_boat_3 : cX8_boat.data.toList.drop 70 = dktX8_boat_3 := dk_seg dksX8_boat_2 24 rfl rfl
theorem dksX8_boat_4 : cX8_boat.data.toList.drop 94 = dktX8_boat_4 := dk_seg dksX8_boat_3 24 rfl rfl
theorem dX8_boat_0 : decode cX8_boat 0 = .ok (.aload_n 0, 1) := dk_42 (dk_at dksX8_boat_0 0 rfl rfl)
theorem dX8_boat_1 : decode cX8_boat 1 = .ok (.getfield 260, 3) := dk_180 1 4 (dk_at dksX8_boat_0 1 rfl rfl)
theorem dX8_boat_4 : decode cX8_boat 4 = .ok (.iconst 2, 1) := dk_5 (dk_at dksX8_boat_0 4 rfl rfl)
theorem dX8_boat_5 : decode cX8_boat 5 = .ok (.if_icmp .ne 8, 3) := dk_160 0 8 (dk_at dksX8_boat_0 5 rfl rfl)
theorem dX8_boat_8 : decode cX8_boat 8 = .ok (.aload_n 0, 1) := dk_42 (dk_at dksX8_boat_0 8 rfl rfl)
theorem dX8_boat_9 : decode cX8_boat 9 = .ok (.iconst 2, 1) := dk_5 (dk_at dksX8_boat_0 9 rfl rfl)
theorem dX8_boat_10 : decode cX8_boat 10 = .ok (.invokevirtual 241, 3) := dk_182 0 241 (dk_at dksX8_boat_0 10 rfl rfl)
theorem dX8_boat_13 : decode cX8_boat 13 = .ok (.aload_n 0, 1) := dk_42 (dk_at dksX8_boat_0 13 rfl rfl)
theorem dX8_boat_14 : decode cX8_boat 14 = .ok (.invokevirtual 230, 3) := dk_182 0 230 (dk_at dksX8_boat_0 14 rfl rfl)
theorem dX8_boat_17 : decode cX8_boat 17 = .ok (.ifCond .ne 4, 3) := dk_154 0 4 (dk_at dksX8_boat_0 17 rfl rfl)
theorem dX8_boat_20 : decode cX8_boat 20 = .ok (.return_, 1) := dk_177 (dk_at dksX8_boat_0 20 rfl rfl)
theorem dX8_boat_21 : decode cX8_boat 21 = .ok (.aload_n 0, 1) := dk_42 (dk_at dksX8_boat_0 21 rfl rfl)
theorem dX8_boat_22 : decode cX8_boat 22 = .ok (.invokevirtual 238, 3) := dk_182 0 238 (dk_at dksX8_boat_1 0 rfl rfl)
theorem dX8_boat_25 : decode cX8_boat 25 = .ok (.aload_n 0, 1) := dk_42 (dk_at dksX8_boat_1 3 rfl rfl)
theorem dX8_boat_26 : decode cX8_boat 26 = .ok (.bipush 9, 2) := dk_16 9 (dk_at dksX8_boat_1 4 rfl rfl)
theorem dX8_boat_28 : decode cX8_boat 28 = .ok (.invokevirtual 253, 3) := dk_182 0 253 (dk_at dksX8_boat_1 6 rfl rfl)
theorem dX8_boat_31 : decode cX8_boat 31 = .ok (.aload_n 0, 1) := dk_42 (dk_at dksX8_boat_1 9 rfl rfl)
theorem dX8_boat_32 : decode cX8_boat 32 = .ok (.iconst 1, 1) := dk_4 (dk_at dksX8_boat_1 10 rfl rfl)
theorem dX8_boat_33 : decode cX8_boat 33 = .ok (.bipush 8, 2) := dk_16 8 (dk_at dksX8_boat_1 11 rfl rfl)
theorem dX8_boat_35 : decode cX8_boat 35 = .ok (.invokevirtual 256, 3) := dk_182 1 0 (dk_at dksX8_boat_1 13 rfl rfl)
theorem dX8_boat_38 : decode cX8_boat 38 = .ok (.istore_n 1, 1) := dk_60 (dk_at dksX8_boat_1 16 rfl rfl)
theorem dX8_boat_39 : decode cX8_boat 39 = .ok (.aload_n 0, 1) := dk_42 (dk_at dksX8_boat_1 17 rfl rfl)
theorem dX8_boat_40 : decode cX8_boat 40 = .ok (.bipush 10, 2) := dk_16 10 (dk_at dksX8_boat_1 18 rfl rfl)
theorem dX8_boat_42 : decode cX8_boat 42 = .ok (.invokevirtual 253, 3) := dk_182 0 253 (dk_at dksX8_boat_1 20 rfl rfl)
theorem dX8_boat_45 : decode cX8_boat 45 = .ok (.aload_n 0, 1) := dk_42 (dk_at dksX8_boat_1 23 rfl rfl)
theorem dX8_boat_46 : decode cX8_boat 46 = .ok (.iconst 0, 1) := dk_3 (dk_at dksX8_boat_2 0 rfl rfl)
theorem dX8_boat_47 : decode cX8_boat 47 = .ok (.sipush 999, 3) := dk_17 3 231 (dk_at dksX8_boat_2 1 rfl rfl)
theorem dX8_boat_50 : decode cX8_boat 50 = .ok (.invokevirtual 256, 3) := dk_182 1 0 (dk_at dksX8_boat_2 4 rfl rfl)
theorem dX8_boat_53 : decode cX8_boat 53 = .ok (.istore_n 2, 1) := dk_61 (dk_at dksX8_boat_2 7 rfl rfl)
theorem dX8_boat_54 : decode cX8_boat 54 = .ok (.aload_n 0, 1) := dk_42 (dk_at dksX8_boat_2 8 rfl rfl)
theorem dX8_boat_55 : decode cX8_boat 55 = .ok (.bipush 11, 2) := dk_16 11 (dk_at dksX8_boat_2 9 rfl rfl)
theorem dX8_boat_57 : decode cX8_boat 57 = .ok (.invokevirtual 253, 3) := dk_182 0 253 (dk_at dksX8_boat_2 11 rfl rfl)
theorem dX8_boat_60 : decode cX8_boat 60 = .ok (.aload_n 0, 1) := dk_42 (dk_at dksX8_boat_2 14 rfl rfl)
theorem dX8_boat_61 : decode cX8_boat 61 = .ok (.iconst (-1), 1) := dk_2 (dk_at dksX8_boat_2 15 rfl rfl)
theorem dX8_boat_62 : decode cX8_boat 62 = .ok (.invokevirtual 263, 3) := dk_182 1 7 (dk_at dksX8_boat_2 16 rfl rfl)
theorem dX8_boat_65 : decode cX8_boat 65 = .ok (.istore_n 3, 1) := dk_62 (dk_at dksX8_boat_2 19 rfl rfl)
theorem dX8_boat_66 : decode cX8_boat 66 = .ok (.aload_n 0, 1) := dk_42 (dk_at dksX8_boat_2 20 rfl rfl)
theorem dX8_boat_67 : decode cX8_boat 67 = .ok (.invokevirtual 230, 3) := dk_182 0 230 (dk_at dksX8_boat_2 21 rfl rfl)
theorem dX8_boat_70 : decode cX8_boat 70 = .ok (.ifCond .ne 4, 3) := dk_154 0 4 (dk_at dksX8_boat_3 0 rfl rfl)
theorem dX8_boat_73 : decode cX8_boat 73 = .ok (.return_, 1) := dk_177 (dk_at dksX8_boat_3 3 rfl rfl)
theorem dX8_boat_74 : decode cX8_boat 74 = .ok (.aload_n 0, 1) := dk_42 (dk_at dksX8_boat_3 4 rfl rfl)
theorem dX8_boat_75 : decode cX8_boat 75 = .ok (.getfield 63, 3) := dk_180 0 63 (dk_at dksX8_boat_3 5 rfl rfl)
theorem dX8_boat_78 : decode cX8_boat 78 = .ok (.aload_n 0, 1) := dk_42 (dk_at dksX8_boat_3 8 rfl rfl)
theorem dX8_boat_79 : decode cX8_boat 79 = .ok (.getfield 260, 3) := dk_180 1 4 (dk_at dksX8_boat_3 9 rfl rfl)
theorem dX8_boat_82 : decode cX8_boat 82 = .ok (.iload_n 1, 1) := dk_27 (dk_at dksX8_boat_3 12 rfl rfl)
theorem dX8_boat_83 : decode cX8_boat 83 = .ok (.iastore, 1) := dk_79 (dk_at dksX8_boat_3 13 rfl rfl)
theorem dX8_boat_84 : decode cX8_boat 84 = .ok (.aload_n 0, 1) := dk_42 (dk_at dksX8_boat_3 14 rfl rfl)
theorem dX8_boat_85 : decode cX8_boat 85 = .ok (.getfield 66, 3) := dk_180 0 66 (dk_at dksX8_boat_3 15 rfl rfl)
theorem dX8_boat_88 : decode cX8_boat 88 = .ok (.aload_n 0, 1) := dk_42 (dk_at dksX8_boat_3 18 rfl rfl)
theorem dX8_boat_89 : decode cX8_boat 89 = .ok (.getfield 260, 3) := dk_180 1 4 (dk_at dksX8_boat_3 19 rfl rfl)
theorem dX8_boat_92 : decode cX8_boat 92 = .ok (.iload_n 2, 1) := dk_28 (dk_at dksX8_boat_3 22 rfl rfl)
theorem dX8_boat_93 : decode cX8_boat 93 = .ok (.iastore, 1) := dk_79 (dk_at dksX8_boat_3 23 rfl rfl)
theorem dX8_boat_94 : decode cX8_boat 94 = .ok (.aload_n 0, 1) := dk_42 (dk_at dksX8_boat_4 0 rfl rfl)
theorem dX8_boat_95 : decode cX8_boat 95 = .ok (.getfield 69, 3) := dk_180 0 69 (dk_at dksX8_boat_4 1 rfl rfl)
theorem dX8_boat_98 : decode cX8_boat 98 = .ok (.aload_n 0, 1) := dk_42 (dk_at dksX8_boat_4 4 rfl rfl)
theorem dX8_boat_99 : decode cX8_boat 99 = .ok (.getfield 260, 3) := dk_180 1 4 (dk_at dksX8_boat_4 5 rfl rfl)
theorem dX8_boat_102 : decode cX8_boat 102 = .ok (.iload_n 3, 1) := dk_29 (dk_at dksX8_boat_4 8 rfl rfl)
theorem dX8_boat_103 : decode cX8_boat 103 = .ok (.iastore, 1) := dk_79 (dk_at dksX8_boat_4 9 rfl rfl)
theorem dX8_boat_104 : decode cX8_boat 104 = .ok (.aload_n 0, 1) := dk_42 (dk_at dksX8_boat_4 10 rfl rfl)
theorem dX8_boat_105 : decode cX8_boat 105 = .ok (.dup, 1) := dk_89 (dk_at dksX8_boat_4 11 rfl rfl)
theorem dX8_boat_106 : decode cX8_boat 106 = .ok (.getfield 260, 3) := dk_180 1 4 (dk_at dksX8_boat_4 12 rfl rfl)
theorem dX8_boat_109 : decode cX8_boat 109 = .ok (.iconst 1, 1) := dk_4 (dk_at dksX8_boat_4 15 rfl rfl)
theorem dX8_boat_110 : decode cX8_boat 110 = .ok (.iadd, 1) := dk_96 (dk_at dksX8_boat_4 16 rfl rfl)
theorem dX8_boat_111 : decode cX8_boat 111 = .ok (.putfield 260, 3) := dk_181 1 4 (dk_at dksX8_boat_4 17 rfl rfl)
theorem dX8_boat_114 : decode cX8_boat 114 = .ok (.return_, 1) := dk_177 (dk_at dksX8_boat_4 20 rfl rfl)
abbrev cX8_shore : ByteArray := prog_19_method_20_code
def yX8_shore : MethodName := ⟨RX8, "shore", "(I)I"⟩
def dkwX8_shore_3 : List UInt8 := [182, 0, 241, 42, 180, 0, 200, 61, 42, 182, 0, 230, 153, 0, 7, 42, 182, 0, 238, 28, 172]
abbrev dktX8_shore_3 : List UInt8 := dkwX8_shore_3 ++ []
def dkwX8_shore_2 : List UInt8 := [180, 0, 244, 161, 0, 11, 42, 7, 182, 0, 241, 167, 0, 16, 42, 180, 0, 200, 27, 160, 0, 8, 42, 8]
abbrev dktX8_shore_2 : List UInt8 := dkwX8_shore_2 ++ dktX8_shore_3
def dkwX8_shore_1 : List UInt8 := [167, 0, 51, 42, 180, 0, 216, 6, 164, 0, 11, 42, 5, 182, 0, 241, 167, 0, 35, 42, 180, 0, 200, 42]
abbrev dktX8_shore_1 : List UInt8 := dkwX8_shore_1 ++ dktX8_shore_2
def dkwX8_shore_0 : List UInt8 := [42, 182, 0, 230, 154, 0, 5, 3, 172, 42, 180, 0, 206, 5, 159, 0, 11, 42, 4, 182, 0, 241]
abbrev dktX8_shore_0 : List UInt8 := dkwX8_shore_0 ++ dktX8_shore_1
theorem dksX8_shore_0 : cX8_shore.data.toList.drop 0 = dktX8_shore_0 := by decide +kernel
theorem dksX8_shore_1 : cX8_shore.data.toList.drop 22 = dktX8_shore_1 := dk_seg dksX8_shore_0 22 rfl rfl
theorem dksX8_shore_2 : cX8_shore.data.toList.drop 46 = dktX8_shore_2 := dk_seg dksX8_shore_1 24 rfl rfl
theorem dksX8_shore_3 : cX8_shore.data.toList.drop 70 = dktX8_shore_3 := dk_seg dksX8_shore_2 24 rfl rfl
theorem dX8_shore_0 : decode cX8_shore 0 = .ok (.aload_n 0, 1) := dk_42 (dk_at dksX8_shore_0 0 rfl rfl)
theorem dX8_shore_1 : decode cX8_shore 1 = .ok (.invokevirtual 230, 3) := dk_182 0 230 (dk_at dksX8_shore_0 1 rfl rfl)
theorem dX8_shore_4 : decode cX8_shore 4 = .ok (.ifCond .ne 5, 3) := dk_154 0 5 (dk_at dksX8_shore_0 4 rfl rfl)
theorem dX8_shore_7 : decode cX8_shore 7 = .ok (.iconst 0, 1) := dk_3 (dk_at dksX8_shore_0 7 rfl rfl)
theorem dX8_shore_8 : decode cX8_shore 8 = .ok (.ireturn, 1) := dk_172 (dk_at dksX8_shore_0 8 rfl rfl)
theorem dX8_shore_9 : decode cX8_shore 9 = .ok (.aload_n 0, 1) := dk_42 (dk_at dksX8_shore_0 9 rfl rfl)
theorem dX8_shore_10 : decode cX8_shore 10 = .ok (.getfield 206, 3) := dk_180 0 206 (dk_at dksX8_shore_0 10 rfl rfl)
theorem dX8_shore_13 : decode cX8_shore 13 = .ok (.iconst 2, 1) := dk_5 (dk_at dksX8_shore_0 13 rfl rfl)
theorem dX8_shore_14 : decode cX8_shore 14 = .ok (.if_icmp .eq 11, 3) := dk_159 0 11 (dk_at dksX8_shore_0 14 rfl rfl)
theorem dX8_shore_17 : decode cX8_shore 17 = .ok (.aload_n 0, 1) := dk_42 (dk_at dksX8_shore_0 17 rfl rfl)
theorem dX8_shore_18 : decode cX8_shore 18 = .ok (.iconst 1, 1) := dk_4 (dk_at dksX8_shore_0 18 rfl rfl)
theorem dX8_shore_19 : decode cX8_shore 19 = .ok (.invokevirtual 241, 3) := dk_182 0 241 (dk_at dksX8_shore_0 19 rfl rfl)
theorem dX8_shore_22 : decode cX8_shore 22 = .ok (.goto 51, 3) := dk_167 0 51 (dk_at dksX8_shore_1 0 rfl rfl)
theorem dX8_shore_25 : decode cX8_shore 25 = .ok (.aload_n 0, 1) := dk_42 (dk_at dksX8_shore_1 3 rfl rfl)
theorem dX8_shore_26 : decode cX8_shore 26 = .ok (.getfield 216, 3) := dk_180 0 216 (dk_at dksX8_shore_1 4 rfl rfl)
theorem dX8_shore_29 : decode cX8_shore 29 = .ok (.iconst 3, 1) := dk_6 (dk_at dksX8_shore_1 7 rfl rfl)
theorem dX8_shore_30 : decode cX8_shore 30 = .ok (.if_icmp .le 11, 3) := dk_164 0 11 (dk_at dksX8_shore_1 8 rfl rfl)
theorem dX8_shore_33 : decode cX8_shore 33 = .ok (.aload_n 0, 1) := dk_42 (dk_at dksX8_shore_1 11 rfl rfl)
theorem dX8_shore_34 : decode cX8_shore 34 = .ok (.iconst 2, 1) := dk_5 (dk_at dksX8_shore_1 12 rfl rfl)
theorem dX8_shore_35 : decode cX8_shore 35 = .ok (.invokevirtual 241, 3) := dk_182 0 241 (dk_at dksX8_shore_1 13 rfl rfl)
theorem dX8_shore_38 : decode cX8_shore 38 = .ok (.goto 35, 3) := dk_167 0 35 (dk_at dksX8_shore_1 16 rfl rfl)
theorem dX8_shore_41 : decode cX8_shore 41 = .ok (.aload_n 0, 1) := dk_42 (dk_at dksX8_shore_1 19 rfl rfl)
theorem dX8_shore_42 : decode cX8_shore 42 = .ok (.getfield 200, 3) := dk_180 0 200 (dk_at dksX8_shore_1 20 rfl rfl)
theorem dX8_shore_45 : decode cX8_shore 45 = .ok (.aload_n 0, 1) := dk_42 (dk_at dksX8_shore_1 23 rfl rfl)
theorem dX8_shore_46 : decode cX8_shore 46 = .ok (.getfield 244, 3) := dk_180 0 244 (dk_at dksX8_shore_2 0 rfl rfl)
theorem dX8_shore_49 : decode cX8_shore 49 = .ok (.if_icmp .lt 11, 3) := dk_161 0 11 (dk_at dksX8_shore_2 3 rfl rfl)
theorem dX8_shore_52 : decode cX8_shore 52 = .ok (.aload_n 0, 1) := dk_42 (dk_at dksX8_shore_2 6 rfl rfl)
theorem dX8_shore_53 : decode cX8_shore 53 = .ok (.iconst 4, 1) := dk_7 (dk_at dksX8_shore_2 7 rfl rfl)
theorem dX8_shore_54 : decode cX8_shore 54 = .ok (.invokevirtual 241, 3) := dk_182 0 241 (dk_at dksX8_shore_2 8 rfl rfl)
theorem dX8_shore_57 : decode cX8_shore 57 = .ok (.goto 16, 3) := dk_167 0 16 (dk_at dksX8_shore_2 11 rfl rfl)
theorem dX8_shore_60 : decode cX8_shore 60 = .ok (.aload_n 0, 1) := dk_42 (dk_at dksX8_shore_2 14 rfl rfl)
theorem dX8_shore_61 : decode cX8_shore 61 = .ok (.getfield 200, 3) := dk_180 0 200 (dk_at dksX8_shore_2 15 rfl rfl)
theorem dX8_shore_64 : decode cX8_shore 64 = .ok (.iload_n 1, 1) := dk_27 (dk_at dksX8_shore_2 18 rfl rfl)
theorem dX8_shore_65 : decode cX8_shore 65 = .ok (.if_icmp .ne 8, 3) := dk_160 0 8 (dk_at dksX8_shore_2 19 rfl rfl)
theorem dX8_shore_68 : decode cX8_shore 68 = .ok (.aload_n 0, 1) := dk_42 (dk_at dksX8_shore_2 22 rfl rfl)
theorem dX8_shore_69 : decode cX8_shore 69 = .ok (.iconst 5, 1) := dk_8 (dk_at dksX8_shore_2 23 rfl rfl)
theorem dX8_shore_70 : decode cX8_shore 70 = .ok (.invokevirtual 241, 3) := dk_182 0 241 (dk_at dksX8_shore_3 0 rfl rfl)
theorem dX8_shore_73 : decode cX8_shore 73 = .ok (.aload_n 0, 1) := dk_42 (dk_at dksX8_shore_3 3 rfl rfl)
theorem dX8_shore_74 : decode cX8_shore 74 = .ok (.getfield 200, 3) := dk_180 0 200 (dk_at dksX8_shore_3 4 rfl rfl)
theorem dX8_shore_77 : decode cX8_shore 77 = .ok (.istore_n 2, 1) := dk_61 (dk_at dksX8_shore_3 7 rfl rfl)
theorem dX8_shore_78 : decode cX8_shore 78 = .ok (.aload_n 0, 1) := dk_42 (dk_at dksX8_shore_3 8 rfl rfl)
theorem dX8_shore_79 : decode cX8_shore 79 = .ok (.invokevirtual 230, 3) := dk_182 0 230 (dk_at dksX8_shore_3 9 rfl rfl)
theorem dX8_shore_82 : decode cX8_shore 82 = .ok (.ifCond .eq 7, 3) := dk_153 0 7 (dk_at dksX8_shore_3 12 rfl rfl)
theorem dX8_shore_85 : decode cX8_shore 85 = .ok (.aload_n 0, 1) := dk_42 (dk_at dksX8_shore_3 15 rfl rfl)
theorem dX8_shore_86 : decode cX8_shore 86 = .ok (.invokevirtual 238, 3) := dk_182 0 238 (dk_at dksX8_shore_3 16 rfl rfl)
theorem dX8_shore_89 : decode cX8_shore 89 = .ok (.iload_n 2, 1) := dk_28 (dk_at dksX8_shore_3 19 rfl rfl)
theorem dX8_shore_90 : decode cX8_shore 90 = .ok (.ireturn, 1) := dk_172 (dk_at dksX8_shore_3 20 rfl rfl)
abbrev cX8_water : ByteArray := prog_19_method_24_code
def yX8_water : MethodName := ⟨RX8, "water", "(Z)V"⟩
def dkwX8_water_2 : List UInt8 := [7, 29, 104, 28, 96, 4, 84, 177]
abbrev dktX8_water_2 : List UInt8 := dkwX8_water_2 ++ []
def dkwX8_water_1 : List UInt8 := [42, 4, 181, 1, 10, 42, 180, 0, 84, 7, 28, 104, 29, 96, 4, 84, 27, 153, 0, 14, 42, 180, 0, 84]
abbrev dktX8_water_1 : List UInt8 := dkwX8_water_1 ++ dktX8_water_2
def dkwX8_water_0 : List UInt8 := [42, 182, 0, 238, 42, 2, 182, 1, 7, 61, 42, 28, 182, 1, 7, 62, 42, 182, 0, 230, 154, 0, 4, 177]
abbrev dktX8_water_0 : List UInt8 := dkwX8_water_0 ++ dktX8_water_1
theorem dksX8_water_0 : cX8_water.data.toList.drop 0 = dktX8_water_0 := by decide +kernel
theorem dksX8_water_1 : cX8_water.data.toList.drop 24 = dktX8_water_1 := dk_seg dksX8_water_0 24 rfl rfl
theorem dksX8_water_2 : cX8_water.data.toList.drop 48 = dktX8_water_2 := dk_seg dksX8_water_1 24 rfl rfl
theorem dX8_water_0 : decode cX8_water 0 = .ok (.aload_n 0, 1) := dk_42 (dk_at dksX8_water_0 0 rfl rfl)
theorem dX8_water_1 : decode cX8_water 1 = .ok (.invokevirtual 238, 3) := dk_182 0 238 (dk_at dksX8_water_0 1 rfl rfl)
theorem dX8_water_4 : decode cX8_water 4 = .ok (.aload_n 0, 1) := dk_42 (dk_at dksX8_water_0 4 rfl rfl)
theorem dX8_water_5 : decode cX8_water 5 = .ok (.iconst (-1), 1) := dk_2 (dk_at dksX8_water_0 5 rfl rfl)
theorem dX8_water_6 : decode cX8_water 6 = .ok (.invokevirtual 263, 3) := dk_182 1 7 (dk_at dksX8_water_0 6 rfl rfl)
theorem dX8_water_9 : decode cX8_water 9 = .ok (.istore_n 2, 1) := dk_61 (dk_at dksX8_water_0 9 rfl rfl)
theorem dX8_water_10 : decode cX8_water 10 = .ok (.aload_n 0, 1) := dk_42 (dk_at dksX8_water_0 10 rfl rfl)
theorem dX8_water_11 : decode cX8_water 11 = .ok (.iload_n 2, 1) := dk_28 (dk_at dksX8_water_0 11 rfl rfl)
theorem dX8_water_12 : decode cX8_water 12 = .ok (.invokevirtual 263, 3) := dk_182 1 7 (dk_at dksX8_water_0 12 rfl rfl)
theorem dX8_water_15 : decode cX8_water 15 = .ok (.istore_n 3, 1) := dk_62 (dk_at dksX8_water_0 15 rfl rfl)
theorem dX8_water_16 : decode cX8_water 16 = .ok (.aload_n 0, 1) := dk_42 (dk_at dksX8_water_0 16 rfl rfl)
theorem dX8_water_17 : decode cX8_water 17 = .ok (.invokevirtual 230, 3) := dk_182 0 230 (dk_at dksX8_water_0 17 rfl rfl)
theorem dX8_water_20 : decode cX8_water 20 = .ok (.ifCond .ne 4, 3) := dk_154 0 4 (dk_at dksX8_water_0 20 rfl rfl)
theorem dX8_water_23 : decode cX8_water 23 = .ok (.return_, 1) := dk_177 (dk_at dksX8_water_0 23 rfl rfl)
theorem dX8_water_24 : decode cX8_water 24 = .ok (.aload_n 0, 1) := dk_42 (dk_at dksX8_water_1 0 rfl rfl)
theorem dX8_water_25 : decode cX8_water 25 = .ok (.iconst 1, 1) := dk_4 (dk_at dksX8_water_1 1 rfl rfl)
theorem dX8_water_26 : decode cX8_water 26 = .ok (.putfield 266, 3) := dk_181 1 10 (dk_at dksX8_water_1 2 rfl rfl)
theorem dX8_water_29 : decode cX8_water 29 = .ok (.aload_n 0, 1) := dk_42 (dk_at dksX8_water_1 5 rfl rfl)
theorem dX8_water_30 : decode cX8_water 30 = .ok (.getfield 84, 3) := dk_180 0 84 (dk_at dksX8_water_1 6 rfl rfl)
theorem dX8_water_33 : decode cX8_water 33 = .ok (.iconst 4, 1) := dk_7 (dk_at dksX8_water_1 9 rfl rfl)
theorem dX8_water_34 : decode cX8_water 34 = .ok (.iload_n 2, 1) := dk_28 (dk_at dksX8_water_1 10 rfl rfl)
theorem dX8_water_35 : decode cX8_water 35 = .ok (.imul, 1) := dk_104 (dk_at dksX8_water_1 11 rfl rfl)
theorem dX8_water_36 : decode cX8_water 36 = .ok (.iload_n 3, 1) := dk_29 (dk_at dksX8_water_1 12 rfl rfl)
theorem dX8_water_37 : decode cX8_water 37 = .ok (.iadd, 1) := dk_96 (dk_at dksX8_water_1 13 rfl rfl)
theorem dX8_water_38 : decode cX8_water 38 = .ok (.iconst 1, 1) := dk_4 (dk_at dksX8_water_1 14 rfl rfl)
theorem dX8_water_39 : decode cX8_water 39 = .ok (.bastore, 1) := dk_84 (dk_at dksX8_water_1 15 rfl rfl)
theorem dX8_water_40 : decode cX8_water 40 = .ok (.iload_n 1, 1) := dk_27 (dk_at dksX8_water_1 16 rfl rfl)
theorem dX8_water_41 : decode cX8_water 41 = .ok (.ifCond .eq 14, 3) := dk_153 0 14 (dk_at dksX8_water_1 17 rfl rfl)
theorem dX8_water_44 : decode cX8_water 44 = .ok (.aload_n 0, 1) := dk_42 (dk_at dksX8_water_1 20 rfl rfl)
theorem dX8_water_45 : decode cX8_water 45 = .ok (.getfield 84, 3) := dk_180 0 84 (dk_at dksX8_water_1 21 rfl rfl)
theorem dX8_water_48 : decode cX8_water 48 = .ok (.iconst 4, 1) := dk_7 (dk_at dksX8_water_2 0 rfl rfl)
theorem dX8_water_49 : decode cX8_water 49 = .ok (.iload_n 3, 1) := dk_29 (dk_at dksX8_water_2 1 rfl rfl)
theorem dX8_water_50 : decode cX8_water 50 = .ok (.imul, 1) := dk_104 (dk_at dksX8_water_2 2 rfl rfl)
theorem dX8_water_51 : decode cX8_water 51 = .ok (.iload_n 2, 1) := dk_28 (dk_at dksX8_water_2 3 rfl rfl)
theorem dX8_water_52 : decode cX8_water 52 = .ok (.iadd, 1) := dk_96 (dk_at dksX8_water_2 4 rfl rfl)
theorem dX8_water_53 : decode cX8_water 53 = .ok (.iconst 1, 1) := dk_4 (dk_at dksX8_water_2 5 rfl rfl)
theorem dX8_water_54 : decode cX8_water 54 = .ok (.bastore, 1) := dk_84 (dk_at dksX8_water_2 6 rfl rfl)
theorem dX8_water_55 : decode cX8_water 55 = .ok (.return_, 1) := dk_177 (dk_at dksX8_water_2 7 rfl rfl)
abbrev cX8_lamp : ByteArray := prog_19_method_25_code
def yX8_lamp : MethodName := ⟨RX8, "lamp", "()V"⟩
def dkwX8_lamp_2 : List UInt8 := [181, 1, 14, 177]
abbrev dktX8_lamp_2 : List UInt8 := dkwX8_lamp_2 ++ []
def dkwX8_lamp_1 : List UInt8 := [182, 0, 238, 42, 16, 11, 182, 0, 253, 42, 2, 182, 1, 7, 60, 42, 182, 0, 230, 153, 0, 8, 42, 27]
abbrev dktX8_lamp_1 : List UInt8 := dkwX8_lamp_1 ++ dktX8_lamp_2
def dkwX8_lamp_0 : List UInt8 := [42, 180, 1, 14, 2, 159, 0, 8, 42, 8, 182, 0, 241, 42, 182, 0, 230, 154, 0, 4, 177, 42]
abbrev dktX8_lamp_0 : List UInt8 := dkwX8_lamp_0 ++ dktX8_lamp_1
theorem dksX8_lamp_0 : cX8_lamp.data.toList.drop 0 = dktX8_lamp_0 := by decide +kernel
theorem dksX8_lamp_1 : cX8_lamp.data.toList.drop 22 = dktX8_lamp_1 := dk_seg dksX8_lamp_0 22 rfl rfl
theorem dksX8_lamp_2 : cX8_lamp.data.toList.drop 46 = dktX8_lamp_2 := dk_seg dksX8_lamp_1 24 rfl rfl
theorem dX8_lamp_0 : decode cX8_lamp 0 = .ok (.aload_n 0, 1) := dk_42 (dk_at dksX8_lamp_0 0 rfl rfl)
theorem dX8_lamp_1 : decode cX8_lamp 1 = .ok (.getfield 270, 3) := dk_180 1 14 (dk_at dksX8_lamp_0 1 rfl rfl)
theorem dX8_lamp_4 : decode cX8_lamp 4 = .ok (.iconst (-1), 1) := dk_2 (dk_at dksX8_lamp_0 4 rfl rfl)
theorem dX8_lamp_5 : decode cX8_lamp 5 = .ok (.if_icmp .eq 8, 3) := dk_159 0 8 (dk_at dksX8_lamp_0 5 rfl rfl)
theorem dX8_lamp_8 : decode cX8_lamp 8 = .ok (.aload_n 0, 1) := dk_42 (dk_at dksX8_lamp_0 8 rfl rfl)
theorem dX8_lamp_9 : decode cX8_lamp 9 = .ok (.iconst 5, 1) := dk_8 (dk_at dksX8_lamp_0 9 rfl rfl)
theorem dX8_lamp_10 : decode cX8_lamp 10 = .ok (.invokevirtual 241, 3) := dk_182 0 241 (dk_at dksX8_lamp_0 10 rfl rfl)
theorem dX8_lamp_13 : decode cX8_lamp 13 = .ok (.aload_n 0, 1) := dk_42 (dk_at dksX8_lamp_0 13 rfl rfl)
theorem dX8_lamp_14 : decode cX8_lamp 14 = .ok (.invokevirtual 230, 3) := dk_182 0 230 (dk_at dksX8_lamp_0 14 rfl rfl)
theorem dX8_lamp_17 : decode cX8_lamp 17 = .ok (.ifCond .ne 4, 3) := dk_154 0 4 (dk_at dksX8_lamp_0 17 rfl rfl)
theorem dX8_lamp_20 : decode cX8_lamp 20 = .ok (.return_, 1) := dk_177 (dk_at dksX8_lamp_0 20 rfl rfl)
theorem dX8_lamp_21 : decode cX8_lamp 21 = .ok (.aload_n 0, 1) := dk_42 (dk_at dksX8_lamp_0 21 rfl rfl)
theorem dX8_lamp_22 : decode cX8_lamp 22 = .ok (.invokevirtual 238, 3) := dk_182 0 238 (dk_at dksX8_lamp_1 0 rfl rfl)
theorem dX8_lamp_25 : decode cX8_lamp 25 = .ok (.aload_n 0, 1) := dk_42 (dk_at dksX8_lamp_1 3 rfl rfl)
theorem dX8_lamp_26 : decode cX8_lamp 26 = .ok (.bipush 11, 2) := dk_16 11 (dk_at dksX8_lamp_1 4 rfl rfl)
theorem dX8_lamp_28 : decode cX8_lamp 28 = .ok (.invokevirtual 253, 3) := dk_182 0 253 (dk_at dksX8_lamp_1 6 rfl rfl)
theorem dX8_lamp_31 : decode cX8_lamp 31 = .ok (.aload_n 0, 1) := dk_42 (dk_at dksX8_lamp_1 9 rfl rfl)
theorem dX8_lamp_32 : decode cX8_lamp 32 = .ok (.iconst (-1), 1) := dk_2 (dk_at dksX8_lamp_1 10 rfl rfl)
theorem dX8_lamp_33 : decode cX8_lamp 33 = .ok (.invokevirtual 263, 3) := dk_182 1 7 (dk_at dksX8_lamp_1 11 rfl rfl)
theorem dX8_lamp_36 : decode cX8_lamp 36 = .ok (.istore_n 1, 1) := dk_60 (dk_at dksX8_lamp_1 14 rfl rfl)
theorem dX8_lamp_37 : decode cX8_lamp 37 = .ok (.aload_n 0, 1) := dk_42 (dk_at dksX8_lamp_1 15 rfl rfl)
theorem dX8_lamp_38 : decode cX8_lamp 38 = .ok (.invokevirtual 230, 3) := dk_182 0 230 (dk_at dksX8_lamp_1 16 rfl rfl)
theorem dX8_lamp_41 : decode cX8_lamp 41 = .ok (.ifCond .eq 8, 3) := dk_153 0 8 (dk_at dksX8_lamp_1 19 rfl rfl)
theorem dX8_lamp_44 : decode cX8_lamp 44 = .ok (.aload_n 0, 1) := dk_42 (dk_at dksX8_lamp_1 22 rfl rfl)
theorem dX8_lamp_45 : decode cX8_lamp 45 = .ok (.iload_n 1, 1) := dk_27 (dk_at dksX8_lamp_1 23 rfl rfl)
theorem dX8_lamp_46 : decode cX8_lamp 46 = .ok (.putfield 270, 3) := dk_181 1 14 (dk_at dksX8_lamp_2 0 rfl rfl)
theorem dX8_lamp_49 : decode cX8_lamp 49 = .ok (.return_, 1) := dk_177 (dk_at dksX8_lamp_2 3 rfl rfl)
abbrev cX8_never : ByteArray := prog_19_method_26_code
def yX8_never : MethodName := ⟨RX8, "never", "()V"⟩
def dkwX8_never_5 : List UInt8 := [42, 89, 180, 1, 17, 4, 96, 181, 1, 17, 177]
abbrev dktX8_never_5 : List UInt8 := dkwX8_never_5 ++ []
def dkwX8_never_4 : List UInt8 := [154, 0, 4, 177, 42, 180, 0, 72, 42, 180, 1, 17, 28, 79, 42, 180, 0, 75, 42, 180, 1, 17, 27, 79]
abbrev dktX8_never_4 : List UInt8 := dkwX8_never_4 ++ dktX8_never_5
def dkwX8_never_3 : List UInt8 := [167, 0, 19, 29, 16, 13, 160, 0, 8, 16, 253, 167, 0, 8, 42, 2, 182, 1, 7, 61, 42, 182, 0, 230]
abbrev dktX8_never_3 : List UInt8 := dkwX8_never_3 ++ dktX8_never_4
def dkwX8_never_2 : List UInt8 := [16, 11, 161, 0, 41, 29, 16, 13, 163, 0, 35, 42, 182, 0, 238, 29, 16, 12, 160, 0, 8, 16, 254]
abbrev dktX8_never_2 : List UInt8 := dkwX8_never_2 ++ dktX8_never_3
def dkwX8_never_1 : List UInt8 := [182, 0, 238, 42, 182, 1, 20, 60, 2, 61, 42, 182, 0, 234, 62, 42, 182, 0, 230, 153, 0, 47, 29]
abbrev dktX8_never_1 : List UInt8 := dkwX8_never_1 ++ dktX8_never_2
def dkwX8_never_0 : List UInt8 := [42, 180, 1, 17, 16, 12, 160, 0, 8, 42, 5, 182, 0, 241, 42, 182, 0, 230, 154, 0, 4, 177, 42]
abbrev dktX8_never_0 : List UInt8 := dkwX8_never_0 ++ dktX8_never_1
theorem dksX8_never_0 : cX8_never.data.toList.drop 0 = dktX8_never_0 := by decide +kernel
theorem dksX8_never_1 : cX8_never.data.toList.drop 23 = dktX8_never_1 := dk_seg dksX8_never_0 23 rfl rfl
theorem dksX8_never_2 : cX8_never.data.toList.drop 46 = dktX8_never_2 := dk_seg dksX8_never_1 23 rfl rfl
theorem dksX8_never_3 : cX8_never.data.toList.drop 69 = dktX8_never_3 := dk_seg dksX8_never_2 23 rfl rfl
theorem dksX8_never_4 : cX8_never.data.toList.drop 93 = dktX8_never_4 := dk_seg dksX8_never_3 24 rfl rfl
theorem dksX8_never_5 : cX8_never.data.toList.drop 117 = dktX8_never_5 := dk_seg dksX8_never_4 24 rfl rfl
theorem dX8_never_0 : decode cX8_never 0 = .ok (.aload_n 0, 1) := dk_42 (dk_at dksX8_never_0 0 rfl rfl)
theorem dX8_never_1 : decode cX8_never 1 = .ok (.getfield 273, 3) := dk_180 1 17 (dk_at dksX8_never_0 1 rfl rfl)
theorem dX8_never_4 : decode cX8_never 4 = .ok (.bipush 12, 2) := dk_16 12 (dk_at dksX8_never_0 4 rfl rfl)
theorem dX8_never_6 : decode cX8_never 6 = .ok (.if_icmp .ne 8, 3) := dk_160 0 8 (dk_at dksX8_never_0 6 rfl rfl)
theorem dX8_never_9 : decode cX8_never 9 = .ok (.aload_n 0, 1) := dk_42 (dk_at dksX8_never_0 9 rfl rfl)
theorem dX8_never_10 : decode cX8_never 10 = .ok (.iconst 2, 1) := dk_5 (dk_at dksX8_never_0 10 rfl rfl)
theorem dX8_never_11 : decode cX8_never 11 = .ok (.invokevirtual 241, 3) := dk_182 0 241 (dk_at dksX8_never_0 11 rfl rfl)
theorem dX8_never_14 : decode cX8_never 14 = .ok (.aload_n 0, 1) := dk_42 (dk_at dksX8_never_0 14 rfl rfl)
theorem dX8_never_15 : decode cX8_never 15 = .ok (.invokevirtual 230, 3) := dk_182 0 230 (dk_at dksX8_never_0 15 rfl rfl)
theorem dX8_never_18 : decode cX8_never 18 = .ok (.ifCond .ne 4, 3) := dk_154 0 4 (dk_at dksX8_never_0 18 rfl rfl)
theorem dX8_never_21 : decode cX8_never 21 = .ok (.return_, 1) := dk_177 (dk_at dksX8_never_0 21 rfl rfl)
theorem dX8_never_22 : decode cX8_never 22 = .ok (.aload_n 0, 1) := dk_42 (dk_at dksX8_never_0 22 rfl rfl)
theorem dX8_never_23 : decode cX8_never 23 = .ok (.invokevirtual 238, 3) := dk_182 0 238 (dk_at dksX8_never_1 0 rfl rfl)
theorem dX8_never_26 : decode cX8_never 26 = .ok (.aload_n 0, 1) := dk_42 (dk_at dksX8_never_1 3 rfl rfl)
theorem dX8_never_27 : decode cX8_never 27 = .ok (.invokevirtual 276, 3) := dk_182 1 20 (dk_at dksX8_never_1 4 rfl rfl)
theorem dX8_never_30 : decode cX8_never 30 = .ok (.istore_n 1, 1) := dk_60 (dk_at dksX8_never_1 7 rfl rfl)
theorem dX8_never_31 : decode cX8_never 31 = .ok (.iconst (-1), 1) := dk_2 (dk_at dksX8_never_1 8 rfl rfl)
theorem dX8_never_32 : decode cX8_never 32 = .ok (.istore_n 2, 1) := dk_61 (dk_at dksX8_never_1 9 rfl rfl)
theorem dX8_never_33 : decode cX8_never 33 = .ok (.aload_n 0, 1) := dk_42 (dk_at dksX8_never_1 10 rfl rfl)
theorem dX8_never_34 : decode cX8_never 34 = .ok (.invokevirtual 234, 3) := dk_182 0 234 (dk_at dksX8_never_1 11 rfl rfl)
theorem dX8_never_37 : decode cX8_never 37 = .ok (.istore_n 3, 1) := dk_62 (dk_at dksX8_never_1 14 rfl rfl)
theorem dX8_never_38 : decode cX8_never 38 = .ok (.aload_n 0, 1) := dk_42 (dk_at dksX8_never_1 15 rfl rfl)
theorem dX8_never_39 : decode cX8_never 39 = .ok (.invokevirtual 230, 3) := dk_182 0 230 (dk_at dksX8_never_1 16 rfl rfl)
theorem dX8_never_42 : decode cX8_never 42 = .ok (.ifCond .eq 47, 3) := dk_153 0 47 (dk_at dksX8_never_1 19 rfl rfl)
theorem dX8_never_45 : decode cX8_never 45 = .ok (.iload_n 3, 1) := dk_29 (dk_at dksX8_never_1 22 rfl rfl)
theorem dX8_never_46 : decode cX8_never 46 = .ok (.bipush 11, 2) := dk_16 11 (dk_at dksX8_never_2 0 rfl rfl)
theorem dX8_never_48 : decode cX8_never 48 = .ok (.if_icmp .lt 41, 3) := dk_161 0 41 (dk_at dksX8_never_2 2 rfl rfl)
theorem dX8_never_51 : decode cX8_never 51 = .ok (.iload_n 3, 1) := dk_29 (dk_at dksX8_never_2 5 rfl rfl)
theorem dX8_never_52 : decode cX8_never 52 = .ok (.bipush 13, 2) := dk_16 13 (dk_at dksX8_never_2 6 rfl rfl)
theorem dX8_never_54 : decode cX8_never 54 = .ok (.if_icmp .gt 35, 3) := dk_163 0 35 (dk_at dksX8_never_2 8 rfl rfl)
theorem dX8_never_57 : decode cX8_never 57 = .ok (.aload_n 0, 1) := dk_42 (dk_at dksX8_never_2 11 rfl rfl)
theorem dX8_never_58 : decode cX8_never 58 = .ok (.invokevirtual 238, 3) := dk_182 0 238 (dk_at dksX8_never_2 12 rfl rfl)
theorem dX8_never_61 : decode cX8_never 61 = .ok (.iload_n 3, 1) := dk_29 (dk_at dksX8_never_2 15 rfl rfl)
theorem dX8_never_62 : decode cX8_never 62 = .ok (.bipush 12, 2) := dk_16 12 (dk_at dksX8_never_2 16 rfl rfl)
theorem dX8_never_64 : decode cX8_never 64 = .ok (.if_icmp .ne 8, 3) := dk_160 0 8 (dk_at dksX8_never_2 18 rfl rfl)
theorem dX8_never_67 : decode cX8_never 67 = .ok (.bipush (-2), 2) := dk_16 254 (dk_at dksX8_never_2 21 rfl rfl)
theorem dX8_never_69 : decode cX8_never 69 = .ok (.goto 19, 3) := dk_167 0 19 (dk_at dksX8_never_3 0 rfl rfl)
theorem dX8_never_72 : decode cX8_never 72 = .ok (.iload_n 3, 1) := dk_29 (dk_at dksX8_never_3 3 rfl rfl)
theorem dX8_never_73 : decode cX8_never 73 = .ok (.bipush 13, 2) := dk_16 13 (dk_at dksX8_never_3 4 rfl rfl)
theorem dX8_never_75 : decode cX8_never 75 = .ok (.if_icmp .ne 8, 3) := dk_160 0 8 (dk_at dksX8_never_3 6 rfl rfl)
theorem dX8_never_78 : decode cX8_never 78 = .ok (.bipush (-3), 2) := dk_16 253 (dk_at dksX8_never_3 9 rfl rfl)
theorem dX8_never_80 : decode cX8_never 80 = .ok (.goto 8, 3) := dk_167 0 8 (dk_at dksX8_never_3 11 rfl rfl)
theorem dX8_never_83 : decode cX8_never 83 = .ok (.aload_n 0, 1) := dk_42 (dk_at dksX8_never_3 14 rfl rfl)
theorem dX8_never_84 : decode cX8_never 84 = .ok (.iconst (-1), 1) := dk_2 (dk_at dksX8_never_3 15 rfl rfl)
theorem dX8_never_85 : decode cX8_never 85 = .ok (.invokevirtual 263, 3) := dk_182 1 7 (dk_at dksX8_never_3 16 rfl rfl)
theorem dX8_never_88 : decode cX8_never 88 = .ok (.istore_n 2, 1) := dk_61 (dk_at dksX8_never_3 19 rfl rfl)
theorem dX8_never_89 : decode cX8_never 89 = .ok (.aload_n 0, 1) := dk_42 (dk_at dksX8_never_3 20 rfl rfl)
theorem dX8_never_90 : decode cX8_never 90 = .ok (.invokevirtual 230, 3) := dk_182 0 230 (dk_at dksX8_never_3 21 rfl rfl)
theorem dX8_never_93 : decode cX8_never 93 = .ok (.ifCond .ne 4, 3) := dk_154 0 4 (dk_at dksX8_never_4 0 rfl rfl)
theorem dX8_never_96 : decode cX8_never 96 = .ok (.return_, 1) := dk_177 (dk_at dksX8_never_4 3 rfl rfl)
theorem dX8_never_97 : decode cX8_never 97 = .ok (.aload_n 0, 1) := dk_42 (dk_at dksX8_never_4 4 rfl rfl)
theorem dX8_never_98 : decode cX8_never 98 = .ok (.getfield 72, 3) := dk_180 0 72 (dk_at dksX8_never_4 5 rfl rfl)
theorem dX8_never_101 : decode cX8_never 101 = .ok (.aload_n 0, 1) := dk_42 (dk_at dksX8_never_4 8 rfl rfl)
theorem dX8_never_102 : decode cX8_never 102 = .ok (.getfield 273, 3) := dk_180 1 17 (dk_at dksX8_never_4 9 rfl rfl)
theorem dX8_never_105 : decode cX8_never 105 = .ok (.iload_n 2, 1) := dk_28 (dk_at dksX8_never_4 12 rfl rfl)
theorem dX8_never_106 : decode cX8_never 106 = .ok (.iastore, 1) := dk_79 (dk_at dksX8_never_4 13 rfl rfl)
theorem dX8_never_107 : decode cX8_never 107 = .ok (.aload_n 0, 1) := dk_42 (dk_at dksX8_never_4 14 rfl rfl)
theorem dX8_never_108 : decode cX8_never 108 = .ok (.getfield 75, 3) := dk_180 0 75 (dk_at dksX8_never_4 15 rfl rfl)
theorem dX8_never_111 : decode cX8_never 111 = .ok (.aload_n 0, 1) := dk_42 (dk_at dksX8_never_4 18 rfl rfl)
theorem dX8_never_112 : decode cX8_never 112 = .ok (.getfield 273, 3) := dk_180 1 17 (dk_at dksX8_never_4 19 rfl rfl)
theorem dX8_never_115 : decode cX8_never 115 = .ok (.iload_n 1, 1) := dk_27 (dk_at dksX8_never_4 22 rfl rfl)
theorem dX8_never_116 : decode cX8_never 116 = .ok (.iastore, 1) := dk_79 (dk_at dksX8_never_4 23 rfl rfl)
theorem dX8_never_117 : decode cX8_never 117 = .ok (.aload_n 0, 1) := dk_42 (dk_at dksX8_never_5 0 rfl rfl)
theorem dX8_never_118 : decode cX8_never 118 = .ok (.dup, 1) := dk_89 (dk_at dksX8_never_5 1 rfl rfl)
theorem dX8_never_119 : decode cX8_never 119 = .ok (.getfield 273, 3) := dk_180 1 17 (dk_at dksX8_never_5 2 rfl rfl)
theorem dX8_never_122 : decode cX8_never 122 = .ok (.iconst 1, 1) := dk_4 (dk_at dksX8_never_5 5 rfl rfl)
theorem dX8_never_123 : decode cX8_never 123 = .ok (.iadd, 1) := dk_96 (dk_at dksX8_never_5 6 rfl rfl)
theorem dX8_never_124 : decode cX8_never 124 = .ok (.putfield 273, 3) := dk_181 1 17 (dk_at dksX8_never_5 7 rfl rfl)
theorem dX8_never_127 : decode cX8_never 127 = .ok (.return_, 1) := dk_177 (dk_at dksX8_never_5 10 rfl rfl)
abbrev cX8_expression : ByteArray := prog_19_method_35_code
def yX8_expression : MethodName := ⟨RX8, "expression", "()I"⟩
def dkwX8_expression_16 : List UInt8 := [3, 182, 1, 69, 42, 3, 182, 1, 51, 27, 172]
abbrev dktX8_expression_16 : List UInt8 := dkwX8_expression_16 ++ []
def dkwX8_expression_15 : List UInt8 := [167, 254, 193, 42, 182, 0, 230, 153, 0, 16, 42, 180, 1, 54, 4, 164, 0, 8, 42, 4, 182, 0, 241, 42]
abbrev dktX8_expression_15 : List UInt8 := dkwX8_expression_15 ++ dktX8_expression_16
def dkwX8_expression_14 : List UInt8 := [4, 100, 181, 1, 45, 42, 89, 180, 1, 54, 4, 100, 181, 1, 54, 42, 182, 0, 238, 167, 0, 5, 3, 61]
abbrev dktX8_expression_14 : List UInt8 := dkwX8_expression_14 ++ dktX8_expression_15
def dkwX8_expression_13 : List UInt8 := [182, 1, 39, 153, 0, 43, 42, 180, 1, 54, 4, 164, 0, 35, 42, 3, 182, 1, 69, 42, 89, 180, 1, 45]
abbrev dktX8_expression_13 : List UInt8 := dkwX8_expression_13 ++ dktX8_expression_14
def dkwX8_expression_12 : List UInt8 := [167, 0, 5, 16, 11, 182, 1, 57, 42, 182, 0, 238, 42, 3, 182, 1, 66, 167, 0, 54, 42, 16, 41]
abbrev dktX8_expression_12 : List UInt8 := dkwX8_expression_12 ++ dktX8_expression_13
def dkwX8_expression_11 : List UInt8 := [182, 1, 39, 153, 0, 41, 42, 16, 6, 182, 1, 69, 42, 42, 16, 42, 182, 1, 39, 153, 0, 8, 16, 10]
abbrev dktX8_expression_11 : List UInt8 := dkwX8_expression_11 ++ dktX8_expression_12
def dkwX8_expression_10 : List UInt8 := [182, 0, 238, 42, 3, 182, 1, 66, 167, 0, 110, 42, 16, 42, 182, 1, 39, 154, 0, 12, 42, 16, 47]
abbrev dktX8_expression_10 : List UInt8 := dkwX8_expression_10 ++ dktX8_expression_11
def dkwX8_expression_9 : List UInt8 := [182, 1, 69, 42, 42, 16, 43, 182, 1, 39, 153, 0, 8, 16, 8, 167, 0, 5, 16, 9, 182, 1, 57, 42]
abbrev dktX8_expression_9 : List UInt8 := dkwX8_expression_9 ++ dktX8_expression_10
def dkwX8_expression_8 : List UInt8 := [167, 0, 165, 42, 16, 43, 182, 1, 39, 154, 0, 12, 42, 16, 45, 182, 1, 39, 153, 0, 40, 42, 8]
abbrev dktX8_expression_8 : List UInt8 := dkwX8_expression_8 ++ dktX8_expression_9
def dkwX8_expression_7 : List UInt8 := [16, 7, 182, 1, 57, 42, 180, 0, 87, 42, 180, 1, 54, 4, 84, 42, 182, 0, 238, 42, 3, 182, 1, 66]
abbrev dktX8_expression_7 : List UInt8 := dkwX8_expression_7 ++ dktX8_expression_8
def dkwX8_expression_6 : List UInt8 := [154, 0, 50, 42, 7, 182, 1, 69, 42, 42, 16, 60, 182, 1, 39, 153, 0, 8, 16, 6, 167, 0, 5]
abbrev dktX8_expression_6 : List UInt8 := dkwX8_expression_6 ++ dktX8_expression_7
def dkwX8_expression_5 : List UInt8 := [182, 1, 39, 154, 0, 12, 42, 16, 61, 182, 1, 39, 153, 0, 62, 42, 180, 0, 87, 42, 180, 1, 54, 51]
abbrev dktX8_expression_5 : List UInt8 := dkwX8_expression_5 ++ dktX8_expression_6
def dkwX8_expression_4 : List UInt8 := [180, 0, 87, 42, 180, 1, 54, 3, 84, 42, 182, 0, 238, 42, 4, 182, 1, 66, 167, 0, 242, 42, 16, 60]
abbrev dktX8_expression_4 : List UInt8 := dkwX8_expression_4 ++ dktX8_expression_5
def dkwX8_expression_3 : List UInt8 := [167, 0, 4, 4, 182, 1, 69, 42, 29, 16, 14, 160, 0, 7, 7, 167, 0, 4, 8, 182, 1, 57, 42]
abbrev dktX8_expression_3 : List UInt8 := dkwX8_expression_3 ++ dktX8_expression_4
def dkwX8_expression_2 : List UInt8 := [182, 0, 234, 62, 29, 16, 14, 159, 0, 9, 29, 16, 15, 160, 0, 55, 42, 29, 16, 14, 160, 0, 7, 5]
abbrev dktX8_expression_2 : List UInt8 := dkwX8_expression_2 ++ dktX8_expression_3
def dkwX8_expression_1 : List UInt8 := [42, 182, 1, 60, 42, 4, 182, 1, 66, 4, 61, 28, 153, 1, 65, 42, 182, 0, 230, 153, 1, 58, 42]
abbrev dktX8_expression_1 : List UInt8 := dkwX8_expression_1 ++ dktX8_expression_2
def dkwX8_expression_0 : List UInt8 := [42, 180, 1, 42, 60, 42, 182, 0, 230, 154, 0, 5, 27, 172, 42, 3, 181, 1, 45, 42, 3, 181, 1, 54]
abbrev dktX8_expression_0 : List UInt8 := dkwX8_expression_0 ++ dktX8_expression_1
theorem dksX8_expression_0 : cX8_expression.data.toList.drop 0 = dktX8_expression_0 := by decide +kernel
theorem dksX8_expression_1 : cX8_expression.data.toList.drop 24 = dktX8_expression_1 := dk_seg dksX8_expression_0 24 rfl rfl
theorem dksX8_expression_2 : cX8_expression.data.toList.drop 47 = dktX8_expression_2 := dk_seg dksX8_expression_1 23 rfl rfl
theorem dksX8_expression_3 : cX8_expression.data.toList.drop 71 = dktX8_expression_3 := dk_seg dksX8_expression_2 24 rfl rfl
theorem dksX8_expression_4 : cX8_expression.data.toList.drop 94 = dktX8_expression_4 := dk_seg dksX8_expression_3 23 rfl rfl
theorem dksX8_expression_5 : cX8_expression.data.toList.drop 118 = dktX8_expression_5 := dk_seg dksX8_expression_4 24 rfl rfl
theorem dksX8_expression_6 : cX8_expression.data.toList.drop 142 = dktX8_expression_6 := dk_seg dksX8_expression_5 24 rfl rfl
theorem dksX8_expression_7 : cX8_expression.data.toList.drop 165 = dktX8_expression_7 := dk_seg dksX8_expression_6 23 rfl rfl
theorem dksX8_expression_8 : cX8_expression.data.toList.drop 189 = dktX8_expression_8 := dk_seg dksX8_expression_7 24 rfl rfl
theorem dksX8_expression_9 : cX8_expression.data.toList.drop 212 = dktX8_expression_9 := dk_seg dksX8_expression_8 23 rfl rfl
theorem dksX8_expression_10 : cX8_expression.data.toList.drop 236 = dktX8_expression_10 := dk_seg dksX8_expression_9 24 rfl rfl
theorem dksX8_expression_11 : cX8_expression.data.toList.drop 259 = dktX8_expression_11 := dk_seg dksX8_expression_10 23 rfl rfl
theorem dksX8_expression_12 : cX8_expression.data.toList.drop 283 = dktX8_expression_12 := dk_seg dksX8_expression_11 24 rfl rfl
theorem dksX8_expression_13 : cX8_expression.data.toList.drop 306 = dktX8_expression_13 := dk_seg dksX8_expression_12 23 rfl rfl
theorem dksX8_expression_14 : cX8_expression.data.toList.drop 330 = dktX8_expression_14 := dk_seg dksX8_expression_13 24 rfl rfl
theorem dksX8_expression_15 : cX8_expression.data.toList.drop 354 = dktX8_expression_15 := dk_seg dksX8_expression_14 24 rfl rfl
theorem dksX8_expression_16 : cX8_expression.data.toList.drop 378 = dktX8_expression_16 := dk_seg dksX8_expression_15 24 rfl rfl
theorem dX8_expression_0 : decode cX8_expression 0 = .ok (.aload_n 0, 1) := dk_42 (dk_at dksX8_expression_0 0 rfl rfl)
theorem dX8_expression_1 : decode cX8_expression 1 = .ok (.getfield 298, 3) := dk_180 1 42 (dk_at dksX8_expression_0 1 rfl rfl)
theorem dX8_expression_4 : decode cX8_expression 4 = .ok (.istore_n 1, 1) := dk_60 (dk_at dksX8_expression_0 4 rfl rfl)
theorem dX8_expression_5 : decode cX8_expression 5 = .ok (.aload_n 0, 1) := dk_42 (dk_at dksX8_expression_0 5 rfl rfl)
theorem dX8_expression_6 : decode cX8_expression 6 = .ok (.invokevirtual 230, 3) := dk_182 0 230 (dk_at dksX8_expression_0 6 rfl rfl)
theorem dX8_expression_9 : decode cX8_expression 9 = .ok (.ifCond .ne 5, 3) := dk_154 0 5 (dk_at dksX8_expression_0 9 rfl rfl)
theorem dX8_expression_12 : decode cX8_expression 12 = .ok (.iload_n 1, 1) := dk_27 (dk_at dksX8_expression_0 12 rfl rfl)
theorem dX8_expression_13 : decode cX8_expression 13 = .ok (.ireturn, 1) := dk_172 (dk_at dksX8_expression_0 13 rfl rfl)
theorem dX8_expression_14 : decode cX8_expression 14 = .ok (.aload_n 0, 1) := dk_42 (dk_at dksX8_expression_0 14 rfl rfl)
theorem dX8_expression_15 : decode cX8_expression 15 = .ok (.iconst 0, 1) := dk_3 (dk_at dksX8_expression_0 15 rfl rfl)
theorem dX8_expression_16 : decode cX8_expression 16 = .ok (.putfield 301, 3) := dk_181 1 45 (dk_at dksX8_expression_0 16 rfl rfl)
theorem dX8_expression_19 : decode cX8_expression 19 = .ok (.aload_n 0, 1) := dk_42 (dk_at dksX8_expression_0 19 rfl rfl)
theorem dX8_expression_20 : decode cX8_expression 20 = .ok (.iconst 0, 1) := dk_3 (dk_at dksX8_expression_0 20 rfl rfl)
theorem dX8_expression_21 : decode cX8_expression 21 = .ok (.putfield 310, 3) := dk_181 1 54 (dk_at dksX8_expression_0 21 rfl rfl)
theorem dX8_expression_24 : decode cX8_expression 24 = .ok (.aload_n 0, 1) := dk_42 (dk_at dksX8_expression_1 0 rfl rfl)
theorem dX8_expression_25 : decode cX8_expression 25 = .ok (.invokevirtual 316, 3) := dk_182 1 60 (dk_at dksX8_expression_1 1 rfl rfl)
theorem dX8_expression_28 : decode cX8_expression 28 = .ok (.aload_n 0, 1) := dk_42 (dk_at dksX8_expression_1 4 rfl rfl)
theorem dX8_expression_29 : decode cX8_expression 29 = .ok (.iconst 1, 1) := dk_4 (dk_at dksX8_expression_1 5 rfl rfl)
theorem dX8_expression_30 : decode cX8_expression 30 = .ok (.invokevirtual 322, 3) := dk_182 1 66 (dk_at dksX8_expression_1 6 rfl rfl)
theorem dX8_expression_33 : decode cX8_expression 33 = .ok (.iconst 1, 1) := dk_4 (dk_at dksX8_expression_1 9 rfl rfl)
theorem dX8_expression_34 : decode cX8_expression 34 = .ok (.istore_n 2, 1) := dk_61 (dk_at dksX8_expression_1 10 rfl rfl)
theorem dX8_expression_35 : decode cX8_expression 35 = .ok (.iload_n 2, 1) := dk_28 (dk_at dksX8_expression_1 11 rfl rfl)
theorem dX8_expression_36 : decode cX8_expression 36 = .ok (.ifCond .eq 321, 3) := dk_153 1 65 (dk_at dksX8_expression_1 12 rfl rfl)
theorem dX8_expression_39 : decode cX8_expression 39 = .ok (.aload_n 0, 1) := dk_42 (dk_at dksX8_expression_1 15 rfl rfl)
theorem dX8_expression_40 : decode cX8_expression 40 = .ok (.invokevirtual 230, 3) := dk_182 0 230 (dk_at dksX8_expression_1 16 rfl rfl)
theorem dX8_expression_43 : decode cX8_expression 43 = .ok (.ifCond .eq 314, 3) := dk_153 1 58 (dk_at dksX8_expression_1 19 rfl rfl)
theorem dX8_expression_46 : decode cX8_expression 46 = .ok (.aload_n 0, 1) := dk_42 (dk_at dksX8_expression_1 22 rfl rfl)
theorem dX8_expression_47 : decode cX8_expression 47 = .ok (.invokevirtual 234, 3) := dk_182 0 234 (dk_at dksX8_expression_2 0 rfl rfl)
theorem dX8_expression_50 : decode cX8_expression 50 = .ok (.istore_n 3, 1) := dk_62 (dk_at dksX8_expression_2 3 rfl rfl)
theorem dX8_expression_51 : decode cX8_expression 51 = .ok (.iload_n 3, 1) := dk_29 (dk_at dksX8_expression_2 4 rfl rfl)
theorem dX8_expression_52 : decode cX8_expression 52 = .ok (.bipush 14, 2) := dk_16 14 (dk_at dksX8_expression_2 5 rfl rfl)
theorem dX8_expression_54 : decode cX8_expression 54 = .ok (.if_icmp .eq 9, 3) := dk_159 0 9 (dk_at dksX8_expression_2 7 rfl rfl)
theorem dX8_expression_57 : decode cX8_expression 57 = .ok (.iload_n 3, 1) := dk_29 (dk_at dksX8_expression_2 10 rfl rfl)
theorem dX8_expression_58 : decode cX8_expression 58 = .ok (.bipush 15, 2) := dk_16 15 (dk_at dksX8_expression_2 11 rfl rfl)
theorem dX8_expression_60 : decode cX8_expression 60 = .ok (.if_icmp .ne 55, 3) := dk_160 0 55 (dk_at dksX8_expression_2 13 rfl rfl)
theorem dX8_expression_63 : decode cX8_expression 63 = .ok (.aload_n 0, 1) := dk_42 (dk_at dksX8_expression_2 16 rfl rfl)
theorem dX8_expression_64 : decode cX8_expression 64 = .ok (.iload_n 3, 1) := dk_29 (dk_at dksX8_expression_2 17 rfl rfl)
theorem dX8_expression_65 : decode cX8_expression 65 = .ok (.bipush 14, 2) := dk_16 14 (dk_at dksX8_expression_2 18 rfl rfl)
theorem dX8_expression_67 : decode cX8_expression 67 = .ok (.if_icmp .ne 7, 3) := dk_160 0 7 (dk_at dksX8_expression_2 20 rfl rfl)
theorem dX8_expression_70 : decode cX8_expression 70 = .ok (.iconst 2, 1) := dk_5 (dk_at dksX8_expression_2 23 rfl rfl)
theorem dX8_expression_71 : decode cX8_expression 71 = .ok (.goto 4, 3) := dk_167 0 4 (dk_at dksX8_expression_3 0 rfl rfl)
theorem dX8_expression_74 : decode cX8_expression 74 = .ok (.iconst 1, 1) := dk_4 (dk_at dksX8_expression_3 3 rfl rfl)
theorem dX8_expression_75 : decode cX8_expression 75 = .ok (.invokevirtual 325, 3) := dk_182 1 69 (dk_at dksX8_expression_3 4 rfl rfl)
theorem dX8_expression_78 : decode cX8_expression 78 = .ok (.aload_n 0, 1) := dk_42 (dk_at dksX8_expression_3 7 rfl rfl)
theorem dX8_expression_79 : decode cX8_expression 79 = .ok (.iload_n 3, 1) := dk_29 (dk_at dksX8_expression_3 8 rfl rfl)
theorem dX8_expression_80 : decode cX8_expression 80 = .ok (.bipush 14, 2) := dk_16 14 (dk_at dksX8_expression_3 9 rfl rfl)
theorem dX8_expression_82 : decode cX8_expression 82 = .ok (.if_icmp .ne 7, 3) := dk_160 0 7 (dk_at dksX8_expression_3 11 rfl rfl)
theorem dX8_expression_85 : decode cX8_expression 85 = .ok (.iconst 4, 1) := dk_7 (dk_at dksX8_expression_3 14 rfl rfl)
theorem dX8_expression_86 : decode cX8_expression 86 = .ok (.goto 4, 3) := dk_167 0 4 (dk_at dksX8_expression_3 15 rfl rfl)
theorem dX8_expression_89 : decode cX8_expression 89 = .ok (.iconst 5, 1) := dk_8 (dk_at dksX8_expression_3 18 rfl rfl)
theorem dX8_expression_90 : decode cX8_expression 90 = .ok (.invokevirtual 313, 3) := dk_182 1 57 (dk_at dksX8_expression_3 19 rfl rfl)
theorem dX8_expression_93 : decode cX8_expression 93 = .ok (.aload_n 0, 1) := dk_42 (dk_at dksX8_expression_3 22 rfl rfl)
theorem dX8_expression_94 : decode cX8_expression 94 = .ok (.getfield 87, 3) := dk_180 0 87 (dk_at dksX8_expression_4 0 rfl rfl)
theorem dX8_expression_97 : decode cX8_expression 97 = .ok (.aload_n 0, 1) := dk_42 (dk_at dksX8_expression_4 3 rfl rfl)
theorem dX8_expression_98 : decode cX8_expression 98 = .ok (.getfield 310, 3) := dk_180 1 54 (dk_at dksX8_expression_4 4 rfl rfl)
theorem dX8_expression_101 : decode cX8_expression 101 = .ok (.iconst 0, 1) := dk_3 (dk_at dksX8_expression_4 7 rfl rfl)
theorem dX8_expression_102 : decode cX8_expression 102 = .ok (.bastore, 1) := dk_84 (dk_at dksX8_expression_4 8 rfl rfl)
theorem dX8_expression_103 : decode cX8_expression 103 = .ok (.aload_n 0, 1) := dk_42 (dk_at dksX8_expression_4 9 rfl rfl)
theorem dX8_expression_104 : decode cX8_expression 104 = .ok (.invokevirtual 238, 3) := dk_182 0 238 (dk_at dksX8_expression_4 10 rfl rfl)
theorem dX8_expression_107 : decode cX8_expression 107 = .ok (.aload_n 0, 1) := dk_42 (dk_at dksX8_expression_4 13 rfl rfl)
theorem dX8_expression_108 : decode cX8_expression 108 = .ok (.iconst 1, 1) := dk_4 (dk_at dksX8_expression_4 14 rfl rfl)
theorem dX8_expression_109 : decode cX8_expression 109 = .ok (.invokevirtual 322, 3) := dk_182 1 66 (dk_at dksX8_expression_4 15 rfl rfl)
theorem dX8_expression_112 : decode cX8_expression 112 = .ok (.goto 242, 3) := dk_167 0 242 (dk_at dksX8_expression_4 18 rfl rfl)
theorem dX8_expression_115 : decode cX8_expression 115 = .ok (.aload_n 0, 1) := dk_42 (dk_at dksX8_expression_4 21 rfl rfl)
theorem dX8_expression_116 : decode cX8_expression 116 = .ok (.bipush 60, 2) := dk_16 60 (dk_at dksX8_expression_4 22 rfl rfl)
theorem dX8_expression_118 : decode cX8_expression 118 = .ok (.invokevirtual 295, 3) := dk_182 1 39 (dk_at dksX8_expression_5 0 rfl rfl)
theorem dX8_expression_121 : decode cX8_expression 121 = .ok (.ifCond .ne 12, 3) := dk_154 0 12 (dk_at dksX8_expression_5 3 rfl rfl)
theorem dX8_expression_124 : decode cX8_expression 124 = .ok (.aload_n 0, 1) := dk_42 (dk_at dksX8_expression_5 6 rfl rfl)
theorem dX8_expression_125 : decode cX8_expression 125 = .ok (.bipush 61, 2) := dk_16 61 (dk_at dksX8_expression_5 7 rfl rfl)
theorem dX8_expression_127 : decode cX8_expression 127 = .ok (.invokevirtual 295, 3) := dk_182 1 39 (dk_at dksX8_expression_5 9 rfl rfl)
theorem dX8_expression_130 : decode cX8_expression 130 = .ok (.ifCond .eq 62, 3) := dk_153 0 62 (dk_at dksX8_expression_5 12 rfl rfl)
theorem dX8_expression_133 : decode cX8_expression 133 = .ok (.aload_n 0, 1) := dk_42 (dk_at dksX8_expression_5 15 rfl rfl)
theorem dX8_expression_134 : decode cX8_expression 134 = .ok (.getfield 87, 3) := dk_180 0 87 (dk_at dksX8_expression_5 16 rfl rfl)
theorem dX8_expression_137 : decode cX8_expression 137 = .ok (.aload_n 0, 1) := dk_42 (dk_at dksX8_expression_5 19 rfl rfl)
theorem dX8_expression_138 : decode cX8_expression 138 = .ok (.getfield 310, 3) := dk_180 1 54 (dk_at dksX8_expression_5 20 rfl rfl)
theorem dX8_expression_141 : decode cX8_expression 141 = .ok (.baload, 1) := dk_51 (dk_at dksX8_expression_5 23 rfl rfl)
theorem dX8_expression_142 : decode cX8_expression 142 = .ok (.ifCond .ne 50, 3) := dk_154 0 50 (dk_at dksX8_expression_6 0 rfl rfl)
theorem dX8_expression_145 : decode cX8_expression 145 = .ok (.aload_n 0, 1) := dk_42 (dk_at dksX8_expression_6 3 rfl rfl)
theorem dX8_expression_146 : decode cX8_expression 146 = .ok (.iconst 4, 1) := dk_7 (dk_at dksX8_expression_6 4 rfl rfl)
theorem dX8_expression_147 : decode cX8_expression 147 = .ok (.invokevirtual 325, 3) := dk_182 1 69 (dk_at dksX8_expression_6 5 rfl rfl)
theorem dX8_expression_150 : decode cX8_expression 150 = .ok (.aload_n 0, 1) := dk_42 (dk_at dksX8_expression_6 8 rfl rfl)
theorem dX8_expression_151 : decode cX8_expression 151 = .ok (.aload_n 0, 1) := dk_42 (dk_at dksX8_expression_6 9 rfl rfl)
theorem dX8_expression_152 : decode cX8_expression 152 = .ok (.bipush 60, 2) := dk_16 60 (dk_at dksX8_expression_6 10 rfl rfl)
theorem dX8_expression_154 : decode cX8_expression 154 = .ok (.invokevirtual 295, 3) := dk_182 1 39 (dk_at dksX8_expression_6 12 rfl rfl)
theorem dX8_expression_157 : decode cX8_expression 157 = .ok (.ifCond .eq 8, 3) := dk_153 0 8 (dk_at dksX8_expression_6 15 rfl rfl)
theorem dX8_expression_160 : decode cX8_expression 160 = .ok (.bipush 6, 2) := dk_16 6 (dk_at dksX8_expression_6 18 rfl rfl)
theorem dX8_expression_162 : decode cX8_expression 162 = .ok (.goto 5, 3) := dk_167 0 5 (dk_at dksX8_expression_6 20 rfl rfl)
theorem dX8_expression_165 : decode cX8_expression 165 = .ok (.bipush 7, 2) := dk_16 7 (dk_at dksX8_expression_7 0 rfl rfl)
theorem dX8_expression_167 : decode cX8_expression 167 = .ok (.invokevirtual 313, 3) := dk_182 1 57 (dk_at dksX8_expression_7 2 rfl rfl)
theorem dX8_expression_170 : decode cX8_expression 170 = .ok (.aload_n 0, 1) := dk_42 (dk_at dksX8_expression_7 5 rfl rfl)
theorem dX8_expression_171 : decode cX8_expression 171 = .ok (.getfield 87, 3) := dk_180 0 87 (dk_at dksX8_expression_7 6 rfl rfl)
theorem dX8_expression_174 : decode cX8_expression 174 = .ok (.aload_n 0, 1) := dk_42 (dk_at dksX8_expression_7 9 rfl rfl)
theorem dX8_expression_175 : decode cX8_expression 175 = .ok (.getfield 310, 3) := dk_180 1 54 (dk_at dksX8_expression_7 10 rfl rfl)
theorem dX8_expression_178 : decode cX8_expression 178 = .ok (.iconst 1, 1) := dk_4 (dk_at dksX8_expression_7 13 rfl rfl)
theorem dX8_expression_179 : decode cX8_expression 179 = .ok (.bastore, 1) := dk_84 (dk_at dksX8_expression_7 14 rfl rfl)
theorem dX8_expression_180 : decode cX8_expression 180 = .ok (.aload_n 0, 1) := dk_42 (dk_at dksX8_expression_7 15 rfl rfl)
theorem dX8_expression_181 : decode cX8_expression 181 = .ok (.invokevirtual 238, 3) := dk_182 0 238 (dk_at dksX8_expression_7 16 rfl rfl)
theorem dX8_expression_184 : decode cX8_expression 184 = .ok (.aload_n 0, 1) := dk_42 (dk_at dksX8_expression_7 19 rfl rfl)
theorem dX8_expression_185 : decode cX8_expression 185 = .ok (.iconst 0, 1) := dk_3 (dk_at dksX8_expression_7 20 rfl rfl)
theorem dX8_expression_186 : decode cX8_expression 186 = .ok (.invokevirtual 322, 3) := dk_182 1 66 (dk_at dksX8_expression_7 21 rfl rfl)
theorem dX8_expression_189 : decode cX8_expression 189 = .ok (.goto 165, 3) := dk_167 0 165 (dk_at dksX8_expression_8 0 rfl rfl)
theorem dX8_expression_192 : decode cX8_expression 192 = .ok (.aload_n 0, 1) := dk_42 (dk_at dksX8_expression_8 3 rfl rfl)
theorem dX8_expression_193 : decode cX8_expression 193 = .ok (.bipush 43, 2) := dk_16 43 (dk_at dksX8_expression_8 4 rfl rfl)
theorem dX8_expression_195 : decode cX8_expression 195 = .ok (.invokevirtual 295, 3) := dk_182 1 39 (dk_at dksX8_expression_8 6 rfl rfl)
theorem dX8_expression_198 : decode cX8_expression 198 = .ok (.ifCond .ne 12, 3) := dk_154 0 12 (dk_at dksX8_expression_8 9 rfl rfl)
theorem dX8_expression_201 : decode cX8_expression 201 = .ok (.aload_n 0, 1) := dk_42 (dk_at dksX8_expression_8 12 rfl rfl)
theorem dX8_expression_202 : decode cX8_expression 202 = .ok (.bipush 45, 2) := dk_16 45 (dk_at dksX8_expression_8 13 rfl rfl)
theorem dX8_expression_204 : decode cX8_expression 204 = .ok (.invokevirtual 295, 3) := dk_182 1 39 (dk_at dksX8_expression_8 15 rfl rfl)
theorem dX8_expression_207 : decode cX8_expression 207 = .ok (.ifCond .eq 40, 3) := dk_153 0 40 (dk_at dksX8_expression_8 18 rfl rfl)
theorem dX8_expression_210 : decode cX8_expression 210 = .ok (.aload_n 0, 1) := dk_42 (dk_at dksX8_expression_8 21 rfl rfl)
theorem dX8_expression_211 : decode cX8_expression 211 = .ok (.iconst 5, 1) := dk_8 (dk_at dksX8_expression_8 22 rfl rfl)
theorem dX8_expression_212 : decode cX8_expression 212 = .ok (.invokevirtual 325, 3) := dk_182 1 69 (dk_at dksX8_expression_9 0 rfl rfl)
theorem dX8_expression_215 : decode cX8_expression 215 = .ok (.aload_n 0, 1) := dk_42 (dk_at dksX8_expression_9 3 rfl rfl)
theorem dX8_expression_216 : decode cX8_expression 216 = .ok (.aload_n 0, 1) := dk_42 (dk_at dksX8_expression_9 4 rfl rfl)
theorem dX8_expression_217 : decode cX8_expression 217 = .ok (.bipush 43, 2) := dk_16 43 (dk_at dksX8_expression_9 5 rfl rfl)
theorem dX8_expression_219 : decode cX8_expression 219 = .ok (.invokevirtual 295, 3) := dk_182 1 39 (dk_at dksX8_expression_9 7 rfl rfl)
theorem dX8_expression_222 : decode cX8_expression 222 = .ok (.ifCond .eq 8, 3) := dk_153 0 8 (dk_at dksX8_expression_9 10 rfl rfl)
theorem dX8_expression_225 : decode cX8_expression 225 = .ok (.bipush 8, 2) := dk_16 8 (dk_at dksX8_expression_9 13 rfl rfl)
theorem dX8_expression_227 : decode cX8_expression 227 = .ok (.goto 5, 3) := dk_167 0 5 (dk_at dksX8_expression_9 15 rfl rfl)
theorem dX8_expression_230 : decode cX8_expression 230 = .ok (.bipush 9, 2) := dk_16 9 (dk_at dksX8_expression_9 18 rfl rfl)
theorem dX8_expression_232 : decode cX8_expression 232 = .ok (.invokevirtual 313, 3) := dk_182 1 57 (dk_at dksX8_expression_9 20 rfl rfl)
theorem dX8_expression_235 : decode cX8_expression 235 = .ok (.aload_n 0, 1) := dk_42 (dk_at dksX8_expression_9 23 rfl rfl)
theorem dX8_expression_236 : decode cX8_expression 236 = .ok (.invokevirtual 238, 3) := dk_182 0 238 (dk_at dksX8_expression_10 0 rfl rfl)
theorem dX8_expression_239 : decode cX8_expression 239 = .ok (.aload_n 0, 1) := dk_42 (dk_at dksX8_expression_10 3 rfl rfl)
theorem dX8_expression_240 : decode cX8_expression 240 = .ok (.iconst 0, 1) := dk_3 (dk_at dksX8_expression_10 4 rfl rfl)
theorem dX8_expression_241 : decode cX8_expression 241 = .ok (.invokevirtual 322, 3) := dk_182 1 66 (dk_at dksX8_expression_10 5 rfl rfl)
theorem dX8_expression_244 : decode cX8_expression 244 = .ok (.goto 110, 3) := dk_167 0 110 (dk_at dksX8_expression_10 8 rfl rfl)
theorem dX8_expression_247 : decode cX8_expression 247 = .ok (.aload_n 0, 1) := dk_42 (dk_at dksX8_expression_10 11 rfl rfl)
theorem dX8_expression_248 : decode cX8_expression 248 = .ok (.bipush 42, 2) := dk_16 42 (dk_at dksX8_expression_10 12 rfl rfl)
theorem dX8_expression_250 : decode cX8_expression 250 = .ok (.invokevirtual 295, 3) := dk_182 1 39 (dk_at dksX8_expression_10 14 rfl rfl)
theorem dX8_expression_253 : decode cX8_expression 253 = .ok (.ifCond .ne 12, 3) := dk_154 0 12 (dk_at dksX8_expression_10 17 rfl rfl)
theorem dX8_expression_256 : decode cX8_expression 256 = .ok (.aload_n 0, 1) := dk_42 (dk_at dksX8_expression_10 20 rfl rfl)
theorem dX8_expression_257 : decode cX8_expression 257 = .ok (.bipush 47, 2) := dk_16 47 (dk_at dksX8_expression_10 21 rfl rfl)
theorem dX8_expression_259 : decode cX8_expression 259 = .ok (.invokevirtual 295, 3) := dk_182 1 39 (dk_at dksX8_expression_11 0 rfl rfl)
theorem dX8_expression_262 : decode cX8_expression 262 = .ok (.ifCond .eq 41, 3) := dk_153 0 41 (dk_at dksX8_expression_11 3 rfl rfl)
theorem dX8_expression_265 : decode cX8_expression 265 = .ok (.aload_n 0, 1) := dk_42 (dk_at dksX8_expression_11 6 rfl rfl)
theorem dX8_expression_266 : decode cX8_expression 266 = .ok (.bipush 6, 2) := dk_16 6 (dk_at dksX8_expression_11 7 rfl rfl)
theorem dX8_expression_268 : decode cX8_expression 268 = .ok (.invokevirtual 325, 3) := dk_182 1 69 (dk_at dksX8_expression_11 9 rfl rfl)
theorem dX8_expression_271 : decode cX8_expression 271 = .ok (.aload_n 0, 1) := dk_42 (dk_at dksX8_expression_11 12 rfl rfl)
theorem dX8_expression_272 : decode cX8_expression 272 = .ok (.aload_n 0, 1) := dk_42 (dk_at dksX8_expression_11 13 rfl rfl)
theorem dX8_expression_273 : decode cX8_expression 273 = .ok (.bipush 42, 2) := dk_16 42 (dk_at dksX8_expression_11 14 rfl rfl)
theorem dX8_expression_275 : decode cX8_expression 275 = .ok (.invokevirtual 295, 3) := dk_182 1 39 (dk_at dksX8_expression_11 16 rfl rfl)
theorem dX8_expression_278 : decode cX8_expression 278 = .ok (.ifCond .eq 8, 3) := dk_153 0 8 (dk_at dksX8_expression_11 19 rfl rfl)
theorem dX8_expression_281 : decode cX8_expression 281 = .ok (.bipush 10, 2) := dk_16 10 (dk_at dksX8_expression_11 22 rfl rfl)
theorem dX8_expression_283 : decode cX8_expression 283 = .ok (.goto 5, 3) := dk_167 0 5 (dk_at dksX8_expression_12 0 rfl rfl)
theorem dX8_expression_286 : decode cX8_expression 286 = .ok (.bipush 11, 2) := dk_16 11 (dk_at dksX8_expression_12 3 rfl rfl)
theorem dX8_expression_288 : decode cX8_expression 288 = .ok (.invokevirtual 313, 3) := dk_182 1 57 (dk_at dksX8_expression_12 5 rfl rfl)
theorem dX8_expression_291 : decode cX8_expression 291 = .ok (.aload_n 0, 1) := dk_42 (dk_at dksX8_expression_12 8 rfl rfl)
theorem dX8_expression_292 : decode cX8_expression 292 = .ok (.invokevirtual 238, 3) := dk_182 0 238 (dk_at dksX8_expression_12 9 rfl rfl)
theorem dX8_expression_295 : decode cX8_expression 295 = .ok (.aload_n 0, 1) := dk_42 (dk_at dksX8_expression_12 12 rfl rfl)
theorem dX8_expression_296 : decode cX8_expression 296 = .ok (.iconst 0, 1) := dk_3 (dk_at dksX8_expression_12 13 rfl rfl)
theorem dX8_expression_297 : decode cX8_expression 297 = .ok (.invokevirtual 322, 3) := dk_182 1 66 (dk_at dksX8_expression_12 14 rfl rfl)
theorem dX8_expression_300 : decode cX8_expression 300 = .ok (.goto 54, 3) := dk_167 0 54 (dk_at dksX8_expression_12 17 rfl rfl)
theorem dX8_expression_303 : decode cX8_expression 303 = .ok (.aload_n 0, 1) := dk_42 (dk_at dksX8_expression_12 20 rfl rfl)
theorem dX8_expression_304 : decode cX8_expression 304 = .ok (.bipush 41, 2) := dk_16 41 (dk_at dksX8_expression_12 21 rfl rfl)
theorem dX8_expression_306 : decode cX8_expression 306 = .ok (.invokevirtual 295, 3) := dk_182 1 39 (dk_at dksX8_expression_13 0 rfl rfl)
theorem dX8_expression_309 : decode cX8_expression 309 = .ok (.ifCond .eq 43, 3) := dk_153 0 43 (dk_at dksX8_expression_13 3 rfl rfl)
theorem dX8_expression_312 : decode cX8_expression 312 = .ok (.aload_n 0, 1) := dk_42 (dk_at dksX8_expression_13 6 rfl rfl)
theorem dX8_expression_313 : decode cX8_expression 313 = .ok (.getfield 310, 3) := dk_180 1 54 (dk_at dksX8_expression_13 7 rfl rfl)
theorem dX8_expression_316 : decode cX8_expression 316 = .ok (.iconst 1, 1) := dk_4 (dk_at dksX8_expression_13 10 rfl rfl)
theorem dX8_expression_317 : decode cX8_expression 317 = .ok (.if_icmp .le 35, 3) := dk_164 0 35 (dk_at dksX8_expression_13 11 rfl rfl)
theorem dX8_expression_320 : decode cX8_expression 320 = .ok (.aload_n 0, 1) := dk_42 (dk_at dksX8_expression_13 14 rfl rfl)
theorem dX8_expression_321 : decode cX8_expression 321 = .ok (.iconst 0, 1) := dk_3 (dk_at dksX8_expression_13 15 rfl rfl)
theorem dX8_expression_322 : decode cX8_expression 322 = .ok (.invokevirtual 325, 3) := dk_182 1 69 (dk_at dksX8_expression_13 16 rfl rfl)
theorem dX8_expression_325 : decode cX8_expression 325 = .ok (.aload_n 0, 1) := dk_42 (dk_at dksX8_expression_13 19 rfl rfl)
theorem dX8_expression_326 : decode cX8_expression 326 = .ok (.dup, 1) := dk_89 (dk_at dksX8_expression_13 20 rfl rfl)
theorem dX8_expression_327 : decode cX8_expression 327 = .ok (.getfield 301, 3) := dk_180 1 45 (dk_at dksX8_expression_13 21 rfl rfl)
theorem dX8_expression_330 : decode cX8_expression 330 = .ok (.iconst 1, 1) := dk_4 (dk_at dksX8_expression_14 0 rfl rfl)
theorem dX8_expression_331 : decode cX8_expression 331 = .ok (.isub, 1) := dk_100 (dk_at dksX8_expression_14 1 rfl rfl)
theorem dX8_expression_332 : decode cX8_expression 332 = .ok (.putfield 301, 3) := dk_181 1 45 (dk_at dksX8_expression_14 2 rfl rfl)
theorem dX8_expression_335 : decode cX8_expression 335 = .ok (.aload_n 0, 1) := dk_42 (dk_at dksX8_expression_14 5 rfl rfl)
theorem dX8_expression_336 : decode cX8_expression 336 = .ok (.dup, 1) := dk_89 (dk_at dksX8_expression_14 6 rfl rfl)
theorem dX8_expression_337 : decode cX8_expression 337 = .ok (.getfield 310, 3) := dk_180 1 54 (dk_at dksX8_expression_14 7 rfl rfl)
theorem dX8_expression_340 : decode cX8_expression 340 = .ok (.iconst 1, 1) := dk_4 (dk_at dksX8_expression_14 10 rfl rfl)
theorem dX8_expression_341 : decode cX8_expression 341 = .ok (.isub, 1) := dk_100 (dk_at dksX8_expression_14 11 rfl rfl)
theorem dX8_expression_342 : decode cX8_expression 342 = .ok (.putfield 310, 3) := dk_181 1 54 (dk_at dksX8_expression_14 12 rfl rfl)
theorem dX8_expression_345 : decode cX8_expression 345 = .ok (.aload_n 0, 1) := dk_42 (dk_at dksX8_expression_14 15 rfl rfl)
theorem dX8_expression_346 : decode cX8_expression 346 = .ok (.invokevirtual 238, 3) := dk_182 0 238 (dk_at dksX8_expression_14 16 rfl rfl)
theorem dX8_expression_349 : decode cX8_expression 349 = .ok (.goto 5, 3) := dk_167 0 5 (dk_at dksX8_expression_14 19 rfl rfl)
theorem dX8_expression_352 : decode cX8_expression 352 = .ok (.iconst 0, 1) := dk_3 (dk_at dksX8_expression_14 22 rfl rfl)
theorem dX8_expression_353 : decode cX8_expression 353 = .ok (.istore_n 2, 1) := dk_61 (dk_at dksX8_expression_14 23 rfl rfl)
theorem dX8_expression_354 : decode cX8_expression 354 = .ok (.goto (-319), 3) := dk_167 254 193 (dk_at dksX8_expression_15 0 rfl rfl)
theorem dX8_expression_357 : decode cX8_expression 357 = .ok (.aload_n 0, 1) := dk_42 (dk_at dksX8_expression_15 3 rfl rfl)
theorem dX8_expression_358 : decode cX8_expression 358 = .ok (.invokevirtual 230, 3) := dk_182 0 230 (dk_at dksX8_expression_15 4 rfl rfl)
theorem dX8_expression_361 : decode cX8_expression 361 = .ok (.ifCond .eq 16, 3) := dk_153 0 16 (dk_at dksX8_expression_15 7 rfl rfl)
theorem dX8_expression_364 : decode cX8_expression 364 = .ok (.aload_n 0, 1) := dk_42 (dk_at dksX8_expression_15 10 rfl rfl)
theorem dX8_expression_365 : decode cX8_expression 365 = .ok (.getfield 310, 3) := dk_180 1 54 (dk_at dksX8_expression_15 11 rfl rfl)
theorem dX8_expression_368 : decode cX8_expression 368 = .ok (.iconst 1, 1) := dk_4 (dk_at dksX8_expression_15 14 rfl rfl)
theorem dX8_expression_369 : decode cX8_expression 369 = .ok (.if_icmp .le 8, 3) := dk_164 0 8 (dk_at dksX8_expression_15 15 rfl rfl)
theorem dX8_expression_372 : decode cX8_expression 372 = .ok (.aload_n 0, 1) := dk_42 (dk_at dksX8_expression_15 18 rfl rfl)
theorem dX8_expression_373 : decode cX8_expression 373 = .ok (.iconst 1, 1) := dk_4 (dk_at dksX8_expression_15 19 rfl rfl)
theorem dX8_expression_374 : decode cX8_expression 374 = .ok (.invokevirtual 241, 3) := dk_182 0 241 (dk_at dksX8_expression_15 20 rfl rfl)
theorem dX8_expression_377 : decode cX8_expression 377 = .ok (.aload_n 0, 1) := dk_42 (dk_at dksX8_expression_15 23 rfl rfl)
theorem dX8_expression_378 : decode cX8_expression 378 = .ok (.iconst 0, 1) := dk_3 (dk_at dksX8_expression_16 0 rfl rfl)
theorem dX8_expression_379 : decode cX8_expression 379 = .ok (.invokevirtual 325, 3) := dk_182 1 69 (dk_at dksX8_expression_16 1 rfl rfl)
theorem dX8_expression_382 : decode cX8_expression 382 = .ok (.aload_n 0, 1) := dk_42 (dk_at dksX8_expression_16 4 rfl rfl)
theorem dX8_expression_383 : decode cX8_expression 383 = .ok (.iconst 0, 1) := dk_3 (dk_at dksX8_expression_16 5 rfl rfl)
theorem dX8_expression_384 : decode cX8_expression 384 = .ok (.invokevirtual 307, 3) := dk_182 1 51 (dk_at dksX8_expression_16 6 rfl rfl)
theorem dX8_expression_387 : decode cX8_expression 387 = .ok (.iload_n 1, 1) := dk_27 (dk_at dksX8_expression_16 9 rfl rfl)
theorem dX8_expression_388 : decode cX8_expression 388 = .ok (.ireturn, 1) := dk_172 (dk_at dksX8_expression_16 10 rfl rfl)
abbrev cX8_deeper : ByteArray := prog_19_method_33_code
def yX8_deeper : MethodName := ⟨RX8, "deeper", "()V"⟩
def dkwX8_deeper_2 : List UInt8 := [16, 40, 182, 1, 39, 153, 0, 7, 5, 167, 0, 4, 4, 182, 0, 241, 177]
abbrev dktX8_deeper_2 : List UInt8 := dkwX8_deeper_2 ++ []
def dkwX8_deeper_1 : List UInt8 := [180, 1, 54, 3, 84, 177, 42, 42, 180, 0, 206, 5, 159, 0, 20, 42, 180, 0, 206, 4, 159, 0, 12, 42]
abbrev dktX8_deeper_1 : List UInt8 := dkwX8_deeper_1 ++ dktX8_deeper_2
def dkwX8_deeper_0 : List UInt8 := [42, 180, 1, 54, 16, 6, 162, 0, 24, 42, 89, 180, 1, 54, 4, 96, 181, 1, 54, 42, 180, 0, 87, 42]
abbrev dktX8_deeper_0 : List UInt8 := dkwX8_deeper_0 ++ dktX8_deeper_1
theorem dksX8_deeper_0 : cX8_deeper.data.toList.drop 0 = dktX8_deeper_0 := by decide +kernel
theorem dksX8_deeper_1 : cX8_deeper.data.toList.drop 24 = dktX8_deeper_1 := dk_seg dksX8_deeper_0 24 rfl rfl
theorem dksX8_deeper_2 : cX8_deeper.data.toList.drop 48 = dktX8_deeper_2 := dk_seg dksX8_deeper_1 24 rfl rfl
theorem dX8_deeper_0 : decode cX8_deeper 0 = .ok (.aload_n 0, 1) := dk_42 (dk_at dksX8_deeper_0 0 rfl rfl)
theorem dX8_deeper_1 : decode cX8_deeper 1 = .ok (.getfield 310, 3) := dk_180 1 54 (dk_at dksX8_deeper_0 1 rfl rfl)
theorem dX8_deeper_4 : decode cX8_deeper 4 = .ok (.bipush 6, 2) := dk_16 6 (dk_at dksX8_deeper_0 4 rfl rfl)
theorem dX8_deeper_6 : decode cX8_deeper 6 = .ok (.if_icmp .ge 24, 3) := dk_162 0 24 (dk_at dksX8_deeper_0 6 rfl rfl)
theorem dX8_deeper_9 : decode cX8_deeper 9 = .ok (.aload_n 0, 1) := dk_42 (dk_at dksX8_deeper_0 9 rfl rfl)
theorem dX8_deeper_10 : decode cX8_deeper 10 = .ok (.dup, 1) := dk_89 (dk_at dksX8_deeper_0 10 rfl rfl)
theorem dX8_deeper_11 : decode cX8_deeper 11 = .ok (.getfield 310, 3) := dk_180 1 54 (dk_at dksX8_deeper_0 11 rfl rfl)
theorem dX8_deeper_14 : decode cX8_deeper 14 = .ok (.iconst 1, 1) := dk_4 (dk_at dksX8_deeper_0 14 rfl rfl)
theorem dX8_deeper_15 : decode cX8_deeper 15 = .ok (.iadd, 1) := dk_96 (dk_at dksX8_deeper_0 15 rfl rfl)
theorem dX8_deeper_16 : decode cX8_deeper 16 = .ok (.putfield 310, 3) := dk_181 1 54 (dk_at dksX8_deeper_0 16 rfl rfl)
theorem dX8_deeper_19 : decode cX8_deeper 19 = .ok (.aload_n 0, 1) := dk_42 (dk_at dksX8_deeper_0 19 rfl rfl)
theorem dX8_deeper_20 : decode cX8_deeper 20 = .ok (.getfield 87, 3) := dk_180 0 87 (dk_at dksX8_deeper_0 20 rfl rfl)
theorem dX8_deeper_23 : decode cX8_deeper 23 = .ok (.aload_n 0, 1) := dk_42 (dk_at dksX8_deeper_0 23 rfl rfl)
theorem dX8_deeper_24 : decode cX8_deeper 24 = .ok (.getfield 310, 3) := dk_180 1 54 (dk_at dksX8_deeper_1 0 rfl rfl)
theorem dX8_deeper_27 : decode cX8_deeper 27 = .ok (.iconst 0, 1) := dk_3 (dk_at dksX8_deeper_1 3 rfl rfl)
theorem dX8_deeper_28 : decode cX8_deeper 28 = .ok (.bastore, 1) := dk_84 (dk_at dksX8_deeper_1 4 rfl rfl)
theorem dX8_deeper_29 : decode cX8_deeper 29 = .ok (.return_, 1) := dk_177 (dk_at dksX8_deeper_1 5 rfl rfl)
theorem dX8_deeper_30 : decode cX8_deeper 30 = .ok (.aload_n 0, 1) := dk_42 (dk_at dksX8_deeper_1 6 rfl rfl)
theorem dX8_deeper_31 : decode cX8_deeper 31 = .ok (.aload_n 0, 1) := dk_42 (dk_at dksX8_deeper_1 7 rfl rfl)
theorem dX8_deeper_32 : decode cX8_deeper 32 = .ok (.getfield 206, 3) := dk_180 0 206 (dk_at dksX8_deeper_1 8 rfl rfl)
theorem dX8_deeper_35 : decode cX8_deeper 35 = .ok (.iconst 2, 1) := dk_5 (dk_at dksX8_deeper_1 11 rfl rfl)
theorem dX8_deeper_36 : decode cX8_deeper 36 = .ok (.if_icmp .eq 20, 3) := dk_159 0 20 (dk_at dksX8_deeper_1 12 rfl rfl)
theorem dX8_deeper_39 : decode cX8_deeper 39 = .ok (.aload_n 0, 1) := dk_42 (dk_at dksX8_deeper_1 15 rfl rfl)
theorem dX8_deeper_40 : decode cX8_deeper 40 = .ok (.getfield 206, 3) := dk_180 0 206 (dk_at dksX8_deeper_1 16 rfl rfl)
theorem dX8_deeper_43 : decode cX8_deeper 43 = .ok (.iconst 1, 1) := dk_4 (dk_at dksX8_deeper_1 19 rfl rfl)
theorem dX8_deeper_44 : decode cX8_deeper 44 = .ok (.if_icmp .eq 12, 3) := dk_159 0 12 (dk_at dksX8_deeper_1 20 rfl rfl)
theorem dX8_deeper_47 : decode cX8_deeper 47 = .ok (.aload_n 0, 1) := dk_42 (dk_at dksX8_deeper_1 23 rfl rfl)
theorem dX8_deeper_48 : decode cX8_deeper 48 = .ok (.bipush 40, 2) := dk_16 40 (dk_at dksX8_deeper_2 0 rfl rfl)
theorem dX8_deeper_50 : decode cX8_deeper 50 = .ok (.invokevirtual 295, 3) := dk_182 1 39 (dk_at dksX8_deeper_2 2 rfl rfl)
theorem dX8_deeper_53 : decode cX8_deeper 53 = .ok (.ifCond .eq 7, 3) := dk_153 0 7 (dk_at dksX8_deeper_2 5 rfl rfl)
theorem dX8_deeper_56 : decode cX8_deeper 56 = .ok (.iconst 2, 1) := dk_5 (dk_at dksX8_deeper_2 8 rfl rfl)
theorem dX8_deeper_57 : decode cX8_deeper 57 = .ok (.goto 4, 3) := dk_167 0 4 (dk_at dksX8_deeper_2 9 rfl rfl)
theorem dX8_deeper_60 : decode cX8_deeper 60 = .ok (.iconst 1, 1) := dk_4 (dk_at dksX8_deeper_2 12 rfl rfl)
theorem dX8_deeper_61 : decode cX8_deeper 61 = .ok (.invokevirtual 241, 3) := dk_182 0 241 (dk_at dksX8_deeper_2 13 rfl rfl)
theorem dX8_deeper_64 : decode cX8_deeper 64 = .ok (.return_, 1) := dk_177 (dk_at dksX8_deeper_2 16 rfl rfl)
abbrev cX8_operand : ByteArray := prog_19_method_34_code
def yX8_operand : MethodName := ⟨RX8, "operand", "(Z)V"⟩
def dkwX8_operand_5 : List UInt8 := [61, 167, 255, 143, 42, 182, 1, 63, 177]
abbrev dktX8_operand_5 : List UInt8 := dkwX8_operand_5 ++ []
def dkwX8_operand_4 : List UInt8 := [167, 0, 4, 3, 62, 29, 153, 0, 19, 42, 16, 12, 182, 1, 57, 42, 182, 0, 238, 42, 182, 1, 60, 4]
abbrev dktX8_operand_4 : List UInt8 := dkwX8_operand_4 ++ dktX8_operand_5
def dkwX8_operand_3 : List UInt8 := [182, 0, 238, 167, 255, 202, 42, 182, 0, 230, 153, 0, 16, 42, 16, 40, 182, 1, 39, 153, 0, 7, 4]
abbrev dktX8_operand_3 : List UInt8 := dkwX8_operand_3 ++ dktX8_operand_4
def dkwX8_operand_2 : List UInt8 := [5, 182, 0, 241, 132, 4, 1, 42, 182, 0, 230, 154, 0, 6, 167, 255, 214, 42, 6, 182, 1, 57, 42]
abbrev dktX8_operand_2 : List UInt8 := dkwX8_operand_2 ++ dktX8_operand_3
def dkwX8_operand_1 : List UInt8 := [153, 0, 53, 28, 153, 0, 49, 42, 182, 0, 234, 16, 16, 160, 0, 40, 21, 4, 16, 6, 160, 0, 8, 42]
abbrev dktX8_operand_1 : List UInt8 := dkwX8_operand_1 ++ dktX8_operand_2
def dkwX8_operand_0 : List UInt8 := [27, 61, 4, 62, 29, 153, 0, 115, 42, 182, 0, 230, 153, 0, 108, 3, 54, 4, 42, 182, 0, 230]
abbrev dktX8_operand_0 : List UInt8 := dkwX8_operand_0 ++ dktX8_operand_1
theorem dksX8_operand_0 : cX8_operand.data.toList.drop 0 = dktX8_operand_0 := by decide +kernel
theorem dksX8_operand_1 : cX8_operand.data.toList.drop 22 = dktX8_operand_1 := dk_seg dksX8_operand_0 22 rfl rfl
theorem dksX8_operand_2 : cX8_operand.data.toList.drop 46 = dktX8_operand_2 := dk_seg dksX8_operand_1 24 rfl rfl
theorem dksX8_operand_3 : cX8_operand.data.toList.drop 69 = dktX8_operand_3 := dk_seg dksX8_operand_2 23 rfl rfl
theorem dksX8_operand_4 : cX8_operand.data.toList.drop 92 = dktX8_operand_4 := dk_seg dksX8_operand_3 23 rfl rfl
theorem dksX8_operand_5 : cX8_operand.data.toList.drop 116 = dktX8_operand_5 := dk_seg dksX8_operand_4 24 rfl rfl
theorem dX8_operand_0 : decode cX8_operand 0 = .ok (.iload_n 1, 1) := dk_27 (dk_at dksX8_operand_0 0 rfl rfl)
theorem dX8_operand_1 : decode cX8_operand 1 = .ok (.istore_n 2, 1) := dk_61 (dk_at dksX8_operand_0 1 rfl rfl)
theorem dX8_operand_2 : decode cX8_operand 2 = .ok (.iconst 1, 1) := dk_4 (dk_at dksX8_operand_0 2 rfl rfl)
theorem dX8_operand_3 : decode cX8_operand 3 = .ok (.istore_n 3, 1) := dk_62 (dk_at dksX8_operand_0 3 rfl rfl)
theorem dX8_operand_4 : decode cX8_operand 4 = .ok (.iload_n 3, 1) := dk_29 (dk_at dksX8_operand_0 4 rfl rfl)
theorem dX8_operand_5 : decode cX8_operand 5 = .ok (.ifCond .eq 115, 3) := dk_153 0 115 (dk_at dksX8_operand_0 5 rfl rfl)
theorem dX8_operand_8 : decode cX8_operand 8 = .ok (.aload_n 0, 1) := dk_42 (dk_at dksX8_operand_0 8 rfl rfl)
theorem dX8_operand_9 : decode cX8_operand 9 = .ok (.invokevirtual 230, 3) := dk_182 0 230 (dk_at dksX8_operand_0 9 rfl rfl)
theorem dX8_operand_12 : decode cX8_operand 12 = .ok (.ifCond .eq 108, 3) := dk_153 0 108 (dk_at dksX8_operand_0 12 rfl rfl)
theorem dX8_operand_15 : decode cX8_operand 15 = .ok (.iconst 0, 1) := dk_3 (dk_at dksX8_operand_0 15 rfl rfl)
theorem dX8_operand_16 : decode cX8_operand 16 = .ok (.istore 4, 2) := dk_54 4 (dk_at dksX8_operand_0 16 rfl rfl)
theorem dX8_operand_18 : decode cX8_operand 18 = .ok (.aload_n 0, 1) := dk_42 (dk_at dksX8_operand_0 18 rfl rfl)
theorem dX8_operand_19 : decode cX8_operand 19 = .ok (.invokevirtual 230, 3) := dk_182 0 230 (dk_at dksX8_operand_0 19 rfl rfl)
theorem dX8_operand_22 : decode cX8_operand 22 = .ok (.ifCond .eq 53, 3) := dk_153 0 53 (dk_at dksX8_operand_1 0 rfl rfl)
theorem dX8_operand_25 : decode cX8_operand 25 = .ok (.iload_n 2, 1) := dk_28 (dk_at dksX8_operand_1 3 rfl rfl)
theorem dX8_operand_26 : decode cX8_operand 26 = .ok (.ifCond .eq 49, 3) := dk_153 0 49 (dk_at dksX8_operand_1 4 rfl rfl)
theorem dX8_operand_29 : decode cX8_operand 29 = .ok (.aload_n 0, 1) := dk_42 (dk_at dksX8_operand_1 7 rfl rfl)
theorem dX8_operand_30 : decode cX8_operand 30 = .ok (.invokevirtual 234, 3) := dk_182 0 234 (dk_at dksX8_operand_1 8 rfl rfl)
theorem dX8_operand_33 : decode cX8_operand 33 = .ok (.bipush 16, 2) := dk_16 16 (dk_at dksX8_operand_1 11 rfl rfl)
theorem dX8_operand_35 : decode cX8_operand 35 = .ok (.if_icmp .ne 40, 3) := dk_160 0 40 (dk_at dksX8_operand_1 13 rfl rfl)
theorem dX8_operand_38 : decode cX8_operand 38 = .ok (.iload 4, 2) := dk_21 4 (dk_at dksX8_operand_1 16 rfl rfl)
theorem dX8_operand_40 : decode cX8_operand 40 = .ok (.bipush 6, 2) := dk_16 6 (dk_at dksX8_operand_1 18 rfl rfl)
theorem dX8_operand_42 : decode cX8_operand 42 = .ok (.if_icmp .ne 8, 3) := dk_160 0 8 (dk_at dksX8_operand_1 20 rfl rfl)
theorem dX8_operand_45 : decode cX8_operand 45 = .ok (.aload_n 0, 1) := dk_42 (dk_at dksX8_operand_1 23 rfl rfl)
theorem dX8_operand_46 : decode cX8_operand 46 = .ok (.iconst 2, 1) := dk_5 (dk_at dksX8_operand_2 0 rfl rfl)
theorem dX8_operand_47 : decode cX8_operand 47 = .ok (.invokevirtual 241, 3) := dk_182 0 241 (dk_at dksX8_operand_2 1 rfl rfl)
theorem dX8_operand_50 : decode cX8_operand 50 = .ok (.iinc 4 1, 3) := dk_132 4 1 (dk_at dksX8_operand_2 4 rfl rfl)
theorem dX8_operand_53 : decode cX8_operand 53 = .ok (.aload_n 0, 1) := dk_42 (dk_at dksX8_operand_2 7 rfl rfl)
theorem dX8_operand_54 : decode cX8_operand 54 = .ok (.invokevirtual 230, 3) := dk_182 0 230 (dk_at dksX8_operand_2 8 rfl rfl)
theorem dX8_operand_57 : decode cX8_operand 57 = .ok (.ifCond .ne 6, 3) := dk_154 0 6 (dk_at dksX8_operand_2 11 rfl rfl)
theorem dX8_operand_60 : decode cX8_operand 60 = .ok (.goto (-42), 3) := dk_167 255 214 (dk_at dksX8_operand_2 14 rfl rfl)
theorem dX8_operand_63 : decode cX8_operand 63 = .ok (.aload_n 0, 1) := dk_42 (dk_at dksX8_operand_2 17 rfl rfl)
theorem dX8_operand_64 : decode cX8_operand 64 = .ok (.iconst 3, 1) := dk_6 (dk_at dksX8_operand_2 18 rfl rfl)
theorem dX8_operand_65 : decode cX8_operand 65 = .ok (.invokevirtual 313, 3) := dk_182 1 57 (dk_at dksX8_operand_2 19 rfl rfl)
theorem dX8_operand_68 : decode cX8_operand 68 = .ok (.aload_n 0, 1) := dk_42 (dk_at dksX8_operand_2 22 rfl rfl)
theorem dX8_operand_69 : decode cX8_operand 69 = .ok (.invokevirtual 238, 3) := dk_182 0 238 (dk_at dksX8_operand_3 0 rfl rfl)
theorem dX8_operand_72 : decode cX8_operand 72 = .ok (.goto (-54), 3) := dk_167 255 202 (dk_at dksX8_operand_3 3 rfl rfl)
theorem dX8_operand_75 : decode cX8_operand 75 = .ok (.aload_n 0, 1) := dk_42 (dk_at dksX8_operand_3 6 rfl rfl)
theorem dX8_operand_76 : decode cX8_operand 76 = .ok (.invokevirtual 230, 3) := dk_182 0 230 (dk_at dksX8_operand_3 7 rfl rfl)
theorem dX8_operand_79 : decode cX8_operand 79 = .ok (.ifCond .eq 16, 3) := dk_153 0 16 (dk_at dksX8_operand_3 10 rfl rfl)
theorem dX8_operand_82 : decode cX8_operand 82 = .ok (.aload_n 0, 1) := dk_42 (dk_at dksX8_operand_3 13 rfl rfl)
theorem dX8_operand_83 : decode cX8_operand 83 = .ok (.bipush 40, 2) := dk_16 40 (dk_at dksX8_operand_3 14 rfl rfl)
theorem dX8_operand_85 : decode cX8_operand 85 = .ok (.invokevirtual 295, 3) := dk_182 1 39 (dk_at dksX8_operand_3 16 rfl rfl)
theorem dX8_operand_88 : decode cX8_operand 88 = .ok (.ifCond .eq 7, 3) := dk_153 0 7 (dk_at dksX8_operand_3 19 rfl rfl)
theorem dX8_operand_91 : decode cX8_operand 91 = .ok (.iconst 1, 1) := dk_4 (dk_at dksX8_operand_3 22 rfl rfl)
theorem dX8_operand_92 : decode cX8_operand 92 = .ok (.goto 4, 3) := dk_167 0 4 (dk_at dksX8_operand_4 0 rfl rfl)
theorem dX8_operand_95 : decode cX8_operand 95 = .ok (.iconst 0, 1) := dk_3 (dk_at dksX8_operand_4 3 rfl rfl)
theorem dX8_operand_96 : decode cX8_operand 96 = .ok (.istore_n 3, 1) := dk_62 (dk_at dksX8_operand_4 4 rfl rfl)
theorem dX8_operand_97 : decode cX8_operand 97 = .ok (.iload_n 3, 1) := dk_29 (dk_at dksX8_operand_4 5 rfl rfl)
theorem dX8_operand_98 : decode cX8_operand 98 = .ok (.ifCond .eq 19, 3) := dk_153 0 19 (dk_at dksX8_operand_4 6 rfl rfl)
theorem dX8_operand_101 : decode cX8_operand 101 = .ok (.aload_n 0, 1) := dk_42 (dk_at dksX8_operand_4 9 rfl rfl)
theorem dX8_operand_102 : decode cX8_operand 102 = .ok (.bipush 12, 2) := dk_16 12 (dk_at dksX8_operand_4 10 rfl rfl)
theorem dX8_operand_104 : decode cX8_operand 104 = .ok (.invokevirtual 313, 3) := dk_182 1 57 (dk_at dksX8_operand_4 12 rfl rfl)
theorem dX8_operand_107 : decode cX8_operand 107 = .ok (.aload_n 0, 1) := dk_42 (dk_at dksX8_operand_4 15 rfl rfl)
theorem dX8_operand_108 : decode cX8_operand 108 = .ok (.invokevirtual 238, 3) := dk_182 0 238 (dk_at dksX8_operand_4 16 rfl rfl)
theorem dX8_operand_111 : decode cX8_operand 111 = .ok (.aload_n 0, 1) := dk_42 (dk_at dksX8_operand_4 19 rfl rfl)
theorem dX8_operand_112 : decode cX8_operand 112 = .ok (.invokevirtual 316, 3) := dk_182 1 60 (dk_at dksX8_operand_4 20 rfl rfl)
theorem dX8_operand_115 : decode cX8_operand 115 = .ok (.iconst 1, 1) := dk_4 (dk_at dksX8_operand_4 23 rfl rfl)
theorem dX8_operand_116 : decode cX8_operand 116 = .ok (.istore_n 2, 1) := dk_61 (dk_at dksX8_operand_5 0 rfl rfl)
theorem dX8_operand_117 : decode cX8_operand 117 = .ok (.goto (-113), 3) := dk_167 255 143 (dk_at dksX8_operand_5 1 rfl rfl)
theorem dX8_operand_120 : decode cX8_operand 120 = .ok (.aload_n 0, 1) := dk_42 (dk_at dksX8_operand_5 4 rfl rfl)
theorem dX8_operand_121 : decode cX8_operand 121 = .ok (.invokevirtual 319, 3) := dk_182 1 63 (dk_at dksX8_operand_5 5 rfl rfl)
theorem dX8_operand_124 : decode cX8_operand 124 = .ok (.return_, 1) := dk_177 (dk_at dksX8_operand_5 8 rfl rfl)
abbrev cX8_waitsFor : ByteArray := prog_19_method_31_code
def yX8_waitsFor : MethodName := ⟨RX8, "waitsFor", "(I)V"⟩
def dkwX8_waitsFor_0 : List UInt8 := [42, 180, 0, 81, 42, 180, 1, 45, 27, 79, 42, 89, 180, 1, 45, 4, 96, 181, 1, 45, 177]
abbrev dktX8_waitsFor_0 : List UInt8 := dkwX8_waitsFor_0 ++ []
theorem dksX8_waitsFor_0 : cX8_waitsFor.data.toList.drop 0 = dktX8_waitsFor_0 := by decide +kernel
theorem dX8_waitsFor_0 : decode cX8_waitsFor 0 = .ok (.aload_n 0, 1) := dk_42 (dk_at dksX8_waitsFor_0 0 rfl rfl)
theorem dX8_waitsFor_1 : decode cX8_waitsFor 1 = .ok (.getfield 81, 3) := dk_180 0 81 (dk_at dksX8_waitsFor_0 1 rfl rfl)
theorem dX8_waitsFor_4 : decode cX8_waitsFor 4 = .ok (.aload_n 0, 1) := dk_42 (dk_at dksX8_waitsFor_0 4 rfl rfl)
theorem dX8_waitsFor_5 : decode cX8_waitsFor 5 = .ok (.getfield 301, 3) := dk_180 1 45 (dk_at dksX8_waitsFor_0 5 rfl rfl)
theorem dX8_waitsFor_8 : decode cX8_waitsFor 8 = .ok (.iload_n 1, 1) := dk_27 (dk_at dksX8_waitsFor_0 8 rfl rfl)
theorem dX8_waitsFor_9 : decode cX8_waitsFor 9 = .ok (.iastore, 1) := dk_79 (dk_at dksX8_waitsFor_0 9 rfl rfl)
theorem dX8_waitsFor_10 : decode cX8_waitsFor 10 = .ok (.aload_n 0, 1) := dk_42 (dk_at dksX8_waitsFor_0 10 rfl rfl)
theorem dX8_waitsFor_11 : decode cX8_waitsFor 11 = .ok (.dup, 1) := dk_89 (dk_at dksX8_waitsFor_0 11 rfl rfl)
theorem dX8_waitsFor_12 : decode cX8_waitsFor 12 = .ok (.getfield 301, 3) := dk_180 1 45 (dk_at dksX8_waitsFor_0 12 rfl rfl)
theorem dX8_waitsFor_15 : decode cX8_waitsFor 15 = .ok (.iconst 1, 1) := dk_4 (dk_at dksX8_waitsFor_0 15 rfl rfl)
theorem dX8_waitsFor_16 : decode cX8_waitsFor 16 = .ok (.iadd, 1) := dk_96 (dk_at dksX8_waitsFor_0 16 rfl rfl)
theorem dX8_waitsFor_17 : decode cX8_waitsFor 17 = .ok (.putfield 301, 3) := dk_181 1 45 (dk_at dksX8_waitsFor_0 17 rfl rfl)
theorem dX8_waitsFor_20 : decode cX8_waitsFor 20 = .ok (.return_, 1) := dk_177 (dk_at dksX8_waitsFor_0 20 rfl rfl)
abbrev cX8_part : ByteArray := prog_19_method_32_code
def yX8_part : MethodName := ⟨RX8, "part", "()V"⟩
def dkwX8_part_8 : List UInt8 := [153, 0, 7, 42, 182, 0, 238, 177]
abbrev dktX8_part_8 : List UInt8 := dkwX8_part_8 ++ []
def dkwX8_part_7 : List UInt8 := [167, 0, 7, 16, 100, 27, 96, 182, 1, 51, 167, 0, 8, 42, 4, 182, 0, 241, 42, 182, 0, 230]
abbrev dktX8_part_7 : List UInt8 := dkwX8_part_7 ++ dktX8_part_8
def dkwX8_part_6 : List UInt8 := [42, 5, 182, 1, 51, 42, 42, 180, 0, 216, 4, 160, 0, 14, 42, 42, 180, 0, 203, 182, 0, 250]
abbrev dktX8_part_6 : List UInt8 := dkwX8_part_6 ++ dktX8_part_7
def dkwX8_part_5 : List UInt8 := [180, 0, 216, 4, 160, 0, 20, 42, 42, 180, 0, 203, 182, 0, 250, 2, 160, 0, 8, 42, 7, 182, 0, 241]
abbrev dktX8_part_5 : List UInt8 := dkwX8_part_5 ++ dktX8_part_6
def dkwX8_part_4 : List UInt8 := [167, 0, 4, 3, 61, 42, 180, 0, 216, 4, 164, 0, 12, 28, 154, 0, 8, 42, 6, 182, 0, 241, 42]
abbrev dktX8_part_4 : List UInt8 := dkwX8_part_4 ++ dktX8_part_5
def dkwX8_part_3 : List UInt8 := [27, 16, 18, 159, 0, 20, 27, 16, 19, 159, 0, 14, 27, 8, 159, 0, 9, 27, 16, 20, 160, 0, 7, 4]
abbrev dktX8_part_3 : List UInt8 := dkwX8_part_3 ++ dktX8_part_4
def dkwX8_part_2 : List UInt8 := [180, 0, 206, 4, 160, 0, 126, 42, 182, 0, 234, 60, 27, 16, 17, 159, 0, 32, 27, 16, 7, 159, 0, 26]
abbrev dktX8_part_2 : List UInt8 := dkwX8_part_2 ++ dktX8_part_3
def dkwX8_part_1 : List UInt8 := [42, 5, 182, 0, 241, 42, 4, 182, 1, 51, 42, 42, 180, 0, 200, 182, 1, 51, 167, 0, 139, 42]
abbrev dktX8_part_1 : List UInt8 := dkwX8_part_1 ++ dktX8_part_2
def dkwX8_part_0 : List UInt8 := [42, 182, 0, 230, 154, 0, 4, 177, 42, 180, 0, 206, 5, 160, 0, 32, 42, 180, 0, 216, 6, 164, 0, 8]
abbrev dktX8_part_0 : List UInt8 := dkwX8_part_0 ++ dktX8_part_1
theorem dksX8_part_0 : cX8_part.data.toList.drop 0 = dktX8_part_0 := by decide +kernel
theorem dksX8_part_1 : cX8_part.data.toList.drop 24 = dktX8_part_1 := dk_seg dksX8_part_0 24 rfl rfl
theorem dksX8_part_2 : cX8_part.data.toList.drop 46 = dktX8_part_2 := dk_seg dksX8_part_1 22 rfl rfl
theorem dksX8_part_3 : cX8_part.data.toList.drop 70 = dktX8_part_3 := dk_seg dksX8_part_2 24 rfl rfl
theorem dksX8_part_4 : cX8_part.data.toList.drop 94 = dktX8_part_4 := dk_seg dksX8_part_3 24 rfl rfl
theorem dksX8_part_5 : cX8_part.data.toList.drop 117 = dktX8_part_5 := dk_seg dksX8_part_4 23 rfl rfl
theorem dksX8_part_6 : cX8_part.data.toList.drop 141 = dktX8_part_6 := dk_seg dksX8_part_5 24 rfl rfl
theorem dksX8_part_7 : cX8_part.data.toList.drop 163 = dktX8_part_7 := dk_seg dksX8_part_6 22 rfl rfl
theorem dksX8_part_8 : cX8_part.data.toList.drop 185 = dktX8_part_8 := dk_seg dksX8_part_7 22 rfl rfl
theorem dX8_part_0 : decode cX8_part 0 = .ok (.aload_n 0, 1) := dk_42 (dk_at dksX8_part_0 0 rfl rfl)
theorem dX8_part_1 : decode cX8_part 1 = .ok (.invokevirtual 230, 3) := dk_182 0 230 (dk_at dksX8_part_0 1 rfl rfl)
theorem dX8_part_4 : decode cX8_part 4 = .ok (.ifCond .ne 4, 3) := dk_154 0 4 (dk_at dksX8_part_0 4 rfl rfl)
theorem dX8_part_7 : decode cX8_part 7 = .ok (.return_, 1) := dk_177 (dk_at dksX8_part_0 7 rfl rfl)
theorem dX8_part_8 : decode cX8_part 8 = .ok (.aload_n 0, 1) := dk_42 (dk_at dksX8_part_0 8 rfl rfl)
theorem dX8_part_9 : decode cX8_part 9 = .ok (.getfield 206, 3) := dk_180 0 206 (dk_at dksX8_part_0 9 rfl rfl)
theorem dX8_part_12 : decode cX8_part 12 = .ok (.iconst 2, 1) := dk_5 (dk_at dksX8_part_0 12 rfl rfl)
theorem dX8_part_13 : decode cX8_part 13 = .ok (.if_icmp .ne 32, 3) := dk_160 0 32 (dk_at dksX8_part_0 13 rfl rfl)
theorem dX8_part_16 : decode cX8_part 16 = .ok (.aload_n 0, 1) := dk_42 (dk_at dksX8_part_0 16 rfl rfl)
theorem dX8_part_17 : decode cX8_part 17 = .ok (.getfield 216, 3) := dk_180 0 216 (dk_at dksX8_part_0 17 rfl rfl)
theorem dX8_part_20 : decode cX8_part 20 = .ok (.iconst 3, 1) := dk_6 (dk_at dksX8_part_0 20 rfl rfl)
theorem dX8_part_21 : decode cX8_part 21 = .ok (.if_icmp .le 8, 3) := dk_164 0 8 (dk_at dksX8_part_0 21 rfl rfl)
theorem dX8_part_24 : decode cX8_part 24 = .ok (.aload_n 0, 1) := dk_42 (dk_at dksX8_part_1 0 rfl rfl)
theorem dX8_part_25 : decode cX8_part 25 = .ok (.iconst 2, 1) := dk_5 (dk_at dksX8_part_1 1 rfl rfl)
theorem dX8_part_26 : decode cX8_part 26 = .ok (.invokevirtual 241, 3) := dk_182 0 241 (dk_at dksX8_part_1 2 rfl rfl)
theorem dX8_part_29 : decode cX8_part 29 = .ok (.aload_n 0, 1) := dk_42 (dk_at dksX8_part_1 5 rfl rfl)
theorem dX8_part_30 : decode cX8_part 30 = .ok (.iconst 1, 1) := dk_4 (dk_at dksX8_part_1 6 rfl rfl)
theorem dX8_part_31 : decode cX8_part 31 = .ok (.invokevirtual 307, 3) := dk_182 1 51 (dk_at dksX8_part_1 7 rfl rfl)
theorem dX8_part_34 : decode cX8_part 34 = .ok (.aload_n 0, 1) := dk_42 (dk_at dksX8_part_1 10 rfl rfl)
theorem dX8_part_35 : decode cX8_part 35 = .ok (.aload_n 0, 1) := dk_42 (dk_at dksX8_part_1 11 rfl rfl)
theorem dX8_part_36 : decode cX8_part 36 = .ok (.getfield 200, 3) := dk_180 0 200 (dk_at dksX8_part_1 12 rfl rfl)
theorem dX8_part_39 : decode cX8_part 39 = .ok (.invokevirtual 307, 3) := dk_182 1 51 (dk_at dksX8_part_1 15 rfl rfl)
theorem dX8_part_42 : decode cX8_part 42 = .ok (.goto 139, 3) := dk_167 0 139 (dk_at dksX8_part_1 18 rfl rfl)
theorem dX8_part_45 : decode cX8_part 45 = .ok (.aload_n 0, 1) := dk_42 (dk_at dksX8_part_1 21 rfl rfl)
theorem dX8_part_46 : decode cX8_part 46 = .ok (.getfield 206, 3) := dk_180 0 206 (dk_at dksX8_part_2 0 rfl rfl)
theorem dX8_part_49 : decode cX8_part 49 = .ok (.iconst 1, 1) := dk_4 (dk_at dksX8_part_2 3 rfl rfl)
theorem dX8_part_50 : decode cX8_part 50 = .ok (.if_icmp .ne 126, 3) := dk_160 0 126 (dk_at dksX8_part_2 4 rfl rfl)
theorem dX8_part_53 : decode cX8_part 53 = .ok (.aload_n 0, 1) := dk_42 (dk_at dksX8_part_2 7 rfl rfl)
theorem dX8_part_54 : decode cX8_part 54 = .ok (.invokevirtual 234, 3) := dk_182 0 234 (dk_at dksX8_part_2 8 rfl rfl)
theorem dX8_part_57 : decode cX8_part 57 = .ok (.istore_n 1, 1) := dk_60 (dk_at dksX8_part_2 11 rfl rfl)
theorem dX8_part_58 : decode cX8_part 58 = .ok (.iload_n 1, 1) := dk_27 (dk_at dksX8_part_2 12 rfl rfl)
theorem dX8_part_59 : decode cX8_part 59 = .ok (.bipush 17, 2) := dk_16 17 (dk_at dksX8_part_2 13 rfl rfl)
theorem dX8_part_61 : decode cX8_part 61 = .ok (.if_icmp .eq 32, 3) := dk_159 0 32 (dk_at dksX8_part_2 15 rfl rfl)
theorem dX8_part_64 : decode cX8_part 64 = .ok (.iload_n 1, 1) := dk_27 (dk_at dksX8_part_2 18 rfl rfl)
theorem dX8_part_65 : decode cX8_part 65 = .ok (.bipush 7, 2) := dk_16 7 (dk_at dksX8_part_2 19 rfl rfl)
theorem dX8_part_67 : decode cX8_part 67 = .ok (.if_icmp .eq 26, 3) := dk_159 0 26 (dk_at dksX8_part_2 21 rfl rfl)
theorem dX8_part_70 : decode cX8_part 70 = .ok (.iload_n 1, 1) := dk_27 (dk_at dksX8_part_3 0 rfl rfl)
theorem dX8_part_71 : decode cX8_part 71 = .ok (.bipush 18, 2) := dk_16 18 (dk_at dksX8_part_3 1 rfl rfl)
theorem dX8_part_73 : decode cX8_part 73 = .ok (.if_icmp .eq 20, 3) := dk_159 0 20 (dk_at dksX8_part_3 3 rfl rfl)
theorem dX8_part_76 : decode cX8_part 76 = .ok (.iload_n 1, 1) := dk_27 (dk_at dksX8_part_3 6 rfl rfl)
theorem dX8_part_77 : decode cX8_part 77 = .ok (.bipush 19, 2) := dk_16 19 (dk_at dksX8_part_3 7 rfl rfl)
theorem dX8_part_79 : decode cX8_part 79 = .ok (.if_icmp .eq 14, 3) := dk_159 0 14 (dk_at dksX8_part_3 9 rfl rfl)
theorem dX8_part_82 : decode cX8_part 82 = .ok (.iload_n 1, 1) := dk_27 (dk_at dksX8_part_3 12 rfl rfl)
theorem dX8_part_83 : decode cX8_part 83 = .ok (.iconst 5, 1) := dk_8 (dk_at dksX8_part_3 13 rfl rfl)
theorem dX8_part_84 : decode cX8_part 84 = .ok (.if_icmp .eq 9, 3) := dk_159 0 9 (dk_at dksX8_part_3 14 rfl rfl)
theorem dX8_part_87 : decode cX8_part 87 = .ok (.iload_n 1, 1) := dk_27 (dk_at dksX8_part_3 17 rfl rfl)
theorem dX8_part_88 : decode cX8_part 88 = .ok (.bipush 20, 2) := dk_16 20 (dk_at dksX8_part_3 18 rfl rfl)
theorem dX8_part_90 : decode cX8_part 90 = .ok (.if_icmp .ne 7, 3) := dk_160 0 7 (dk_at dksX8_part_3 20 rfl rfl)
theorem dX8_part_93 : decode cX8_part 93 = .ok (.iconst 1, 1) := dk_4 (dk_at dksX8_part_3 23 rfl rfl)
theorem dX8_part_94 : decode cX8_part 94 = .ok (.goto 4, 3) := dk_167 0 4 (dk_at dksX8_part_4 0 rfl rfl)
theorem dX8_part_97 : decode cX8_part 97 = .ok (.iconst 0, 1) := dk_3 (dk_at dksX8_part_4 3 rfl rfl)
theorem dX8_part_98 : decode cX8_part 98 = .ok (.istore_n 2, 1) := dk_61 (dk_at dksX8_part_4 4 rfl rfl)
theorem dX8_part_99 : decode cX8_part 99 = .ok (.aload_n 0, 1) := dk_42 (dk_at dksX8_part_4 5 rfl rfl)
theorem dX8_part_100 : decode cX8_part 100 = .ok (.getfield 216, 3) := dk_180 0 216 (dk_at dksX8_part_4 6 rfl rfl)
theorem dX8_part_103 : decode cX8_part 103 = .ok (.iconst 1, 1) := dk_4 (dk_at dksX8_part_4 9 rfl rfl)
theorem dX8_part_104 : decode cX8_part 104 = .ok (.if_icmp .le 12, 3) := dk_164 0 12 (dk_at dksX8_part_4 10 rfl rfl)
theorem dX8_part_107 : decode cX8_part 107 = .ok (.iload_n 2, 1) := dk_28 (dk_at dksX8_part_4 13 rfl rfl)
theorem dX8_part_108 : decode cX8_part 108 = .ok (.ifCond .ne 8, 3) := dk_154 0 8 (dk_at dksX8_part_4 14 rfl rfl)
theorem dX8_part_111 : decode cX8_part 111 = .ok (.aload_n 0, 1) := dk_42 (dk_at dksX8_part_4 17 rfl rfl)
theorem dX8_part_112 : decode cX8_part 112 = .ok (.iconst 3, 1) := dk_6 (dk_at dksX8_part_4 18 rfl rfl)
theorem dX8_part_113 : decode cX8_part 113 = .ok (.invokevirtual 241, 3) := dk_182 0 241 (dk_at dksX8_part_4 19 rfl rfl)
theorem dX8_part_116 : decode cX8_part 116 = .ok (.aload_n 0, 1) := dk_42 (dk_at dksX8_part_4 22 rfl rfl)
theorem dX8_part_117 : decode cX8_part 117 = .ok (.getfield 216, 3) := dk_180 0 216 (dk_at dksX8_part_5 0 rfl rfl)
theorem dX8_part_120 : decode cX8_part 120 = .ok (.iconst 1, 1) := dk_4 (dk_at dksX8_part_5 3 rfl rfl)
theorem dX8_part_121 : decode cX8_part 121 = .ok (.if_icmp .ne 20, 3) := dk_160 0 20 (dk_at dksX8_part_5 4 rfl rfl)
theorem dX8_part_124 : decode cX8_part 124 = .ok (.aload_n 0, 1) := dk_42 (dk_at dksX8_part_5 7 rfl rfl)
theorem dX8_part_125 : decode cX8_part 125 = .ok (.aload_n 0, 1) := dk_42 (dk_at dksX8_part_5 8 rfl rfl)
theorem dX8_part_126 : decode cX8_part 126 = .ok (.getfield 203, 3) := dk_180 0 203 (dk_at dksX8_part_5 9 rfl rfl)
theorem dX8_part_129 : decode cX8_part 129 = .ok (.invokevirtual 250, 3) := dk_182 0 250 (dk_at dksX8_part_5 12 rfl rfl)
theorem dX8_part_132 : decode cX8_part 132 = .ok (.iconst (-1), 1) := dk_2 (dk_at dksX8_part_5 15 rfl rfl)
theorem dX8_part_133 : decode cX8_part 133 = .ok (.if_icmp .ne 8, 3) := dk_160 0 8 (dk_at dksX8_part_5 16 rfl rfl)
theorem dX8_part_136 : decode cX8_part 136 = .ok (.aload_n 0, 1) := dk_42 (dk_at dksX8_part_5 19 rfl rfl)
theorem dX8_part_137 : decode cX8_part 137 = .ok (.iconst 4, 1) := dk_7 (dk_at dksX8_part_5 20 rfl rfl)
theorem dX8_part_138 : decode cX8_part 138 = .ok (.invokevirtual 241, 3) := dk_182 0 241 (dk_at dksX8_part_5 21 rfl rfl)
theorem dX8_part_141 : decode cX8_part 141 = .ok (.aload_n 0, 1) := dk_42 (dk_at dksX8_part_6 0 rfl rfl)
theorem dX8_part_142 : decode cX8_part 142 = .ok (.iconst 2, 1) := dk_5 (dk_at dksX8_part_6 1 rfl rfl)
theorem dX8_part_143 : decode cX8_part 143 = .ok (.invokevirtual 307, 3) := dk_182 1 51 (dk_at dksX8_part_6 2 rfl rfl)
theorem dX8_part_146 : decode cX8_part 146 = .ok (.aload_n 0, 1) := dk_42 (dk_at dksX8_part_6 5 rfl rfl)
theorem dX8_part_147 : decode cX8_part 147 = .ok (.aload_n 0, 1) := dk_42 (dk_at dksX8_part_6 6 rfl rfl)
theorem dX8_part_148 : decode cX8_part 148 = .ok (.getfield 216, 3) := dk_180 0 216 (dk_at dksX8_part_6 7 rfl rfl)
theorem dX8_part_151 : decode cX8_part 151 = .ok (.iconst 1, 1) := dk_4 (dk_at dksX8_part_6 10 rfl rfl)
theorem dX8_part_152 : decode cX8_part 152 = .ok (.if_icmp .ne 14, 3) := dk_160 0 14 (dk_at dksX8_part_6 11 rfl rfl)
theorem dX8_part_155 : decode cX8_part 155 = .ok (.aload_n 0, 1) := dk_42 (dk_at dksX8_part_6 14 rfl rfl)
theorem dX8_part_156 : decode cX8_part 156 = .ok (.aload_n 0, 1) := dk_42 (dk_at dksX8_part_6 15 rfl rfl)
theorem dX8_part_157 : decode cX8_part 157 = .ok (.getfield 203, 3) := dk_180 0 203 (dk_at dksX8_part_6 16 rfl rfl)
theorem dX8_part_160 : decode cX8_part 160 = .ok (.invokevirtual 250, 3) := dk_182 0 250 (dk_at dksX8_part_6 19 rfl rfl)
theorem dX8_part_163 : decode cX8_part 163 = .ok (.goto 7, 3) := dk_167 0 7 (dk_at dksX8_part_7 0 rfl rfl)
theorem dX8_part_166 : decode cX8_part 166 = .ok (.bipush 100, 2) := dk_16 100 (dk_at dksX8_part_7 3 rfl rfl)
theorem dX8_part_168 : decode cX8_part 168 = .ok (.iload_n 1, 1) := dk_27 (dk_at dksX8_part_7 5 rfl rfl)
theorem dX8_part_169 : decode cX8_part 169 = .ok (.iadd, 1) := dk_96 (dk_at dksX8_part_7 6 rfl rfl)
theorem dX8_part_170 : decode cX8_part 170 = .ok (.invokevirtual 307, 3) := dk_182 1 51 (dk_at dksX8_part_7 7 rfl rfl)
theorem dX8_part_173 : decode cX8_part 173 = .ok (.goto 8, 3) := dk_167 0 8 (dk_at dksX8_part_7 10 rfl rfl)
theorem dX8_part_176 : decode cX8_part 176 = .ok (.aload_n 0, 1) := dk_42 (dk_at dksX8_part_7 13 rfl rfl)
theorem dX8_part_177 : decode cX8_part 177 = .ok (.iconst 1, 1) := dk_4 (dk_at dksX8_part_7 14 rfl rfl)
theorem dX8_part_178 : decode cX8_part 178 = .ok (.invokevirtual 241, 3) := dk_182 0 241 (dk_at dksX8_part_7 15 rfl rfl)
theorem dX8_part_181 : decode cX8_part 181 = .ok (.aload_n 0, 1) := dk_42 (dk_at dksX8_part_7 18 rfl rfl)
theorem dX8_part_182 : decode cX8_part 182 = .ok (.invokevirtual 230, 3) := dk_182 0 230 (dk_at dksX8_part_7 19 rfl rfl)
theorem dX8_part_185 : decode cX8_part 185 = .ok (.ifCond .eq 7, 3) := dk_153 0 7 (dk_at dksX8_part_8 0 rfl rfl)
theorem dX8_part_188 : decode cX8_part 188 = .ok (.aload_n 0, 1) := dk_42 (dk_at dksX8_part_8 3 rfl rfl)
theorem dX8_part_189 : decode cX8_part 189 = .ok (.invokevirtual 238, 3) := dk_182 0 238 (dk_at dksX8_part_8 4 rfl rfl)
theorem dX8_part_192 : decode cX8_part 192 = .ok (.return_, 1) := dk_177 (dk_at dksX8_part_8 7 rfl rfl)
abbrev cX8_puts : ByteArray := prog_19_method_28_code
def yX8_puts : MethodName := ⟨RX8, "puts", "(I)V"⟩
def dkwX8_puts_0 : List UInt8 := [42, 180, 0, 78, 42, 180, 1, 42, 27, 79, 42, 89, 180, 1, 42, 4, 96, 181, 1, 42, 177]
abbrev dktX8_puts_0 : List UInt8 := dkwX8_puts_0 ++ []
theorem dksX8_puts_0 : cX8_puts.data.toList.drop 0 = dktX8_puts_0 := by decide +kernel
theorem dX8_puts_0 : decode cX8_puts 0 = .ok (.aload_n 0, 1) := dk_42 (dk_at dksX8_puts_0 0 rfl rfl)
theorem dX8_puts_1 : decode cX8_puts 1 = .ok (.getfield 78, 3) := dk_180 0 78 (dk_at dksX8_puts_0 1 rfl rfl)
theorem dX8_puts_4 : decode cX8_puts 4 = .ok (.aload_n 0, 1) := dk_42 (dk_at dksX8_puts_0 4 rfl rfl)
theorem dX8_puts_5 : decode cX8_puts 5 = .ok (.getfield 298, 3) := dk_180 1 42 (dk_at dksX8_puts_0 5 rfl rfl)
theorem dX8_puts_8 : decode cX8_puts 8 = .ok (.iload_n 1, 1) := dk_27 (dk_at dksX8_puts_0 8 rfl rfl)
theorem dX8_puts_9 : decode cX8_puts 9 = .ok (.iastore, 1) := dk_79 (dk_at dksX8_puts_0 9 rfl rfl)
theorem dX8_puts_10 : decode cX8_puts 10 = .ok (.aload_n 0, 1) := dk_42 (dk_at dksX8_puts_0 10 rfl rfl)
theorem dX8_puts_11 : decode cX8_puts 11 = .ok (.dup, 1) := dk_89 (dk_at dksX8_puts_0 11 rfl rfl)
theorem dX8_puts_12 : decode cX8_puts 12 = .ok (.getfield 298, 3) := dk_180 1 42 (dk_at dksX8_puts_0 12 rfl rfl)
theorem dX8_puts_15 : decode cX8_puts 15 = .ok (.iconst 1, 1) := dk_4 (dk_at dksX8_puts_0 15 rfl rfl)
theorem dX8_puts_16 : decode cX8_puts 16 = .ok (.iadd, 1) := dk_96 (dk_at dksX8_puts_0 16 rfl rfl)
theorem dX8_puts_17 : decode cX8_puts 17 = .ok (.putfield 298, 3) := dk_181 1 42 (dk_at dksX8_puts_0 17 rfl rfl)
theorem dX8_puts_20 : decode cX8_puts 20 = .ok (.return_, 1) := dk_177 (dk_at dksX8_puts_0 20 rfl rfl)
abbrev cX8_drops : ByteArray := prog_19_method_30_code
def yX8_drops : MethodName := ⟨RX8, "drops", "(I)V"⟩
def dkwX8_drops_2 : List UInt8 := [181, 1, 45, 42, 42, 180, 0, 81, 42, 180, 1, 45, 46, 182, 1, 51, 167, 255, 192, 177]
abbrev dktX8_drops_2 : List UInt8 := dkwX8_drops_2 ++ []
def dkwX8_drops_1 : List UInt8 := [180, 0, 81, 42, 180, 1, 45, 4, 100, 46, 184, 1, 48, 27, 161, 0, 29, 42, 89, 180, 1, 45, 4, 100]
abbrev dktX8_drops_1 : List UInt8 := dkwX8_drops_1 ++ dktX8_drops_2
def dkwX8_drops_0 : List UInt8 := [42, 180, 1, 45, 158, 0, 63, 42, 180, 0, 81, 42, 180, 1, 45, 4, 100, 46, 16, 12, 159, 0, 47, 42]
abbrev dktX8_drops_0 : List UInt8 := dkwX8_drops_0 ++ dktX8_drops_1
theorem dksX8_drops_0 : cX8_drops.data.toList.drop 0 = dktX8_drops_0 := by decide +kernel
theorem dksX8_drops_1 : cX8_drops.data.toList.drop 24 = dktX8_drops_1 := dk_seg dksX8_drops_0 24 rfl rfl
theorem dksX8_drops_2 : cX8_drops.data.toList.drop 48 = dktX8_drops_2 := dk_seg dksX8_drops_1 24 rfl rfl
theorem dX8_drops_0 : decode cX8_drops 0 = .ok (.aload_n 0, 1) := dk_42 (dk_at dksX8_drops_0 0 rfl rfl)
theorem dX8_drops_1 : decode cX8_drops 1 = .ok (.getfield 301, 3) := dk_180 1 45 (dk_at dksX8_drops_0 1 rfl rfl)
theorem dX8_drops_4 : decode cX8_drops 4 = .ok (.ifCond .le 63, 3) := dk_158 0 63 (dk_at dksX8_drops_0 4 rfl rfl)
theorem dX8_drops_7 : decode cX8_drops 7 = .ok (.aload_n 0, 1) := dk_42 (dk_at dksX8_drops_0 7 rfl rfl)
theorem dX8_drops_8 : decode cX8_drops 8 = .ok (.getfield 81, 3) := dk_180 0 81 (dk_at dksX8_drops_0 8 rfl rfl)
theorem dX8_drops_11 : decode cX8_drops 11 = .ok (.aload_n 0, 1) := dk_42 (dk_at dksX8_drops_0 11 rfl rfl)
theorem dX8_drops_12 : decode cX8_drops 12 = .ok (.getfield 301, 3) := dk_180 1 45 (dk_at dksX8_drops_0 12 rfl rfl)
theorem dX8_drops_15 : decode cX8_drops 15 = .ok (.iconst 1, 1) := dk_4 (dk_at dksX8_drops_0 15 rfl rfl)
theorem dX8_drops_16 : decode cX8_drops 16 = .ok (.isub, 1) := dk_100 (dk_at dksX8_drops_0 16 rfl rfl)
theorem dX8_drops_17 : decode cX8_drops 17 = .ok (.iaload, 1) := dk_46 (dk_at dksX8_drops_0 17 rfl rfl)
theorem dX8_drops_18 : decode cX8_drops 18 = .ok (.bipush 12, 2) := dk_16 12 (dk_at dksX8_drops_0 18 rfl rfl)
theorem dX8_drops_20 : decode cX8_drops 20 = .ok (.if_icmp .eq 47, 3) := dk_159 0 47 (dk_at dksX8_drops_0 20 rfl rfl)
theorem dX8_drops_23 : decode cX8_drops 23 = .ok (.aload_n 0, 1) := dk_42 (dk_at dksX8_drops_0 23 rfl rfl)
theorem dX8_drops_24 : decode cX8_drops 24 = .ok (.getfield 81, 3) := dk_180 0 81 (dk_at dksX8_drops_1 0 rfl rfl)
theorem dX8_drops_27 : decode cX8_drops 27 = .ok (.aload_n 0, 1) := dk_42 (dk_at dksX8_drops_1 3 rfl rfl)
theorem dX8_drops_28 : decode cX8_drops 28 = .ok (.getfield 301, 3) := dk_180 1 45 (dk_at dksX8_drops_1 4 rfl rfl)
theorem dX8_drops_31 : decode cX8_drops 31 = .ok (.iconst 1, 1) := dk_4 (dk_at dksX8_drops_1 7 rfl rfl)
theorem dX8_drops_32 : decode cX8_drops 32 = .ok (.isub, 1) := dk_100 (dk_at dksX8_drops_1 8 rfl rfl)
theorem dX8_drops_33 : decode cX8_drops 33 = .ok (.iaload, 1) := dk_46 (dk_at dksX8_drops_1 9 rfl rfl)
theorem dX8_drops_34 : decode cX8_drops 34 = .ok (.invokestatic 304, 3) := dk_184 1 48 (dk_at dksX8_drops_1 10 rfl rfl)
theorem dX8_drops_37 : decode cX8_drops 37 = .ok (.iload_n 1, 1) := dk_27 (dk_at dksX8_drops_1 13 rfl rfl)
theorem dX8_drops_38 : decode cX8_drops 38 = .ok (.if_icmp .lt 29, 3) := dk_161 0 29 (dk_at dksX8_drops_1 14 rfl rfl)
theorem dX8_drops_41 : decode cX8_drops 41 = .ok (.aload_n 0, 1) := dk_42 (dk_at dksX8_drops_1 17 rfl rfl)
theorem dX8_drops_42 : decode cX8_drops 42 = .ok (.dup, 1) := dk_89 (dk_at dksX8_drops_1 18 rfl rfl)
theorem dX8_drops_43 : decode cX8_drops 43 = .ok (.getfield 301, 3) := dk_180 1 45 (dk_at dksX8_drops_1 19 rfl rfl)
theorem dX8_drops_46 : decode cX8_drops 46 = .ok (.iconst 1, 1) := dk_4 (dk_at dksX8_drops_1 22 rfl rfl)
theorem dX8_drops_47 : decode cX8_drops 47 = .ok (.isub, 1) := dk_100 (dk_at dksX8_drops_1 23 rfl rfl)
theorem dX8_drops_48 : decode cX8_drops 48 = .ok (.putfield 301, 3) := dk_181 1 45 (dk_at dksX8_drops_2 0 rfl rfl)
theorem dX8_drops_51 : decode cX8_drops 51 = .ok (.aload_n 0, 1) := dk_42 (dk_at dksX8_drops_2 3 rfl rfl)
theorem dX8_drops_52 : decode cX8_drops 52 = .ok (.aload_n 0, 1) := dk_42 (dk_at dksX8_drops_2 4 rfl rfl)
theorem dX8_drops_53 : decode cX8_drops 53 = .ok (.getfield 81, 3) := dk_180 0 81 (dk_at dksX8_drops_2 5 rfl rfl)
theorem dX8_drops_56 : decode cX8_drops 56 = .ok (.aload_n 0, 1) := dk_42 (dk_at dksX8_drops_2 8 rfl rfl)
theorem dX8_drops_57 : decode cX8_drops 57 = .ok (.getfield 301, 3) := dk_180 1 45 (dk_at dksX8_drops_2 9 rfl rfl)
theorem dX8_drops_60 : decode cX8_drops 60 = .ok (.iaload, 1) := dk_46 (dk_at dksX8_drops_2 12 rfl rfl)
theorem dX8_drops_61 : decode cX8_drops 61 = .ok (.invokevirtual 307, 3) := dk_182 1 51 (dk_at dksX8_drops_2 13 rfl rfl)
theorem dX8_drops_64 : decode cX8_drops 64 = .ok (.goto (-64), 3) := dk_167 255 192 (dk_at dksX8_drops_2 16 rfl rfl)
theorem dX8_drops_67 : decode cX8_drops 67 = .ok (.return_, 1) := dk_177 (dk_at dksX8_drops_2 19 rfl rfl)
abbrev cX8_strength : ByteArray := prog_19_method_29_code
def yX8_strength : MethodName := ⟨RX8, "strength", "(I)I"⟩
def dkwX8_strength_3 : List UInt8 := [16, 6, 172]
abbrev dktX8_strength_3 : List UInt8 := dkwX8_strength_3 ++ []
def dkwX8_strength_2 : List UInt8 := [160, 0, 7, 7, 167, 0, 21, 26, 16, 8, 159, 0, 9, 26, 16, 9, 160, 0, 7, 8, 167, 0, 5]
abbrev dktX8_strength_2 : List UInt8 := dkwX8_strength_2 ++ dktX8_strength_3
def dkwX8_strength_1 : List UInt8 := [5, 167, 0, 46, 26, 6, 160, 0, 7, 6, 167, 0, 37, 26, 16, 6, 159, 0, 9, 26, 16, 7]
abbrev dktX8_strength_1 : List UInt8 := dkwX8_strength_1 ++ dktX8_strength_2
def dkwX8_strength_0 : List UInt8 := [26, 16, 12, 160, 0, 7, 3, 167, 0, 64, 26, 8, 160, 0, 7, 4, 167, 0, 55, 26, 7, 160, 0, 7]
abbrev dktX8_strength_0 : List UInt8 := dkwX8_strength_0 ++ dktX8_strength_1
theorem dksX8_strength_0 : cX8_strength.data.toList.drop 0 = dktX8_strength_0 := by decide +kernel
theorem dksX8_strength_1 : cX8_strength.data.toList.drop 24 = dktX8_strength_1 := dk_seg dksX8_strength_0 24 rfl rfl
theorem dksX8_strength_2 : cX8_strength.data.toList.drop 46 = dktX8_strength_2 := dk_seg dksX8_strength_1 22 rfl rfl
theorem dksX8_strength_3 : cX8_strength.data.toList.drop 69 = dktX8_strength_3 := dk_seg dksX8_strength_2 23 rfl rfl
theorem dX8_strength_0 : decode cX8_strength 0 = .ok (.iload_n 0, 1) := dk_26 (dk_at dksX8_strength_0 0 rfl rfl)
theorem dX8_strength_1 : decode cX8_strength 1 = .ok (.bipush 12, 2) := dk_16 12 (dk_at dksX8_strength_0 1 rfl rfl)
theorem dX8_strength_3 : decode cX8_strength 3 = .ok (.if_icmp .ne 7, 3) := dk_160 0 7 (dk_at dksX8_strength_0 3 rfl rfl)
theorem dX8_strength_6 : decode cX8_strength 6 = .ok (.iconst 0, 1) := dk_3 (dk_at dksX8_strength_0 6 rfl rfl)
theorem dX8_strength_7 : decode cX8_strength 7 = .ok (.goto 64, 3) := dk_167 0 64 (dk_at dksX8_strength_0 7 rfl rfl)
theorem dX8_strength_10 : decode cX8_strength 10 = .ok (.iload_n 0, 1) := dk_26 (dk_at dksX8_strength_0 10 rfl rfl)
theorem dX8_strength_11 : decode cX8_strength 11 = .ok (.iconst 5, 1) := dk_8 (dk_at dksX8_strength_0 11 rfl rfl)
theorem dX8_strength_12 : decode cX8_strength 12 = .ok (.if_icmp .ne 7, 3) := dk_160 0 7 (dk_at dksX8_strength_0 12 rfl rfl)
theorem dX8_strength_15 : decode cX8_strength 15 = .ok (.iconst 1, 1) := dk_4 (dk_at dksX8_strength_0 15 rfl rfl)
theorem dX8_strength_16 : decode cX8_strength 16 = .ok (.goto 55, 3) := dk_167 0 55 (dk_at dksX8_strength_0 16 rfl rfl)
theorem dX8_strength_19 : decode cX8_strength 19 = .ok (.iload_n 0, 1) := dk_26 (dk_at dksX8_strength_0 19 rfl rfl)
theorem dX8_strength_20 : decode cX8_strength 20 = .ok (.iconst 4, 1) := dk_7 (dk_at dksX8_strength_0 20 rfl rfl)
theorem dX8_strength_21 : decode cX8_strength 21 = .ok (.if_icmp .ne 7, 3) := dk_160 0 7 (dk_at dksX8_strength_0 21 rfl rfl)
theorem dX8_strength_24 : decode cX8_strength 24 = .ok (.iconst 2, 1) := dk_5 (dk_at dksX8_strength_1 0 rfl rfl)
theorem dX8_strength_25 : decode cX8_strength 25 = .ok (.goto 46, 3) := dk_167 0 46 (dk_at dksX8_strength_1 1 rfl rfl)
theorem dX8_strength_28 : decode cX8_strength 28 = .ok (.iload_n 0, 1) := dk_26 (dk_at dksX8_strength_1 4 rfl rfl)
theorem dX8_strength_29 : decode cX8_strength 29 = .ok (.iconst 3, 1) := dk_6 (dk_at dksX8_strength_1 5 rfl rfl)
theorem dX8_strength_30 : decode cX8_strength 30 = .ok (.if_icmp .ne 7, 3) := dk_160 0 7 (dk_at dksX8_strength_1 6 rfl rfl)
theorem dX8_strength_33 : decode cX8_strength 33 = .ok (.iconst 3, 1) := dk_6 (dk_at dksX8_strength_1 9 rfl rfl)
theorem dX8_strength_34 : decode cX8_strength 34 = .ok (.goto 37, 3) := dk_167 0 37 (dk_at dksX8_strength_1 10 rfl rfl)
theorem dX8_strength_37 : decode cX8_strength 37 = .ok (.iload_n 0, 1) := dk_26 (dk_at dksX8_strength_1 13 rfl rfl)
theorem dX8_strength_38 : decode cX8_strength 38 = .ok (.bipush 6, 2) := dk_16 6 (dk_at dksX8_strength_1 14 rfl rfl)
theorem dX8_strength_40 : decode cX8_strength 40 = .ok (.if_icmp .eq 9, 3) := dk_159 0 9 (dk_at dksX8_strength_1 16 rfl rfl)
theorem dX8_strength_43 : decode cX8_strength 43 = .ok (.iload_n 0, 1) := dk_26 (dk_at dksX8_strength_1 19 rfl rfl)
theorem dX8_strength_44 : decode cX8_strength 44 = .ok (.bipush 7, 2) := dk_16 7 (dk_at dksX8_strength_1 20 rfl rfl)
theorem dX8_strength_46 : decode cX8_strength 46 = .ok (.if_icmp .ne 7, 3) := dk_160 0 7 (dk_at dksX8_strength_2 0 rfl rfl)
theorem dX8_strength_49 : decode cX8_strength 49 = .ok (.iconst 4, 1) := dk_7 (dk_at dksX8_strength_2 3 rfl rfl)
theorem dX8_strength_50 : decode cX8_strength 50 = .ok (.goto 21, 3) := dk_167 0 21 (dk_at dksX8_strength_2 4 rfl rfl)
theorem dX8_strength_53 : decode cX8_strength 53 = .ok (.iload_n 0, 1) := dk_26 (dk_at dksX8_strength_2 7 rfl rfl)
theorem dX8_strength_54 : decode cX8_strength 54 = .ok (.bipush 8, 2) := dk_16 8 (dk_at dksX8_strength_2 8 rfl rfl)
theorem dX8_strength_56 : decode cX8_strength 56 = .ok (.if_icmp .eq 9, 3) := dk_159 0 9 (dk_at dksX8_strength_2 10 rfl rfl)
theorem dX8_strength_59 : decode cX8_strength 59 = .ok (.iload_n 0, 1) := dk_26 (dk_at dksX8_strength_2 13 rfl rfl)
theorem dX8_strength_60 : decode cX8_strength 60 = .ok (.bipush 9, 2) := dk_16 9 (dk_at dksX8_strength_2 14 rfl rfl)
theorem dX8_strength_62 : decode cX8_strength 62 = .ok (.if_icmp .ne 7, 3) := dk_160 0 7 (dk_at dksX8_strength_2 16 rfl rfl)
theorem dX8_strength_65 : decode cX8_strength 65 = .ok (.iconst 5, 1) := dk_8 (dk_at dksX8_strength_2 19 rfl rfl)
theorem dX8_strength_66 : decode cX8_strength 66 = .ok (.goto 5, 3) := dk_167 0 5 (dk_at dksX8_strength_2 20 rfl rfl)
theorem dX8_strength_69 : decode cX8_strength 69 = .ok (.bipush 6, 2) := dk_16 6 (dk_at dksX8_strength_3 0 rfl rfl)
theorem dX8_strength_71 : decode cX8_strength 71 = .ok (.ireturn, 1) := dk_172 (dk_at dksX8_strength_3 2 rfl rfl)
abbrev cX8_takes : ByteArray := prog_19_method_37_code
def yX8_takes : MethodName := ⟨RX8, "takes", "()V"⟩
def dkwX8_takes_10 : List UInt8 := [167, 255, 234, 177]
abbrev dktX8_takes_10 : List UInt8 := dkwX8_takes_10 ++ []
def dkwX8_takes_9 : List UInt8 := [3, 60, 27, 17, 4, 176, 162, 0, 21, 42, 180, 0, 45, 27, 42, 180, 0, 78, 27, 46, 79, 132, 1, 1]
abbrev dktX8_takes_9 : List UInt8 := dkwX8_takes_9 ++ dktX8_takes_10
def dkwX8_takes_8 : List UInt8 := [180, 0, 72, 27, 46, 79, 42, 180, 0, 42, 27, 42, 180, 0, 75, 27, 46, 79, 132, 1, 1, 167, 255, 221]
abbrev dktX8_takes_8 : List UInt8 := dkwX8_takes_8 ++ dktX8_takes_9
def dkwX8_takes_7 : List UInt8 := [51, 84, 132, 1, 1, 167, 255, 235, 3, 60, 27, 42, 180, 1, 88, 162, 0, 33, 42, 180, 0, 39, 27, 42]
abbrev dktX8_takes_7 : List UInt8 := dkwX8_takes_7 ++ dktX8_takes_8
def dkwX8_takes_6 : List UInt8 := [132, 1, 1, 167, 255, 212, 3, 60, 27, 16, 16, 162, 0, 21, 42, 180, 0, 35, 27, 42, 180, 0, 84, 27]
abbrev dktX8_takes_6 : List UInt8 := dkwX8_takes_6 ++ dktX8_takes_7
def dkwX8_takes_5 : List UInt8 := [180, 0, 29, 27, 42, 180, 0, 66, 27, 46, 79, 42, 180, 0, 32, 27, 42, 180, 0, 69, 27, 46, 79]
abbrev dktX8_takes_5 : List UInt8 := dkwX8_takes_5 ++ dktX8_takes_6
def dkwX8_takes_4 : List UInt8 := [167, 255, 211, 3, 60, 27, 5, 162, 0, 45, 42, 180, 0, 26, 27, 42, 180, 0, 63, 27, 46, 79, 42]
abbrev dktX8_takes_4 : List UInt8 := dkwX8_takes_4 ++ dktX8_takes_5
def dkwX8_takes_3 : List UInt8 := [27, 42, 180, 0, 57, 27, 46, 79, 42, 180, 0, 23, 27, 42, 180, 0, 60, 27, 46, 79, 132, 1, 1]
abbrev dktX8_takes_3 : List UInt8 := dkwX8_takes_3 ++ dktX8_takes_4
def dkwX8_takes_2 : List UInt8 := [3, 60, 27, 16, 8, 162, 0, 45, 42, 180, 0, 16, 27, 42, 180, 0, 54, 27, 46, 79, 42, 180, 0, 20]
abbrev dktX8_takes_2 : List UInt8 := dkwX8_takes_2 ++ dktX8_takes_3
def dkwX8_takes_1 : List UInt8 := [42, 42, 180, 1, 17, 181, 1, 88, 42, 42, 180, 1, 14, 181, 0, 13, 42, 42, 180, 1, 10, 181, 1, 91]
abbrev dktX8_takes_1 : List UInt8 := dkwX8_takes_1 ++ dktX8_takes_2
def dkwX8_takes_0 : List UInt8 := [42, 42, 180, 0, 244, 181, 0, 7, 42, 42, 180, 0, 247, 181, 1, 82, 42, 42, 180, 1, 4, 181, 1, 85]
abbrev dktX8_takes_0 : List UInt8 := dkwX8_takes_0 ++ dktX8_takes_1
theorem dksX8_takes_0 : cX8_takes.data.toList.drop 0 = dktX8_takes_0 := by decide +kernel
theorem dksX8_takes_1 : cX8_takes.data.toList.drop 24 = dktX8_takes_1 := dk_seg dksX8_takes_0 24 rfl rfl
theorem dksX8_takes_2 : cX8_takes.data.toList.drop 48 = dktX8_takes_2 := dk_seg dksX8_takes_1 24 rfl rfl
theorem dksX8_takes_3 : cX8_takes.data.toList.drop 72 = dktX8_takes_3 := dk_seg dksX8_takes_2 24 rfl rfl
theorem dksX8_takes_4 : cX8_takes.data.toList.drop 95 = dktX8_takes_4 := dk_seg dksX8_takes_3 23 rfl rfl
theorem dksX8_takes_5 : cX8_takes.data.toList.drop 118 = dktX8_takes_5 := dk_seg dksX8_takes_4 23 rfl rfl
theorem dksX8_takes_6 : cX8_takes.data.toList.drop 141 = dktX8_takes_6 := dk_seg dksX8_takes_5 23 rfl rfl
theorem dksX8_takes_7 : cX8_takes.data.toList.drop 165 = dktX8_takes_7 := dk_seg dksX8_takes_6 24 rfl rfl
theorem dksX8_takes_8 : cX8_takes.data.toList.drop 189 = dktX8_takes_8 := dk_seg dksX8_takes_7 24 rfl rfl
theorem dksX8_takes_9 : cX8_takes.data.toList.drop 213 = dktX8_takes_9 := dk_seg dksX8_takes_8 24 rfl rfl
theorem dksX8_takes_10 : cX8_takes.data.toList.drop 237 = dktX8_takes_10 := dk_seg dksX8_takes_9 24 rfl rfl
theorem dX8_takes_0 : decode cX8_takes 0 = .ok (.aload_n 0, 1) := dk_42 (dk_at dksX8_takes_0 0 rfl rfl)
theorem dX8_takes_1 : decode cX8_takes 1 = .ok (.aload_n 0, 1) := dk_42 (dk_at dksX8_takes_0 1 rfl rfl)
theorem dX8_takes_2 : decode cX8_takes 2 = .ok (.getfield 244, 3) := dk_180 0 244 (dk_at dksX8_takes_0 2 rfl rfl)
theorem dX8_takes_5 : decode cX8_takes 5 = .ok (.putfield 7, 3) := dk_181 0 7 (dk_at dksX8_takes_0 5 rfl rfl)
theorem dX8_takes_8 : decode cX8_takes 8 = .ok (.aload_n 0, 1) := dk_42 (dk_at dksX8_takes_0 8 rfl rfl)
theorem dX8_takes_9 : decode cX8_takes 9 = .ok (.aload_n 0, 1) := dk_42 (dk_at dksX8_takes_0 9 rfl rfl)
theorem dX8_takes_10 : decode cX8_takes 10 = .ok (.getfield 247, 3) := dk_180 0 247 (dk_at dksX8_takes_0 10 rfl rfl)
theorem dX8_takes_13 : decode cX8_takes 13 = .ok (.putfield 338, 3) := dk_181 1 82 (dk_at dksX8_takes_0 13 rfl rfl)
theorem dX8_takes_16 : decode cX8_takes 16 = .ok (.aload_n 0, 1) := dk_42 (dk_at dksX8_takes_0 16 rfl rfl)
theorem dX8_takes_17 : decode cX8_takes 17 = .ok (.aload_n 0, 1) := dk_42 (dk_at dksX8_takes_0 17 rfl rfl)
theorem dX8_takes_18 : decode cX8_takes 18 = .ok (.getfield 260, 3) := dk_180 1 4 (dk_at dksX8_takes_0 18 rfl rfl)
theorem dX8_takes_21 : decode cX8_takes 21 = .ok (.putfield 341, 3) := dk_181 1 85 (dk_at dksX8_takes_0 21 rfl rfl)
theorem dX8_takes_24 : decode cX8_takes 24 = .ok (.aload_n 0, 1) := dk_42 (dk_at dksX8_takes_1 0 rfl rfl)
theorem dX8_takes_25 : decode cX8_takes 25 = .ok (.aload_n 0, 1) := dk_42 (dk_at dksX8_takes_1 1 rfl rfl)
theorem dX8_takes_26 : decode cX8_takes 26 = .ok (.getfield 273, 3) := dk_180 1 17 (dk_at dksX8_takes_1 2 rfl rfl)
theorem dX8_takes_29 : decode cX8_takes 29 = .ok (.putfield 344, 3) := dk_181 1 88 (dk_at dksX8_takes_1 5 rfl rfl)
theorem dX8_takes_32 : decode cX8_takes 32 = .ok (.aload_n 0, 1) := dk_42 (dk_at dksX8_takes_1 8 rfl rfl)
theorem dX8_takes_33 : decode cX8_takes 33 = .ok (.aload_n 0, 1) := dk_42 (dk_at dksX8_takes_1 9 rfl rfl)
theorem dX8_takes_34 : decode cX8_takes 34 = .ok (.getfield 270, 3) := dk_180 1 14 (dk_at dksX8_takes_1 10 rfl rfl)
theorem dX8_takes_37 : decode cX8_takes 37 = .ok (.putfield 13, 3) := dk_181 0 13 (dk_at dksX8_takes_1 13 rfl rfl)
theorem dX8_takes_40 : decode cX8_takes 40 = .ok (.aload_n 0, 1) := dk_42 (dk_at dksX8_takes_1 16 rfl rfl)
theorem dX8_takes_41 : decode cX8_takes 41 = .ok (.aload_n 0, 1) := dk_42 (dk_at dksX8_takes_1 17 rfl rfl)
theorem dX8_takes_42 : decode cX8_takes 42 = .ok (.getfield 266, 3) := dk_180 1 10 (dk_at dksX8_takes_1 18 rfl rfl)
theorem dX8_takes_45 : decode cX8_takes 45 = .ok (.putfield 347, 3) := dk_181 1 91 (dk_at dksX8_takes_1 21 rfl rfl)
theorem dX8_takes_48 : decode cX8_takes 48 = .ok (.iconst 0, 1) := dk_3 (dk_at dksX8_takes_2 0 rfl rfl)
theorem dX8_takes_49 : decode cX8_takes 49 = .ok (.istore_n 1, 1) := dk_60 (dk_at dksX8_takes_2 1 rfl rfl)
theorem dX8_takes_50 : decode cX8_takes 50 = .ok (.iload_n 1, 1) := dk_27 (dk_at dksX8_takes_2 2 rfl rfl)
theorem dX8_takes_51 : decode cX8_takes 51 = .ok (.bipush 8, 2) := dk_16 8 (dk_at dksX8_takes_2 3 rfl rfl)
theorem dX8_takes_53 : decode cX8_takes 53 = .ok (.if_icmp .ge 45, 3) := dk_162 0 45 (dk_at dksX8_takes_2 5 rfl rfl)
theorem dX8_takes_56 : decode cX8_takes 56 = .ok (.aload_n 0, 1) := dk_42 (dk_at dksX8_takes_2 8 rfl rfl)
theorem dX8_takes_57 : decode cX8_takes 57 = .ok (.getfield 16, 3) := dk_180 0 16 (dk_at dksX8_takes_2 9 rfl rfl)
theorem dX8_takes_60 : decode cX8_takes 60 = .ok (.iload_n 1, 1) := dk_27 (dk_at dksX8_takes_2 12 rfl rfl)
theorem dX8_takes_61 : decode cX8_takes 61 = .ok (.aload_n 0, 1) := dk_42 (dk_at dksX8_takes_2 13 rfl rfl)
theorem dX8_takes_62 : decode cX8_takes 62 = .ok (.getfield 54, 3) := dk_180 0 54 (dk_at dksX8_takes_2 14 rfl rfl)
theorem dX8_takes_65 : decode cX8_takes 65 = .ok (.iload_n 1, 1) := dk_27 (dk_at dksX8_takes_2 17 rfl rfl)
theorem dX8_takes_66 : decode cX8_takes 66 = .ok (.iaload, 1) := dk_46 (dk_at dksX8_takes_2 18 rfl rfl)
theorem dX8_takes_67 : decode cX8_takes 67 = .ok (.iastore, 1) := dk_79 (dk_at dksX8_takes_2 19 rfl rfl)
theorem dX8_takes_68 : decode cX8_takes 68 = .ok (.aload_n 0, 1) := dk_42 (dk_at dksX8_takes_2 20 rfl rfl)
theorem dX8_takes_69 : decode cX8_takes 69 = .ok (.getfield 20, 3) := dk_180 0 20 (dk_at dksX8_takes_2 21 rfl rfl)
theorem dX8_takes_72 : decode cX8_takes 72 = .ok (.iload_n 1, 1) := dk_27 (dk_at dksX8_takes_3 0 rfl rfl)
theorem dX8_takes_73 : decode cX8_takes 73 = .ok (.aload_n 0, 1) := dk_42 (dk_at dksX8_takes_3 1 rfl rfl)
theorem dX8_takes_74 : decode cX8_takes 74 = .ok (.getfield 57, 3) := dk_180 0 57 (dk_at dksX8_takes_3 2 rfl rfl)
theorem dX8_takes_77 : decode cX8_takes 77 = .ok (.iload_n 1, 1) := dk_27 (dk_at dksX8_takes_3 5 rfl rfl)
theorem dX8_takes_78 : decode cX8_takes 78 = .ok (.iaload, 1) := dk_46 (dk_at dksX8_takes_3 6 rfl rfl)
theorem dX8_takes_79 : decode cX8_takes 79 = .ok (.iastore, 1) := dk_79 (dk_at dksX8_takes_3 7 rfl rfl)
theorem dX8_takes_80 : decode cX8_takes 80 = .ok (.aload_n 0, 1) := dk_42 (dk_at dksX8_takes_3 8 rfl rfl)
theorem dX8_takes_81 : decode cX8_takes 81 = .ok (.getfield 23, 3) := dk_180 0 23 (dk_at dksX8_takes_3 9 rfl rfl)
theorem dX8_takes_84 : decode cX8_takes 84 = .ok (.iload_n 1, 1) := dk_27 (dk_at dksX8_takes_3 12 rfl rfl)
theorem dX8_takes_85 : decode cX8_takes 85 = .ok (.aload_n 0, 1) := dk_42 (dk_at dksX8_takes_3 13 rfl rfl)
theorem dX8_takes_86 : decode cX8_takes 86 = .ok (.getfield 60, 3) := dk_180 0 60 (dk_at dksX8_takes_3 14 rfl rfl)
theorem dX8_takes_89 : decode cX8_takes 89 = .ok (.iload_n 1, 1) := dk_27 (dk_at dksX8_takes_3 17 rfl rfl)
theorem dX8_takes_90 : decode cX8_takes 90 = .ok (.iaload, 1) := dk_46 (dk_at dksX8_takes_3 18 rfl rfl)
theorem dX8_takes_91 : decode cX8_takes 91 = .ok (.iastore, 1) := dk_79 (dk_at dksX8_takes_3 19 rfl rfl)
theorem dX8_takes_92 : decode cX8_takes 92 = .ok (.iinc 1 1, 3) := dk_132 1 1 (dk_at dksX8_takes_3 20 rfl rfl)
theorem dX8_takes_95 : decode cX8_takes 95 = .ok (.goto (-45), 3) := dk_167 255 211 (dk_at dksX8_takes_4 0 rfl rfl)
theorem dX8_takes_98 : decode cX8_takes 98 = .ok (.iconst 0, 1) := dk_3 (dk_at dksX8_takes_4 3 rfl rfl)
theorem dX8_takes_99 : decode cX8_takes 99 = .ok (.istore_n 1, 1) := dk_60 (dk_at dksX8_takes_4 4 rfl rfl)
theorem dX8_takes_100 : decode cX8_takes 100 = .ok (.iload_n 1, 1) := dk_27 (dk_at dksX8_takes_4 5 rfl rfl)
theorem dX8_takes_101 : decode cX8_takes 101 = .ok (.iconst 2, 1) := dk_5 (dk_at dksX8_takes_4 6 rfl rfl)
theorem dX8_takes_102 : decode cX8_takes 102 = .ok (.if_icmp .ge 45, 3) := dk_162 0 45 (dk_at dksX8_takes_4 7 rfl rfl)
theorem dX8_takes_105 : decode cX8_takes 105 = .ok (.aload_n 0, 1) := dk_42 (dk_at dksX8_takes_4 10 rfl rfl)
theorem dX8_takes_106 : decode cX8_takes 106 = .ok (.getfield 26, 3) := dk_180 0 26 (dk_at dksX8_takes_4 11 rfl rfl)
theorem dX8_takes_109 : decode cX8_takes 109 = .ok (.iload_n 1, 1) := dk_27 (dk_at dksX8_takes_4 14 rfl rfl)
theorem dX8_takes_110 : decode cX8_takes 110 = .ok (.aload_n 0, 1) := dk_42 (dk_at dksX8_takes_4 15 rfl rfl)
theorem dX8_takes_111 : decode cX8_takes 111 = .ok (.getfield 63, 3) := dk_180 0 63 (dk_at dksX8_takes_4 16 rfl rfl)
theorem dX8_takes_114 : decode cX8_takes 114 = .ok (.iload_n 1, 1) := dk_27 (dk_at dksX8_takes_4 19 rfl rfl)
theorem dX8_takes_115 : decode cX8_takes 115 = .ok (.iaload, 1) := dk_46 (dk_at dksX8_takes_4 20 rfl rfl)
theorem dX8_takes_116 : decode cX8_takes 116 = .ok (.iastore, 1) := dk_79 (dk_at dksX8_takes_4 21 rfl rfl)
theorem dX8_takes_117 : decode cX8_takes 117 = .ok (.aload_n 0, 1) := dk_42 (dk_at dksX8_takes_4 22 rfl rfl)
theorem dX8_takes_118 : decode cX8_takes 118 = .ok (.getfield 29, 3) := dk_180 0 29 (dk_at dksX8_takes_5 0 rfl rfl)
theorem dX8_takes_121 : decode cX8_takes 121 = .ok (.iload_n 1, 1) := dk_27 (dk_at dksX8_takes_5 3 rfl rfl)
theorem dX8_takes_122 : decode cX8_takes 122 = .ok (.aload_n 0, 1) := dk_42 (dk_at dksX8_takes_5 4 rfl rfl)
theorem dX8_takes_123 : decode cX8_takes 123 = .ok (.getfield 66, 3) := dk_180 0 66 (dk_at dksX8_takes_5 5 rfl rfl)
theorem dX8_takes_126 : decode cX8_takes 126 = .ok (.iload_n 1, 1) := dk_27 (dk_at dksX8_takes_5 8 rfl rfl)
theorem dX8_takes_127 : decode cX8_takes 127 = .ok (.iaload, 1) := dk_46 (dk_at dksX8_takes_5 9 rfl rfl)
theorem dX8_takes_128 : decode cX8_takes 128 = .ok (.iastore, 1) := dk_79 (dk_at dksX8_takes_5 10 rfl rfl)
theorem dX8_takes_129 : decode cX8_takes 129 = .ok (.aload_n 0, 1) := dk_42 (dk_at dksX8_takes_5 11 rfl rfl)
theorem dX8_takes_130 : decode cX8_takes 130 = .ok (.getfield 32, 3) := dk_180 0 32 (dk_at dksX8_takes_5 12 rfl rfl)
theorem dX8_takes_133 : decode cX8_takes 133 = .ok (.iload_n 1, 1) := dk_27 (dk_at dksX8_takes_5 15 rfl rfl)
theorem dX8_takes_134 : decode cX8_takes 134 = .ok (.aload_n 0, 1) := dk_42 (dk_at dksX8_takes_5 16 rfl rfl)
theorem dX8_takes_135 : decode cX8_takes 135 = .ok (.getfield 69, 3) := dk_180 0 69 (dk_at dksX8_takes_5 17 rfl rfl)
theorem dX8_takes_138 : decode cX8_takes 138 = .ok (.iload_n 1, 1) := dk_27 (dk_at dksX8_takes_5 20 rfl rfl)
theorem dX8_takes_139 : decode cX8_takes 139 = .ok (.iaload, 1) := dk_46 (dk_at dksX8_takes_5 21 rfl rfl)
theorem dX8_takes_140 : decode cX8_takes 140 = .ok (.iastore, 1) := dk_79 (dk_at dksX8_takes_5 22 rfl rfl)
theorem dX8_takes_141 : decode cX8_takes 141 = .ok (.iinc 1 1, 3) := dk_132 1 1 (dk_at dksX8_takes_6 0 rfl rfl)
theorem dX8_takes_144 : decode cX8_takes 144 = .ok (.goto (-44), 3) := dk_167 255 212 (dk_at dksX8_takes_6 3 rfl rfl)
theorem dX8_takes_147 : decode cX8_takes 147 = .ok (.iconst 0, 1) := dk_3 (dk_at dksX8_takes_6 6 rfl rfl)
theorem dX8_takes_148 : decode cX8_takes 148 = .ok (.istore_n 1, 1) := dk_60 (dk_at dksX8_takes_6 7 rfl rfl)
theorem dX8_takes_149 : decode cX8_takes 149 = .ok (.iload_n 1, 1) := dk_27 (dk_at dksX8_takes_6 8 rfl rfl)
theorem dX8_takes_150 : decode cX8_takes 150 = .ok (.bipush 16, 2) := dk_16 16 (dk_at dksX8_takes_6 9 rfl rfl)
theorem dX8_takes_152 : decode cX8_takes 152 = .ok (.if_icmp .ge 21, 3) := dk_162 0 21 (dk_at dksX8_takes_6 11 rfl rfl)
theorem dX8_takes_155 : decode cX8_takes 155 = .ok (.aload_n 0, 1) := dk_42 (dk_at dksX8_takes_6 14 rfl rfl)
theorem dX8_takes_156 : decode cX8_takes 156 = .ok (.getfield 35, 3) := dk_180 0 35 (dk_at dksX8_takes_6 15 rfl rfl)
theorem dX8_takes_159 : decode cX8_takes 159 = .ok (.iload_n 1, 1) := dk_27 (dk_at dksX8_takes_6 18 rfl rfl)
theorem dX8_takes_160 : decode cX8_takes 160 = .ok (.aload_n 0, 1) := dk_42 (dk_at dksX8_takes_6 19 rfl rfl)
theorem dX8_takes_161 : decode cX8_takes 161 = .ok (.getfield 84, 3) := dk_180 0 84 (dk_at dksX8_takes_6 20 rfl rfl)
theorem dX8_takes_164 : decode cX8_takes 164 = .ok (.iload_n 1, 1) := dk_27 (dk_at dksX8_takes_6 23 rfl rfl)
theorem dX8_takes_165 : decode cX8_takes 165 = .ok (.baload, 1) := dk_51 (dk_at dksX8_takes_7 0 rfl rfl)
theorem dX8_takes_166 : decode cX8_takes 166 = .ok (.bastore, 1) := dk_84 (dk_at dksX8_takes_7 1 rfl rfl)
theorem dX8_takes_167 : decode cX8_takes 167 = .ok (.iinc 1 1, 3) := dk_132 1 1 (dk_at dksX8_takes_7 2 rfl rfl)
theorem dX8_takes_170 : decode cX8_takes 170 = .ok (.goto (-21), 3) := dk_167 255 235 (dk_at dksX8_takes_7 5 rfl rfl)
theorem dX8_takes_173 : decode cX8_takes 173 = .ok (.iconst 0, 1) := dk_3 (dk_at dksX8_takes_7 8 rfl rfl)
theorem dX8_takes_174 : decode cX8_takes 174 = .ok (.istore_n 1, 1) := dk_60 (dk_at dksX8_takes_7 9 rfl rfl)
theorem dX8_takes_175 : decode cX8_takes 175 = .ok (.iload_n 1, 1) := dk_27 (dk_at dksX8_takes_7 10 rfl rfl)
theorem dX8_takes_176 : decode cX8_takes 176 = .ok (.aload_n 0, 1) := dk_42 (dk_at dksX8_takes_7 11 rfl rfl)
theorem dX8_takes_177 : decode cX8_takes 177 = .ok (.getfield 344, 3) := dk_180 1 88 (dk_at dksX8_takes_7 12 rfl rfl)
theorem dX8_takes_180 : decode cX8_takes 180 = .ok (.if_icmp .ge 33, 3) := dk_162 0 33 (dk_at dksX8_takes_7 15 rfl rfl)
theorem dX8_takes_183 : decode cX8_takes 183 = .ok (.aload_n 0, 1) := dk_42 (dk_at dksX8_takes_7 18 rfl rfl)
theorem dX8_takes_184 : decode cX8_takes 184 = .ok (.getfield 39, 3) := dk_180 0 39 (dk_at dksX8_takes_7 19 rfl rfl)
theorem dX8_takes_187 : decode cX8_takes 187 = .ok (.iload_n 1, 1) := dk_27 (dk_at dksX8_takes_7 22 rfl rfl)
theorem dX8_takes_188 : decode cX8_takes 188 = .ok (.aload_n 0, 1) := dk_42 (dk_at dksX8_takes_7 23 rfl rfl)
theorem dX8_takes_189 : decode cX8_takes 189 = .ok (.getfield 72, 3) := dk_180 0 72 (dk_at dksX8_takes_8 0 rfl rfl)
theorem dX8_takes_192 : decode cX8_takes 192 = .ok (.iload_n 1, 1) := dk_27 (dk_at dksX8_takes_8 3 rfl rfl)
theorem dX8_takes_193 : decode cX8_takes 193 = .ok (.iaload, 1) := dk_46 (dk_at dksX8_takes_8 4 rfl rfl)
theorem dX8_takes_194 : decode cX8_takes 194 = .ok (.iastore, 1) := dk_79 (dk_at dksX8_takes_8 5 rfl rfl)
theorem dX8_takes_195 : decode cX8_takes 195 = .ok (.aload_n 0, 1) := dk_42 (dk_at dksX8_takes_8 6 rfl rfl)
theorem dX8_takes_196 : decode cX8_takes 196 = .ok (.getfield 42, 3) := dk_180 0 42 (dk_at dksX8_takes_8 7 rfl rfl)
theorem dX8_takes_199 : decode cX8_takes 199 = .ok (.iload_n 1, 1) := dk_27 (dk_at dksX8_takes_8 10 rfl rfl)
theorem dX8_takes_200 : decode cX8_takes 200 = .ok (.aload_n 0, 1) := dk_42 (dk_at dksX8_takes_8 11 rfl rfl)
theorem dX8_takes_201 : decode cX8_takes 201 = .ok (.getfield 75, 3) := dk_180 0 75 (dk_at dksX8_takes_8 12 rfl rfl)
theorem dX8_takes_204 : decode cX8_takes 204 = .ok (.iload_n 1, 1) := dk_27 (dk_at dksX8_takes_8 15 rfl rfl)
theorem dX8_takes_205 : decode cX8_takes 205 = .ok (.iaload, 1) := dk_46 (dk_at dksX8_takes_8 16 rfl rfl)
theorem dX8_takes_206 : decode cX8_takes 206 = .ok (.iastore, 1) := dk_79 (dk_at dksX8_takes_8 17 rfl rfl)
theorem dX8_takes_207 : decode cX8_takes 207 = .ok (.iinc 1 1, 3) := dk_132 1 1 (dk_at dksX8_takes_8 18 rfl rfl)
theorem dX8_takes_210 : decode cX8_takes 210 = .ok (.goto (-35), 3) := dk_167 255 221 (dk_at dksX8_takes_8 21 rfl rfl)
theorem dX8_takes_213 : decode cX8_takes 213 = .ok (.iconst 0, 1) := dk_3 (dk_at dksX8_takes_9 0 rfl rfl)
theorem dX8_takes_214 : decode cX8_takes 214 = .ok (.istore_n 1, 1) := dk_60 (dk_at dksX8_takes_9 1 rfl rfl)
theorem dX8_takes_215 : decode cX8_takes 215 = .ok (.iload_n 1, 1) := dk_27 (dk_at dksX8_takes_9 2 rfl rfl)
theorem dX8_takes_216 : decode cX8_takes 216 = .ok (.sipush 1200, 3) := dk_17 4 176 (dk_at dksX8_takes_9 3 rfl rfl)
theorem dX8_takes_219 : decode cX8_takes 219 = .ok (.if_icmp .ge 21, 3) := dk_162 0 21 (dk_at dksX8_takes_9 6 rfl rfl)
theorem dX8_takes_222 : decode cX8_takes 222 = .ok (.aload_n 0, 1) := dk_42 (dk_at dksX8_takes_9 9 rfl rfl)
theorem dX8_takes_223 : decode cX8_takes 223 = .ok (.getfield 45, 3) := dk_180 0 45 (dk_at dksX8_takes_9 10 rfl rfl)
theorem dX8_takes_226 : decode cX8_takes 226 = .ok (.iload_n 1, 1) := dk_27 (dk_at dksX8_takes_9 13 rfl rfl)
theorem dX8_takes_227 : decode cX8_takes 227 = .ok (.aload_n 0, 1) := dk_42 (dk_at dksX8_takes_9 14 rfl rfl)
theorem dX8_takes_228 : decode cX8_takes 228 = .ok (.getfield 78, 3) := dk_180 0 78 (dk_at dksX8_takes_9 15 rfl rfl)
theorem dX8_takes_231 : decode cX8_takes 231 = .ok (.iload_n 1, 1) := dk_27 (dk_at dksX8_takes_9 18 rfl rfl)
theorem dX8_takes_232 : decode cX8_takes 232 = .ok (.iaload, 1) := dk_46 (dk_at dksX8_takes_9 19 rfl rfl)
theorem dX8_takes_233 : decode cX8_takes 233 = .ok (.iastore, 1) := dk_79 (dk_at dksX8_takes_9 20 rfl rfl)
theorem dX8_takes_234 : decode cX8_takes 234 = .ok (.iinc 1 1, 3) := dk_132 1 1 (dk_at dksX8_takes_9 21 rfl rfl)
theorem dX8_takes_237 : decode cX8_takes 237 = .ok (.goto (-22), 3) := dk_167 255 234 (dk_at dksX8_takes_10 0 rfl rfl)
theorem dX8_takes_240 : decode cX8_takes 240 = .ok (.return_, 1) := dk_177 (dk_at dksX8_takes_10 3 rfl rfl)
abbrev cX8_fault : ByteArray := prog_19_method_38_code
def yX8_fault : MethodName := ⟨RX8, "fault", "()I"⟩
def dkwX8_fault_0 : List UInt8 := [42, 3, 181, 0, 173, 42, 180, 0, 51, 172]
abbrev dktX8_fault_0 : List UInt8 := dkwX8_fault_0 ++ []
theorem dksX8_fault_0 : cX8_fault.data.toList.drop 0 = dktX8_fault_0 := by decide +kernel
theorem dX8_fault_0 : decode cX8_fault 0 = .ok (.aload_n 0, 1) := dk_42 (dk_at dksX8_fault_0 0 rfl rfl)
theorem dX8_fault_1 : decode cX8_fault 1 = .ok (.iconst 0, 1) := dk_3 (dk_at dksX8_fault_0 1 rfl rfl)
theorem dX8_fault_2 : decode cX8_fault 2 = .ok (.putfield 173, 3) := dk_181 0 173 (dk_at dksX8_fault_0 2 rfl rfl)
theorem dX8_fault_5 : decode cX8_fault 5 = .ok (.aload_n 0, 1) := dk_42 (dk_at dksX8_fault_0 5 rfl rfl)
theorem dX8_fault_6 : decode cX8_fault 6 = .ok (.getfield 51, 3) := dk_180 0 51 (dk_at dksX8_fault_0 6 rfl rfl)
theorem dX8_fault_9 : decode cX8_fault 9 = .ok (.ireturn, 1) := dk_172 (dk_at dksX8_fault_0 9 rfl rfl)
abbrev cX8_bars : ByteArray := prog_19_method_47_code
def yX8_bars : MethodName := ⟨RX8, "bars", "(IIIZ)I"⟩
def dkwX8_bars_2 : List UInt8 := [182, 1, 122, 172]
abbrev dktX8_bars_2 : List UInt8 := dkwX8_bars_2 ++ []
def dkwX8_bars_1 : List UInt8 := [28, 42, 180, 0, 7, 160, 0, 7, 4, 167, 0, 4, 29, 21, 4, 153, 0, 7, 4, 167, 0, 4, 3]
abbrev dktX8_bars_1 : List UInt8 := dkwX8_bars_1 ++ dktX8_bars_2
def dkwX8_bars_0 : List UInt8 := [42, 3, 181, 0, 173, 42, 28, 29, 182, 1, 115, 154, 0, 5, 3, 172, 42, 27, 42, 182, 1, 119, 126, 28]
abbrev dktX8_bars_0 : List UInt8 := dkwX8_bars_0 ++ dktX8_bars_1
theorem dksX8_bars_0 : cX8_bars.data.toList.drop 0 = dktX8_bars_0 := by decide +kernel
theorem dksX8_bars_1 : cX8_bars.data.toList.drop 24 = dktX8_bars_1 := dk_seg dksX8_bars_0 24 rfl rfl
theorem dksX8_bars_2 : cX8_bars.data.toList.drop 47 = dktX8_bars_2 := dk_seg dksX8_bars_1 23 rfl rfl
theorem dX8_bars_0 : decode cX8_bars 0 = .ok (.aload_n 0, 1) := dk_42 (dk_at dksX8_bars_0 0 rfl rfl)
theorem dX8_bars_1 : decode cX8_bars 1 = .ok (.iconst 0, 1) := dk_3 (dk_at dksX8_bars_0 1 rfl rfl)
theorem dX8_bars_2 : decode cX8_bars 2 = .ok (.putfield 173, 3) := dk_181 0 173 (dk_at dksX8_bars_0 2 rfl rfl)
theorem dX8_bars_5 : decode cX8_bars 5 = .ok (.aload_n 0, 1) := dk_42 (dk_at dksX8_bars_0 5 rfl rfl)
theorem dX8_bars_6 : decode cX8_bars 6 = .ok (.iload_n 2, 1) := dk_28 (dk_at dksX8_bars_0 6 rfl rfl)
theorem dX8_bars_7 : decode cX8_bars 7 = .ok (.iload_n 3, 1) := dk_29 (dk_at dksX8_bars_0 7 rfl rfl)
theorem dX8_bars_8 : decode cX8_bars 8 = .ok (.invokevirtual 371, 3) := dk_182 1 115 (dk_at dksX8_bars_0 8 rfl rfl)
theorem dX8_bars_11 : decode cX8_bars 11 = .ok (.ifCond .ne 5, 3) := dk_154 0 5 (dk_at dksX8_bars_0 11 rfl rfl)
theorem dX8_bars_14 : decode cX8_bars 14 = .ok (.iconst 0, 1) := dk_3 (dk_at dksX8_bars_0 14 rfl rfl)
theorem dX8_bars_15 : decode cX8_bars 15 = .ok (.ireturn, 1) := dk_172 (dk_at dksX8_bars_0 15 rfl rfl)
theorem dX8_bars_16 : decode cX8_bars 16 = .ok (.aload_n 0, 1) := dk_42 (dk_at dksX8_bars_0 16 rfl rfl)
theorem dX8_bars_17 : decode cX8_bars 17 = .ok (.iload_n 1, 1) := dk_27 (dk_at dksX8_bars_0 17 rfl rfl)
theorem dX8_bars_18 : decode cX8_bars 18 = .ok (.aload_n 0, 1) := dk_42 (dk_at dksX8_bars_0 18 rfl rfl)
theorem dX8_bars_19 : decode cX8_bars 19 = .ok (.invokevirtual 375, 3) := dk_182 1 119 (dk_at dksX8_bars_0 19 rfl rfl)
theorem dX8_bars_22 : decode cX8_bars 22 = .ok (.iand, 1) := dk_126 (dk_at dksX8_bars_0 22 rfl rfl)
theorem dX8_bars_23 : decode cX8_bars 23 = .ok (.iload_n 2, 1) := dk_28 (dk_at dksX8_bars_0 23 rfl rfl)
theorem dX8_bars_24 : decode cX8_bars 24 = .ok (.iload_n 2, 1) := dk_28 (dk_at dksX8_bars_1 0 rfl rfl)
theorem dX8_bars_25 : decode cX8_bars 25 = .ok (.aload_n 0, 1) := dk_42 (dk_at dksX8_bars_1 1 rfl rfl)
theorem dX8_bars_26 : decode cX8_bars 26 = .ok (.getfield 7, 3) := dk_180 0 7 (dk_at dksX8_bars_1 2 rfl rfl)
theorem dX8_bars_29 : decode cX8_bars 29 = .ok (.if_icmp .ne 7, 3) := dk_160 0 7 (dk_at dksX8_bars_1 5 rfl rfl)
theorem dX8_bars_32 : decode cX8_bars 32 = .ok (.iconst 1, 1) := dk_4 (dk_at dksX8_bars_1 8 rfl rfl)
theorem dX8_bars_33 : decode cX8_bars 33 = .ok (.goto 4, 3) := dk_167 0 4 (dk_at dksX8_bars_1 9 rfl rfl)
theorem dX8_bars_36 : decode cX8_bars 36 = .ok (.iload_n 3, 1) := dk_29 (dk_at dksX8_bars_1 12 rfl rfl)
theorem dX8_bars_37 : decode cX8_bars 37 = .ok (.iload 4, 2) := dk_21 4 (dk_at dksX8_bars_1 13 rfl rfl)
theorem dX8_bars_39 : decode cX8_bars 39 = .ok (.ifCond .eq 7, 3) := dk_153 0 7 (dk_at dksX8_bars_1 15 rfl rfl)
theorem dX8_bars_42 : decode cX8_bars 42 = .ok (.iconst 1, 1) := dk_4 (dk_at dksX8_bars_1 18 rfl rfl)
theorem dX8_bars_43 : decode cX8_bars 43 = .ok (.goto 4, 3) := dk_167 0 4 (dk_at dksX8_bars_1 19 rfl rfl)
theorem dX8_bars_46 : decode cX8_bars 46 = .ok (.iconst 0, 1) := dk_3 (dk_at dksX8_bars_1 22 rfl rfl)
theorem dX8_bars_47 : decode cX8_bars 47 = .ok (.invokevirtual 378, 3) := dk_182 1 122 (dk_at dksX8_bars_2 0 rfl rfl)
theorem dX8_bars_50 : decode cX8_bars 50 = .ok (.ireturn, 1) := dk_172 (dk_at dksX8_bars_2 3 rfl rfl)
abbrev cX8_isGroup : ByteArray := prog_19_method_46_code
def yX8_isGroup : MethodName := ⟨RX8, "isGroup", "(II)Z"⟩
def dkwX8_isGroup_1 : List UInt8 := [167, 0, 4, 3, 4, 182, 1, 72, 172]
abbrev dktX8_isGroup_1 : List UInt8 := dkwX8_isGroup_1 ++ []
def dkwX8_isGroup_0 : List UInt8 := [42, 27, 155, 0, 24, 27, 42, 180, 0, 7, 163, 0, 16, 28, 155, 0, 12, 28, 5, 163, 0, 7, 4]
abbrev dktX8_isGroup_0 : List UInt8 := dkwX8_isGroup_0 ++ dktX8_isGroup_1
theorem dksX8_isGroup_0 : cX8_isGroup.data.toList.drop 0 = dktX8_isGroup_0 := by decide +kernel
theorem dksX8_isGroup_1 : cX8_isGroup.data.toList.drop 23 = dktX8_isGroup_1 := dk_seg dksX8_isGroup_0 23 rfl rfl
theorem dX8_isGroup_0 : decode cX8_isGroup 0 = .ok (.aload_n 0, 1) := dk_42 (dk_at dksX8_isGroup_0 0 rfl rfl)
theorem dX8_isGroup_1 : decode cX8_isGroup 1 = .ok (.iload_n 1, 1) := dk_27 (dk_at dksX8_isGroup_0 1 rfl rfl)
theorem dX8_isGroup_2 : decode cX8_isGroup 2 = .ok (.ifCond .lt 24, 3) := dk_155 0 24 (dk_at dksX8_isGroup_0 2 rfl rfl)
theorem dX8_isGroup_5 : decode cX8_isGroup 5 = .ok (.iload_n 1, 1) := dk_27 (dk_at dksX8_isGroup_0 5 rfl rfl)
theorem dX8_isGroup_6 : decode cX8_isGroup 6 = .ok (.aload_n 0, 1) := dk_42 (dk_at dksX8_isGroup_0 6 rfl rfl)
theorem dX8_isGroup_7 : decode cX8_isGroup 7 = .ok (.getfield 7, 3) := dk_180 0 7 (dk_at dksX8_isGroup_0 7 rfl rfl)
theorem dX8_isGroup_10 : decode cX8_isGroup 10 = .ok (.if_icmp .gt 16, 3) := dk_163 0 16 (dk_at dksX8_isGroup_0 10 rfl rfl)
theorem dX8_isGroup_13 : decode cX8_isGroup 13 = .ok (.iload_n 2, 1) := dk_28 (dk_at dksX8_isGroup_0 13 rfl rfl)
theorem dX8_isGroup_14 : decode cX8_isGroup 14 = .ok (.ifCond .lt 12, 3) := dk_155 0 12 (dk_at dksX8_isGroup_0 14 rfl rfl)
theorem dX8_isGroup_17 : decode cX8_isGroup 17 = .ok (.iload_n 2, 1) := dk_28 (dk_at dksX8_isGroup_0 17 rfl rfl)
theorem dX8_isGroup_18 : decode cX8_isGroup 18 = .ok (.iconst 2, 1) := dk_5 (dk_at dksX8_isGroup_0 18 rfl rfl)
theorem dX8_isGroup_19 : decode cX8_isGroup 19 = .ok (.if_icmp .gt 7, 3) := dk_163 0 7 (dk_at dksX8_isGroup_0 19 rfl rfl)
theorem dX8_isGroup_22 : decode cX8_isGroup 22 = .ok (.iconst 1, 1) := dk_4 (dk_at dksX8_isGroup_0 22 rfl rfl)
theorem dX8_isGroup_23 : decode cX8_isGroup 23 = .ok (.goto 4, 3) := dk_167 0 4 (dk_at dksX8_isGroup_1 0 rfl rfl)
theorem dX8_isGroup_26 : decode cX8_isGroup 26 = .ok (.iconst 0, 1) := dk_3 (dk_at dksX8_isGroup_1 3 rfl rfl)
theorem dX8_isGroup_27 : decode cX8_isGroup 27 = .ok (.iconst 1, 1) := dk_4 (dk_at dksX8_isGroup_1 4 rfl rfl)
theorem dX8_isGroup_28 : decode cX8_isGroup 28 = .ok (.invokevirtual 328, 3) := dk_182 1 72 (dk_at dksX8_isGroup_1 5 rfl rfl)
theorem dX8_isGroup_31 : decode cX8_isGroup 31 = .ok (.ireturn, 1) := dk_172 (dk_at dksX8_isGroup_1 8 rfl rfl)
abbrev cX8_all : ByteArray := prog_19_method_45_code
def yX8_all : MethodName := ⟨RX8, "all", "()I"⟩
def dkwX8_all_0 : List UInt8 := [4, 42, 180, 1, 82, 120, 4, 100, 172]
abbrev dktX8_all_0 : List UInt8 := dkwX8_all_0 ++ []
theorem dksX8_all_0 : cX8_all.data.toList.drop 0 = dktX8_all_0 := by decide +kernel
theorem dX8_all_0 : decode cX8_all 0 = .ok (.iconst 1, 1) := dk_4 (dk_at dksX8_all_0 0 rfl rfl)
theorem dX8_all_1 : decode cX8_all 1 = .ok (.aload_n 0, 1) := dk_42 (dk_at dksX8_all_0 1 rfl rfl)
theorem dX8_all_2 : decode cX8_all 2 = .ok (.getfield 338, 3) := dk_180 1 82 (dk_at dksX8_all_0 2 rfl rfl)
theorem dX8_all_5 : decode cX8_all 5 = .ok (.ishl, 1) := dk_120 (dk_at dksX8_all_0 5 rfl rfl)
theorem dX8_all_6 : decode cX8_all 6 = .ok (.iconst 1, 1) := dk_4 (dk_at dksX8_all_0 6 rfl rfl)
theorem dX8_all_7 : decode cX8_all 7 = .ok (.isub, 1) := dk_100 (dk_at dksX8_all_0 7 rfl rfl)
theorem dX8_all_8 : decode cX8_all 8 = .ok (.ireturn, 1) := dk_172 (dk_at dksX8_all_0 8 rfl rfl)
abbrev cX8_barsOf : ByteArray := prog_19_method_44_code
def yX8_barsOf : MethodName := ⟨RX8, "barsOf", "(IIII)I"⟩
def dkwX8_barsOf_7 : List UInt8 := [167, 255, 145, 42, 180, 0, 90, 21, 5, 21, 6, 4, 96, 79, 21, 6, 172]
abbrev dktX8_barsOf_7 : List UInt8 := dkwX8_barsOf_7 ++ []
def dkwX8_barsOf_6 : List UInt8 := [28, 29, 21, 4, 182, 1, 112, 153, 0, 12, 21, 6, 4, 21, 7, 120, 128, 54, 6, 132, 7, 1]
abbrev dktX8_barsOf_6 : List UInt8 := dkwX8_barsOf_6 ++ dktX8_barsOf_7
def dkwX8_barsOf_5 : List UInt8 := [162, 0, 7, 4, 167, 0, 4, 3, 54, 9, 21, 9, 153, 0, 31, 42, 42, 180, 0, 42, 21, 7, 46, 27]
abbrev dktX8_barsOf_5 : List UInt8 := dkwX8_barsOf_5 ++ dktX8_barsOf_6
def dkwX8_barsOf_4 : List UInt8 := [160, 0, 11, 28, 42, 180, 0, 7, 159, 0, 17, 21, 8, 28, 160, 0, 15, 28, 42, 180, 0, 7]
abbrev dktX8_barsOf_4 : List UInt8 := dkwX8_barsOf_4 ++ dktX8_barsOf_5
def dkwX8_barsOf_3 : List UInt8 := [159, 0, 47, 21, 8, 16, 254, 160, 0, 11, 28, 42, 180, 0, 7, 161, 0, 32, 21, 8, 16, 253]
abbrev dktX8_barsOf_3 : List UInt8 := dkwX8_barsOf_3 ++ dktX8_barsOf_4
def dkwX8_barsOf_2 : List UInt8 := [54, 7, 21, 7, 42, 180, 1, 88, 162, 0, 108, 42, 180, 0, 39, 21, 7, 46, 54, 8, 21, 8, 2]
abbrev dktX8_barsOf_2 : List UInt8 := dkwX8_barsOf_2 ++ dktX8_barsOf_3
def dkwX8_barsOf_1 : List UInt8 := [180, 0, 90, 21, 5, 46, 158, 0, 13, 42, 180, 0, 90, 21, 5, 46, 4, 100, 172, 3, 54, 6, 3]
abbrev dktX8_barsOf_1 : List UInt8 := dkwX8_barsOf_1 ++ dktX8_barsOf_2
def dkwX8_barsOf_0 : List UInt8 := [27, 154, 0, 5, 3, 172, 27, 8, 104, 28, 96, 6, 104, 29, 96, 5, 104, 21, 4, 96, 54, 5, 42]
abbrev dktX8_barsOf_0 : List UInt8 := dkwX8_barsOf_0 ++ dktX8_barsOf_1
theorem dksX8_barsOf_0 : cX8_barsOf.data.toList.drop 0 = dktX8_barsOf_0 := by decide +kernel
theorem dksX8_barsOf_1 : cX8_barsOf.data.toList.drop 23 = dktX8_barsOf_1 := dk_seg dksX8_barsOf_0 23 rfl rfl
theorem dksX8_barsOf_2 : cX8_barsOf.data.toList.drop 46 = dktX8_barsOf_2 := dk_seg dksX8_barsOf_1 23 rfl rfl
theorem dksX8_barsOf_3 : cX8_barsOf.data.toList.drop 69 = dktX8_barsOf_3 := dk_seg dksX8_barsOf_2 23 rfl rfl
theorem dksX8_barsOf_4 : cX8_barsOf.data.toList.drop 91 = dktX8_barsOf_4 := dk_seg dksX8_barsOf_3 22 rfl rfl
theorem dksX8_barsOf_5 : cX8_barsOf.data.toList.drop 113 = dktX8_barsOf_5 := dk_seg dksX8_barsOf_4 22 rfl rfl
theorem dksX8_barsOf_6 : cX8_barsOf.data.toList.drop 137 = dktX8_barsOf_6 := dk_seg dksX8_barsOf_5 24 rfl rfl
theorem dksX8_barsOf_7 : cX8_barsOf.data.toList.drop 159 = dktX8_barsOf_7 := dk_seg dksX8_barsOf_6 22 rfl rfl
theorem dX8_barsOf_0 : decode cX8_barsOf 0 = .ok (.iload_n 1, 1) := dk_27 (dk_at dksX8_barsOf_0 0 rfl rfl)
theorem dX8_barsOf_1 : decode cX8_barsOf 1 = .ok (.ifCond .ne 5, 3) := dk_154 0 5 (dk_at dksX8_barsOf_0 1 rfl rfl)
theorem dX8_barsOf_4 : decode cX8_barsOf 4 = .ok (.iconst 0, 1) := dk_3 (dk_at dksX8_barsOf_0 4 rfl rfl)
theorem dX8_barsOf_5 : decode cX8_barsOf 5 = .ok (.ireturn, 1) := dk_172 (dk_at dksX8_barsOf_0 5 rfl rfl)
theorem dX8_barsOf_6 : decode cX8_barsOf 6 = .ok (.iload_n 1, 1) := dk_27 (dk_at dksX8_barsOf_0 6 rfl rfl)
theorem dX8_barsOf_7 : decode cX8_barsOf 7 = .ok (.iconst 5, 1) := dk_8 (dk_at dksX8_barsOf_0 7 rfl rfl)
theorem dX8_barsOf_8 : decode cX8_barsOf 8 = .ok (.imul, 1) := dk_104 (dk_at dksX8_barsOf_0 8 rfl rfl)
theorem dX8_barsOf_9 : decode cX8_barsOf 9 = .ok (.iload_n 2, 1) := dk_28 (dk_at dksX8_barsOf_0 9 rfl rfl)
theorem dX8_barsOf_10 : decode cX8_barsOf 10 = .ok (.iadd, 1) := dk_96 (dk_at dksX8_barsOf_0 10 rfl rfl)
theorem dX8_barsOf_11 : decode cX8_barsOf 11 = .ok (.iconst 3, 1) := dk_6 (dk_at dksX8_barsOf_0 11 rfl rfl)
theorem dX8_barsOf_12 : decode cX8_barsOf 12 = .ok (.imul, 1) := dk_104 (dk_at dksX8_barsOf_0 12 rfl rfl)
theorem dX8_barsOf_13 : decode cX8_barsOf 13 = .ok (.iload_n 3, 1) := dk_29 (dk_at dksX8_barsOf_0 13 rfl rfl)
theorem dX8_barsOf_14 : decode cX8_barsOf 14 = .ok (.iadd, 1) := dk_96 (dk_at dksX8_barsOf_0 14 rfl rfl)
theorem dX8_barsOf_15 : decode cX8_barsOf 15 = .ok (.iconst 2, 1) := dk_5 (dk_at dksX8_barsOf_0 15 rfl rfl)
theorem dX8_barsOf_16 : decode cX8_barsOf 16 = .ok (.imul, 1) := dk_104 (dk_at dksX8_barsOf_0 16 rfl rfl)
theorem dX8_barsOf_17 : decode cX8_barsOf 17 = .ok (.iload 4, 2) := dk_21 4 (dk_at dksX8_barsOf_0 17 rfl rfl)
theorem dX8_barsOf_19 : decode cX8_barsOf 19 = .ok (.iadd, 1) := dk_96 (dk_at dksX8_barsOf_0 19 rfl rfl)
theorem dX8_barsOf_20 : decode cX8_barsOf 20 = .ok (.istore 5, 2) := dk_54 5 (dk_at dksX8_barsOf_0 20 rfl rfl)
theorem dX8_barsOf_22 : decode cX8_barsOf 22 = .ok (.aload_n 0, 1) := dk_42 (dk_at dksX8_barsOf_0 22 rfl rfl)
theorem dX8_barsOf_23 : decode cX8_barsOf 23 = .ok (.getfield 90, 3) := dk_180 0 90 (dk_at dksX8_barsOf_1 0 rfl rfl)
theorem dX8_barsOf_26 : decode cX8_barsOf 26 = .ok (.iload 5, 2) := dk_21 5 (dk_at dksX8_barsOf_1 3 rfl rfl)
theorem dX8_barsOf_28 : decode cX8_barsOf 28 = .ok (.iaload, 1) := dk_46 (dk_at dksX8_barsOf_1 5 rfl rfl)
theorem dX8_barsOf_29 : decode cX8_barsOf 29 = .ok (.ifCond .le 13, 3) := dk_158 0 13 (dk_at dksX8_barsOf_1 6 rfl rfl)
theorem dX8_barsOf_32 : decode cX8_barsOf 32 = .ok (.aload_n 0, 1) := dk_42 (dk_at dksX8_barsOf_1 9 rfl rfl)
theorem dX8_barsOf_33 : decode cX8_barsOf 33 = .ok (.getfield 90, 3) := dk_180 0 90 (dk_at dksX8_barsOf_1 10 rfl rfl)
theorem dX8_barsOf_36 : decode cX8_barsOf 36 = .ok (.iload 5, 2) := dk_21 5 (dk_at dksX8_barsOf_1 13 rfl rfl)
theorem dX8_barsOf_38 : decode cX8_barsOf 38 = .ok (.iaload, 1) := dk_46 (dk_at dksX8_barsOf_1 15 rfl rfl)
theorem dX8_barsOf_39 : decode cX8_barsOf 39 = .ok (.iconst 1, 1) := dk_4 (dk_at dksX8_barsOf_1 16 rfl rfl)
theorem dX8_barsOf_40 : decode cX8_barsOf 40 = .ok (.isub, 1) := dk_100 (dk_at dksX8_barsOf_1 17 rfl rfl)
theorem dX8_barsOf_41 : decode cX8_barsOf 41 = .ok (.ireturn, 1) := dk_172 (dk_at dksX8_barsOf_1 18 rfl rfl)
theorem dX8_barsOf_42 : decode cX8_barsOf 42 = .ok (.iconst 0, 1) := dk_3 (dk_at dksX8_barsOf_1 19 rfl rfl)
theorem dX8_barsOf_43 : decode cX8_barsOf 43 = .ok (.istore 6, 2) := dk_54 6 (dk_at dksX8_barsOf_1 20 rfl rfl)
theorem dX8_barsOf_45 : decode cX8_barsOf 45 = .ok (.iconst 0, 1) := dk_3 (dk_at dksX8_barsOf_1 22 rfl rfl)
theorem dX8_barsOf_46 : decode cX8_barsOf 46 = .ok (.istore 7, 2) := dk_54 7 (dk_at dksX8_barsOf_2 0 rfl rfl)
theorem dX8_barsOf_48 : decode cX8_barsOf 48 = .ok (.iload 7, 2) := dk_21 7 (dk_at dksX8_barsOf_2 2 rfl rfl)
theorem dX8_barsOf_50 : decode cX8_barsOf 50 = .ok (.aload_n 0, 1) := dk_42 (dk_at dksX8_barsOf_2 4 rfl rfl)
theorem dX8_barsOf_51 : decode cX8_barsOf 51 = .ok (.getfield 344, 3) := dk_180 1 88 (dk_at dksX8_barsOf_2 5 rfl rfl)
theorem dX8_barsOf_54 : decode cX8_barsOf 54 = .ok (.if_icmp .ge 108, 3) := dk_162 0 108 (dk_at dksX8_barsOf_2 8 rfl rfl)
theorem dX8_barsOf_57 : decode cX8_barsOf 57 = .ok (.aload_n 0, 1) := dk_42 (dk_at dksX8_barsOf_2 11 rfl rfl)
theorem dX8_barsOf_58 : decode cX8_barsOf 58 = .ok (.getfield 39, 3) := dk_180 0 39 (dk_at dksX8_barsOf_2 12 rfl rfl)
theorem dX8_barsOf_61 : decode cX8_barsOf 61 = .ok (.iload 7, 2) := dk_21 7 (dk_at dksX8_barsOf_2 15 rfl rfl)
theorem dX8_barsOf_63 : decode cX8_barsOf 63 = .ok (.iaload, 1) := dk_46 (dk_at dksX8_barsOf_2 17 rfl rfl)
theorem dX8_barsOf_64 : decode cX8_barsOf 64 = .ok (.istore 8, 2) := dk_54 8 (dk_at dksX8_barsOf_2 18 rfl rfl)
theorem dX8_barsOf_66 : decode cX8_barsOf 66 = .ok (.iload 8, 2) := dk_21 8 (dk_at dksX8_barsOf_2 20 rfl rfl)
theorem dX8_barsOf_68 : decode cX8_barsOf 68 = .ok (.iconst (-1), 1) := dk_2 (dk_at dksX8_barsOf_2 22 rfl rfl)
theorem dX8_barsOf_69 : decode cX8_barsOf 69 = .ok (.if_icmp .eq 47, 3) := dk_159 0 47 (dk_at dksX8_barsOf_3 0 rfl rfl)
theorem dX8_barsOf_72 : decode cX8_barsOf 72 = .ok (.iload 8, 2) := dk_21 8 (dk_at dksX8_barsOf_3 3 rfl rfl)
theorem dX8_barsOf_74 : decode cX8_barsOf 74 = .ok (.bipush (-2), 2) := dk_16 254 (dk_at dksX8_barsOf_3 5 rfl rfl)
theorem dX8_barsOf_76 : decode cX8_barsOf 76 = .ok (.if_icmp .ne 11, 3) := dk_160 0 11 (dk_at dksX8_barsOf_3 7 rfl rfl)
theorem dX8_barsOf_79 : decode cX8_barsOf 79 = .ok (.iload_n 2, 1) := dk_28 (dk_at dksX8_barsOf_3 10 rfl rfl)
theorem dX8_barsOf_80 : decode cX8_barsOf 80 = .ok (.aload_n 0, 1) := dk_42 (dk_at dksX8_barsOf_3 11 rfl rfl)
theorem dX8_barsOf_81 : decode cX8_barsOf 81 = .ok (.getfield 7, 3) := dk_180 0 7 (dk_at dksX8_barsOf_3 12 rfl rfl)
theorem dX8_barsOf_84 : decode cX8_barsOf 84 = .ok (.if_icmp .lt 32, 3) := dk_161 0 32 (dk_at dksX8_barsOf_3 15 rfl rfl)
theorem dX8_barsOf_87 : decode cX8_barsOf 87 = .ok (.iload 8, 2) := dk_21 8 (dk_at dksX8_barsOf_3 18 rfl rfl)
theorem dX8_barsOf_89 : decode cX8_barsOf 89 = .ok (.bipush (-3), 2) := dk_16 253 (dk_at dksX8_barsOf_3 20 rfl rfl)
theorem dX8_barsOf_91 : decode cX8_barsOf 91 = .ok (.if_icmp .ne 11, 3) := dk_160 0 11 (dk_at dksX8_barsOf_4 0 rfl rfl)
theorem dX8_barsOf_94 : decode cX8_barsOf 94 = .ok (.iload_n 2, 1) := dk_28 (dk_at dksX8_barsOf_4 3 rfl rfl)
theorem dX8_barsOf_95 : decode cX8_barsOf 95 = .ok (.aload_n 0, 1) := dk_42 (dk_at dksX8_barsOf_4 4 rfl rfl)
theorem dX8_barsOf_96 : decode cX8_barsOf 96 = .ok (.getfield 7, 3) := dk_180 0 7 (dk_at dksX8_barsOf_4 5 rfl rfl)
theorem dX8_barsOf_99 : decode cX8_barsOf 99 = .ok (.if_icmp .eq 17, 3) := dk_159 0 17 (dk_at dksX8_barsOf_4 8 rfl rfl)
theorem dX8_barsOf_102 : decode cX8_barsOf 102 = .ok (.iload 8, 2) := dk_21 8 (dk_at dksX8_barsOf_4 11 rfl rfl)
theorem dX8_barsOf_104 : decode cX8_barsOf 104 = .ok (.iload_n 2, 1) := dk_28 (dk_at dksX8_barsOf_4 13 rfl rfl)
theorem dX8_barsOf_105 : decode cX8_barsOf 105 = .ok (.if_icmp .ne 15, 3) := dk_160 0 15 (dk_at dksX8_barsOf_4 14 rfl rfl)
theorem dX8_barsOf_108 : decode cX8_barsOf 108 = .ok (.iload_n 2, 1) := dk_28 (dk_at dksX8_barsOf_4 17 rfl rfl)
theorem dX8_barsOf_109 : decode cX8_barsOf 109 = .ok (.aload_n 0, 1) := dk_42 (dk_at dksX8_barsOf_4 18 rfl rfl)
theorem dX8_barsOf_110 : decode cX8_barsOf 110 = .ok (.getfield 7, 3) := dk_180 0 7 (dk_at dksX8_barsOf_4 19 rfl rfl)
theorem dX8_barsOf_113 : decode cX8_barsOf 113 = .ok (.if_icmp .ge 7, 3) := dk_162 0 7 (dk_at dksX8_barsOf_5 0 rfl rfl)
theorem dX8_barsOf_116 : decode cX8_barsOf 116 = .ok (.iconst 1, 1) := dk_4 (dk_at dksX8_barsOf_5 3 rfl rfl)
theorem dX8_barsOf_117 : decode cX8_barsOf 117 = .ok (.goto 4, 3) := dk_167 0 4 (dk_at dksX8_barsOf_5 4 rfl rfl)
theorem dX8_barsOf_120 : decode cX8_barsOf 120 = .ok (.iconst 0, 1) := dk_3 (dk_at dksX8_barsOf_5 7 rfl rfl)
theorem dX8_barsOf_121 : decode cX8_barsOf 121 = .ok (.istore 9, 2) := dk_54 9 (dk_at dksX8_barsOf_5 8 rfl rfl)
theorem dX8_barsOf_123 : decode cX8_barsOf 123 = .ok (.iload 9, 2) := dk_21 9 (dk_at dksX8_barsOf_5 10 rfl rfl)
theorem dX8_barsOf_125 : decode cX8_barsOf 125 = .ok (.ifCond .eq 31, 3) := dk_153 0 31 (dk_at dksX8_barsOf_5 12 rfl rfl)
theorem dX8_barsOf_128 : decode cX8_barsOf 128 = .ok (.aload_n 0, 1) := dk_42 (dk_at dksX8_barsOf_5 15 rfl rfl)
theorem dX8_barsOf_129 : decode cX8_barsOf 129 = .ok (.aload_n 0, 1) := dk_42 (dk_at dksX8_barsOf_5 16 rfl rfl)
theorem dX8_barsOf_130 : decode cX8_barsOf 130 = .ok (.getfield 42, 3) := dk_180 0 42 (dk_at dksX8_barsOf_5 17 rfl rfl)
theorem dX8_barsOf_133 : decode cX8_barsOf 133 = .ok (.iload 7, 2) := dk_21 7 (dk_at dksX8_barsOf_5 20 rfl rfl)
theorem dX8_barsOf_135 : decode cX8_barsOf 135 = .ok (.iaload, 1) := dk_46 (dk_at dksX8_barsOf_5 22 rfl rfl)
theorem dX8_barsOf_136 : decode cX8_barsOf 136 = .ok (.iload_n 1, 1) := dk_27 (dk_at dksX8_barsOf_5 23 rfl rfl)
theorem dX8_barsOf_137 : decode cX8_barsOf 137 = .ok (.iload_n 2, 1) := dk_28 (dk_at dksX8_barsOf_6 0 rfl rfl)
theorem dX8_barsOf_138 : decode cX8_barsOf 138 = .ok (.iload_n 3, 1) := dk_29 (dk_at dksX8_barsOf_6 1 rfl rfl)
theorem dX8_barsOf_139 : decode cX8_barsOf 139 = .ok (.iload 4, 2) := dk_21 4 (dk_at dksX8_barsOf_6 2 rfl rfl)
theorem dX8_barsOf_141 : decode cX8_barsOf 141 = .ok (.invokevirtual 368, 3) := dk_182 1 112 (dk_at dksX8_barsOf_6 4 rfl rfl)
theorem dX8_barsOf_144 : decode cX8_barsOf 144 = .ok (.ifCond .eq 12, 3) := dk_153 0 12 (dk_at dksX8_barsOf_6 7 rfl rfl)
theorem dX8_barsOf_147 : decode cX8_barsOf 147 = .ok (.iload 6, 2) := dk_21 6 (dk_at dksX8_barsOf_6 10 rfl rfl)
theorem dX8_barsOf_149 : decode cX8_barsOf 149 = .ok (.iconst 1, 1) := dk_4 (dk_at dksX8_barsOf_6 12 rfl rfl)
theorem dX8_barsOf_150 : decode cX8_barsOf 150 = .ok (.iload 7, 2) := dk_21 7 (dk_at dksX8_barsOf_6 13 rfl rfl)
theorem dX8_barsOf_152 : decode cX8_barsOf 152 = .ok (.ishl, 1) := dk_120 (dk_at dksX8_barsOf_6 15 rfl rfl)
theorem dX8_barsOf_153 : decode cX8_barsOf 153 = .ok (.ior, 1) := dk_128 (dk_at dksX8_barsOf_6 16 rfl rfl)
theorem dX8_barsOf_154 : decode cX8_barsOf 154 = .ok (.istore 6, 2) := dk_54 6 (dk_at dksX8_barsOf_6 17 rfl rfl)
theorem dX8_barsOf_156 : decode cX8_barsOf 156 = .ok (.iinc 7 1, 3) := dk_132 7 1 (dk_at dksX8_barsOf_6 19 rfl rfl)
theorem dX8_barsOf_159 : decode cX8_barsOf 159 = .ok (.goto (-111), 3) := dk_167 255 145 (dk_at dksX8_barsOf_7 0 rfl rfl)
theorem dX8_barsOf_162 : decode cX8_barsOf 162 = .ok (.aload_n 0, 1) := dk_42 (dk_at dksX8_barsOf_7 3 rfl rfl)
theorem dX8_barsOf_163 : decode cX8_barsOf 163 = .ok (.getfield 90, 3) := dk_180 0 90 (dk_at dksX8_barsOf_7 4 rfl rfl)
theorem dX8_barsOf_166 : decode cX8_barsOf 166 = .ok (.iload 5, 2) := dk_21 5 (dk_at dksX8_barsOf_7 7 rfl rfl)
theorem dX8_barsOf_168 : decode cX8_barsOf 168 = .ok (.iload 6, 2) := dk_21 6 (dk_at dksX8_barsOf_7 9 rfl rfl)
theorem dX8_barsOf_170 : decode cX8_barsOf 170 = .ok (.iconst 1, 1) := dk_4 (dk_at dksX8_barsOf_7 11 rfl rfl)
theorem dX8_barsOf_171 : decode cX8_barsOf 171 = .ok (.iadd, 1) := dk_96 (dk_at dksX8_barsOf_7 12 rfl rfl)
theorem dX8_barsOf_172 : decode cX8_barsOf 172 = .ok (.iastore, 1) := dk_79 (dk_at dksX8_barsOf_7 13 rfl rfl)
theorem dX8_barsOf_173 : decode cX8_barsOf 173 = .ok (.iload 6, 2) := dk_21 6 (dk_at dksX8_barsOf_7 14 rfl rfl)
theorem dX8_barsOf_175 : decode cX8_barsOf 175 = .ok (.ireturn, 1) := dk_172 (dk_at dksX8_barsOf_7 16 rfl rfl)
abbrev cX8_worth : ByteArray := prog_19_method_43_code
def yX8_worth : MethodName := ⟨RX8, "worth", "(IIIII)I"⟩
def dkwX8_worth_7 : List UInt8 := [180, 0, 93, 3, 46, 172]
abbrev dktX8_worth_7 : List UInt8 := dkwX8_worth_7 ++ []
def dkwX8_worth_6 : List UInt8 := [180, 0, 93, 21, 6, 4, 100, 46, 42, 180, 0, 93, 21, 6, 46, 184, 1, 108, 79, 167, 255, 105, 42]
abbrev dktX8_worth_6 : List UInt8 := dkwX8_worth_6 ++ dktX8_worth_7
def dkwX8_worth_5 : List UInt8 := [167, 0, 4, 3, 79, 167, 0, 36, 132, 6, 255, 42, 180, 0, 93, 21, 6, 4, 100, 21, 8, 42]
abbrev dktX8_worth_5 : List UInt8 := dkwX8_worth_5 ++ dktX8_worth_6
def dkwX8_worth_4 : List UInt8 := [160, 0, 32, 42, 180, 0, 93, 21, 6, 4, 100, 42, 180, 0, 93, 21, 6, 4, 100, 46, 154, 0, 7, 4]
abbrev dktX8_worth_4 : List UInt8 := dkwX8_worth_4 ++ dktX8_worth_5
def dkwX8_worth_3 : List UInt8 := [28, 29, 21, 4, 21, 5, 182, 1, 104, 79, 132, 7, 1, 132, 6, 1, 167, 0, 71, 21, 8, 6]
abbrev dktX8_worth_3 : List UInt8 := dkwX8_worth_3 ++ dktX8_worth_4
def dkwX8_worth_2 : List UInt8 := [21, 8, 4, 160, 0, 13, 42, 180, 0, 45, 21, 7, 46, 167, 0, 20, 42, 42, 180, 0, 45, 21, 7, 46]
abbrev dktX8_worth_2 : List UInt8 := dkwX8_worth_2 ++ dktX8_worth_3
def dkwX8_worth_1 : List UInt8 := [54, 8, 132, 7, 1, 21, 8, 4, 159, 0, 9, 21, 8, 5, 160, 0, 52, 42, 180, 0, 93, 21, 6]
abbrev dktX8_worth_1 : List UInt8 := dkwX8_worth_1 ++ dktX8_worth_2
def dkwX8_worth_0 : List UInt8 := [3, 54, 6, 27, 54, 7, 42, 180, 0, 45, 21, 7, 46, 153, 0, 147, 42, 180, 0, 45, 21, 7, 46]
abbrev dktX8_worth_0 : List UInt8 := dkwX8_worth_0 ++ dktX8_worth_1
theorem dksX8_worth_0 : cX8_worth.data.toList.drop 0 = dktX8_worth_0 := by decide +kernel
theorem dksX8_worth_1 : cX8_worth.data.toList.drop 23 = dktX8_worth_1 := dk_seg dksX8_worth_0 23 rfl rfl
theorem dksX8_worth_2 : cX8_worth.data.toList.drop 46 = dktX8_worth_2 := dk_seg dksX8_worth_1 23 rfl rfl
theorem dksX8_worth_3 : cX8_worth.data.toList.drop 70 = dktX8_worth_3 := dk_seg dksX8_worth_2 24 rfl rfl
theorem dksX8_worth_4 : cX8_worth.data.toList.drop 92 = dktX8_worth_4 := dk_seg dksX8_worth_3 22 rfl rfl
theorem dksX8_worth_5 : cX8_worth.data.toList.drop 116 = dktX8_worth_5 := dk_seg dksX8_worth_4 24 rfl rfl
theorem dksX8_worth_6 : cX8_worth.data.toList.drop 138 = dktX8_worth_6 := dk_seg dksX8_worth_5 22 rfl rfl
theorem dksX8_worth_7 : cX8_worth.data.toList.drop 161 = dktX8_worth_7 := dk_seg dksX8_worth_6 23 rfl rfl
theorem dX8_worth_0 : decode cX8_worth 0 = .ok (.iconst 0, 1) := dk_3 (dk_at dksX8_worth_0 0 rfl rfl)
theorem dX8_worth_1 : decode cX8_worth 1 = .ok (.istore 6, 2) := dk_54 6 (dk_at dksX8_worth_0 1 rfl rfl)
theorem dX8_worth_3 : decode cX8_worth 3 = .ok (.iload_n 1, 1) := dk_27 (dk_at dksX8_worth_0 3 rfl rfl)
theorem dX8_worth_4 : decode cX8_worth 4 = .ok (.istore 7, 2) := dk_54 7 (dk_at dksX8_worth_0 4 rfl rfl)
theorem dX8_worth_6 : decode cX8_worth 6 = .ok (.aload_n 0, 1) := dk_42 (dk_at dksX8_worth_0 6 rfl rfl)
theorem dX8_worth_7 : decode cX8_worth 7 = .ok (.getfield 45, 3) := dk_180 0 45 (dk_at dksX8_worth_0 7 rfl rfl)
theorem dX8_worth_10 : decode cX8_worth 10 = .ok (.iload 7, 2) := dk_21 7 (dk_at dksX8_worth_0 10 rfl rfl)
theorem dX8_worth_12 : decode cX8_worth 12 = .ok (.iaload, 1) := dk_46 (dk_at dksX8_worth_0 12 rfl rfl)
theorem dX8_worth_13 : decode cX8_worth 13 = .ok (.ifCond .eq 147, 3) := dk_153 0 147 (dk_at dksX8_worth_0 13 rfl rfl)
theorem dX8_worth_16 : decode cX8_worth 16 = .ok (.aload_n 0, 1) := dk_42 (dk_at dksX8_worth_0 16 rfl rfl)
theorem dX8_worth_17 : decode cX8_worth 17 = .ok (.getfield 45, 3) := dk_180 0 45 (dk_at dksX8_worth_0 17 rfl rfl)
theorem dX8_worth_20 : decode cX8_worth 20 = .ok (.iload 7, 2) := dk_21 7 (dk_at dksX8_worth_0 20 rfl rfl)
theorem dX8_worth_22 : decode cX8_worth 22 = .ok (.iaload, 1) := dk_46 (dk_at dksX8_worth_0 22 rfl rfl)
theorem dX8_worth_23 : decode cX8_worth 23 = .ok (.istore 8, 2) := dk_54 8 (dk_at dksX8_worth_1 0 rfl rfl)
theorem dX8_worth_25 : decode cX8_worth 25 = .ok (.iinc 7 1, 3) := dk_132 7 1 (dk_at dksX8_worth_1 2 rfl rfl)
theorem dX8_worth_28 : decode cX8_worth 28 = .ok (.iload 8, 2) := dk_21 8 (dk_at dksX8_worth_1 5 rfl rfl)
theorem dX8_worth_30 : decode cX8_worth 30 = .ok (.iconst 1, 1) := dk_4 (dk_at dksX8_worth_1 7 rfl rfl)
theorem dX8_worth_31 : decode cX8_worth 31 = .ok (.if_icmp .eq 9, 3) := dk_159 0 9 (dk_at dksX8_worth_1 8 rfl rfl)
theorem dX8_worth_34 : decode cX8_worth 34 = .ok (.iload 8, 2) := dk_21 8 (dk_at dksX8_worth_1 11 rfl rfl)
theorem dX8_worth_36 : decode cX8_worth 36 = .ok (.iconst 2, 1) := dk_5 (dk_at dksX8_worth_1 13 rfl rfl)
theorem dX8_worth_37 : decode cX8_worth 37 = .ok (.if_icmp .ne 52, 3) := dk_160 0 52 (dk_at dksX8_worth_1 14 rfl rfl)
theorem dX8_worth_40 : decode cX8_worth 40 = .ok (.aload_n 0, 1) := dk_42 (dk_at dksX8_worth_1 17 rfl rfl)
theorem dX8_worth_41 : decode cX8_worth 41 = .ok (.getfield 93, 3) := dk_180 0 93 (dk_at dksX8_worth_1 18 rfl rfl)
theorem dX8_worth_44 : decode cX8_worth 44 = .ok (.iload 6, 2) := dk_21 6 (dk_at dksX8_worth_1 21 rfl rfl)
theorem dX8_worth_46 : decode cX8_worth 46 = .ok (.iload 8, 2) := dk_21 8 (dk_at dksX8_worth_2 0 rfl rfl)
theorem dX8_worth_48 : decode cX8_worth 48 = .ok (.iconst 1, 1) := dk_4 (dk_at dksX8_worth_2 2 rfl rfl)
theorem dX8_worth_49 : decode cX8_worth 49 = .ok (.if_icmp .ne 13, 3) := dk_160 0 13 (dk_at dksX8_worth_2 3 rfl rfl)
theorem dX8_worth_52 : decode cX8_worth 52 = .ok (.aload_n 0, 1) := dk_42 (dk_at dksX8_worth_2 6 rfl rfl)
theorem dX8_worth_53 : decode cX8_worth 53 = .ok (.getfield 45, 3) := dk_180 0 45 (dk_at dksX8_worth_2 7 rfl rfl)
theorem dX8_worth_56 : decode cX8_worth 56 = .ok (.iload 7, 2) := dk_21 7 (dk_at dksX8_worth_2 10 rfl rfl)
theorem dX8_worth_58 : decode cX8_worth 58 = .ok (.iaload, 1) := dk_46 (dk_at dksX8_worth_2 12 rfl rfl)
theorem dX8_worth_59 : decode cX8_worth 59 = .ok (.goto 20, 3) := dk_167 0 20 (dk_at dksX8_worth_2 13 rfl rfl)
theorem dX8_worth_62 : decode cX8_worth 62 = .ok (.aload_n 0, 1) := dk_42 (dk_at dksX8_worth_2 16 rfl rfl)
theorem dX8_worth_63 : decode cX8_worth 63 = .ok (.aload_n 0, 1) := dk_42 (dk_at dksX8_worth_2 17 rfl rfl)
theorem dX8_worth_64 : decode cX8_worth 64 = .ok (.getfield 45, 3) := dk_180 0 45 (dk_at dksX8_worth_2 18 rfl rfl)
theorem dX8_worth_67 : decode cX8_worth 67 = .ok (.iload 7, 2) := dk_21 7 (dk_at dksX8_worth_2 21 rfl rfl)
theorem dX8_worth_69 : decode cX8_worth 69 = .ok (.iaload, 1) := dk_46 (dk_at dksX8_worth_2 23 rfl rfl)
theorem dX8_worth_70 : decode cX8_worth 70 = .ok (.iload_n 2, 1) := dk_28 (dk_at dksX8_worth_3 0 rfl rfl)
theorem dX8_worth_71 : decode cX8_worth 71 = .ok (.iload_n 3, 1) := dk_29 (dk_at dksX8_worth_3 1 rfl rfl)
theorem dX8_worth_72 : decode cX8_worth 72 = .ok (.iload 4, 2) := dk_21 4 (dk_at dksX8_worth_3 2 rfl rfl)
theorem dX8_worth_74 : decode cX8_worth 74 = .ok (.iload 5, 2) := dk_21 5 (dk_at dksX8_worth_3 4 rfl rfl)
theorem dX8_worth_76 : decode cX8_worth 76 = .ok (.invokevirtual 360, 3) := dk_182 1 104 (dk_at dksX8_worth_3 6 rfl rfl)
theorem dX8_worth_79 : decode cX8_worth 79 = .ok (.iastore, 1) := dk_79 (dk_at dksX8_worth_3 9 rfl rfl)
theorem dX8_worth_80 : decode cX8_worth 80 = .ok (.iinc 7 1, 3) := dk_132 7 1 (dk_at dksX8_worth_3 10 rfl rfl)
theorem dX8_worth_83 : decode cX8_worth 83 = .ok (.iinc 6 1, 3) := dk_132 6 1 (dk_at dksX8_worth_3 13 rfl rfl)
theorem dX8_worth_86 : decode cX8_worth 86 = .ok (.goto 71, 3) := dk_167 0 71 (dk_at dksX8_worth_3 16 rfl rfl)
theorem dX8_worth_89 : decode cX8_worth 89 = .ok (.iload 8, 2) := dk_21 8 (dk_at dksX8_worth_3 19 rfl rfl)
theorem dX8_worth_91 : decode cX8_worth 91 = .ok (.iconst 3, 1) := dk_6 (dk_at dksX8_worth_3 21 rfl rfl)
theorem dX8_worth_92 : decode cX8_worth 92 = .ok (.if_icmp .ne 32, 3) := dk_160 0 32 (dk_at dksX8_worth_4 0 rfl rfl)
theorem dX8_worth_95 : decode cX8_worth 95 = .ok (.aload_n 0, 1) := dk_42 (dk_at dksX8_worth_4 3 rfl rfl)
theorem dX8_worth_96 : decode cX8_worth 96 = .ok (.getfield 93, 3) := dk_180 0 93 (dk_at dksX8_worth_4 4 rfl rfl)
theorem dX8_worth_99 : decode cX8_worth 99 = .ok (.iload 6, 2) := dk_21 6 (dk_at dksX8_worth_4 7 rfl rfl)
theorem dX8_worth_101 : decode cX8_worth 101 = .ok (.iconst 1, 1) := dk_4 (dk_at dksX8_worth_4 9 rfl rfl)
theorem dX8_worth_102 : decode cX8_worth 102 = .ok (.isub, 1) := dk_100 (dk_at dksX8_worth_4 10 rfl rfl)
theorem dX8_worth_103 : decode cX8_worth 103 = .ok (.aload_n 0, 1) := dk_42 (dk_at dksX8_worth_4 11 rfl rfl)
theorem dX8_worth_104 : decode cX8_worth 104 = .ok (.getfield 93, 3) := dk_180 0 93 (dk_at dksX8_worth_4 12 rfl rfl)
theorem dX8_worth_107 : decode cX8_worth 107 = .ok (.iload 6, 2) := dk_21 6 (dk_at dksX8_worth_4 15 rfl rfl)
theorem dX8_worth_109 : decode cX8_worth 109 = .ok (.iconst 1, 1) := dk_4 (dk_at dksX8_worth_4 17 rfl rfl)
theorem dX8_worth_110 : decode cX8_worth 110 = .ok (.isub, 1) := dk_100 (dk_at dksX8_worth_4 18 rfl rfl)
theorem dX8_worth_111 : decode cX8_worth 111 = .ok (.iaload, 1) := dk_46 (dk_at dksX8_worth_4 19 rfl rfl)
theorem dX8_worth_112 : decode cX8_worth 112 = .ok (.ifCond .ne 7, 3) := dk_154 0 7 (dk_at dksX8_worth_4 20 rfl rfl)
theorem dX8_worth_115 : decode cX8_worth 115 = .ok (.iconst 1, 1) := dk_4 (dk_at dksX8_worth_4 23 rfl rfl)
theorem dX8_worth_116 : decode cX8_worth 116 = .ok (.goto 4, 3) := dk_167 0 4 (dk_at dksX8_worth_5 0 rfl rfl)
theorem dX8_worth_119 : decode cX8_worth 119 = .ok (.iconst 0, 1) := dk_3 (dk_at dksX8_worth_5 3 rfl rfl)
theorem dX8_worth_120 : decode cX8_worth 120 = .ok (.iastore, 1) := dk_79 (dk_at dksX8_worth_5 4 rfl rfl)
theorem dX8_worth_121 : decode cX8_worth 121 = .ok (.goto 36, 3) := dk_167 0 36 (dk_at dksX8_worth_5 5 rfl rfl)
theorem dX8_worth_124 : decode cX8_worth 124 = .ok (.iinc 6 (-1), 3) := dk_132 6 255 (dk_at dksX8_worth_5 8 rfl rfl)
theorem dX8_worth_127 : decode cX8_worth 127 = .ok (.aload_n 0, 1) := dk_42 (dk_at dksX8_worth_5 11 rfl rfl)
theorem dX8_worth_128 : decode cX8_worth 128 = .ok (.getfield 93, 3) := dk_180 0 93 (dk_at dksX8_worth_5 12 rfl rfl)
theorem dX8_worth_131 : decode cX8_worth 131 = .ok (.iload 6, 2) := dk_21 6 (dk_at dksX8_worth_5 15 rfl rfl)
theorem dX8_worth_133 : decode cX8_worth 133 = .ok (.iconst 1, 1) := dk_4 (dk_at dksX8_worth_5 17 rfl rfl)
theorem dX8_worth_134 : decode cX8_worth 134 = .ok (.isub, 1) := dk_100 (dk_at dksX8_worth_5 18 rfl rfl)
theorem dX8_worth_135 : decode cX8_worth 135 = .ok (.iload 8, 2) := dk_21 8 (dk_at dksX8_worth_5 19 rfl rfl)
theorem dX8_worth_137 : decode cX8_worth 137 = .ok (.aload_n 0, 1) := dk_42 (dk_at dksX8_worth_5 21 rfl rfl)
theorem dX8_worth_138 : decode cX8_worth 138 = .ok (.getfield 93, 3) := dk_180 0 93 (dk_at dksX8_worth_6 0 rfl rfl)
theorem dX8_worth_141 : decode cX8_worth 141 = .ok (.iload 6, 2) := dk_21 6 (dk_at dksX8_worth_6 3 rfl rfl)
theorem dX8_worth_143 : decode cX8_worth 143 = .ok (.iconst 1, 1) := dk_4 (dk_at dksX8_worth_6 5 rfl rfl)
theorem dX8_worth_144 : decode cX8_worth 144 = .ok (.isub, 1) := dk_100 (dk_at dksX8_worth_6 6 rfl rfl)
theorem dX8_worth_145 : decode cX8_worth 145 = .ok (.iaload, 1) := dk_46 (dk_at dksX8_worth_6 7 rfl rfl)
theorem dX8_worth_146 : decode cX8_worth 146 = .ok (.aload_n 0, 1) := dk_42 (dk_at dksX8_worth_6 8 rfl rfl)
theorem dX8_worth_147 : decode cX8_worth 147 = .ok (.getfield 93, 3) := dk_180 0 93 (dk_at dksX8_worth_6 9 rfl rfl)
theorem dX8_worth_150 : decode cX8_worth 150 = .ok (.iload 6, 2) := dk_21 6 (dk_at dksX8_worth_6 12 rfl rfl)
theorem dX8_worth_152 : decode cX8_worth 152 = .ok (.iaload, 1) := dk_46 (dk_at dksX8_worth_6 14 rfl rfl)
theorem dX8_worth_153 : decode cX8_worth 153 = .ok (.invokestatic 364, 3) := dk_184 1 108 (dk_at dksX8_worth_6 15 rfl rfl)
theorem dX8_worth_156 : decode cX8_worth 156 = .ok (.iastore, 1) := dk_79 (dk_at dksX8_worth_6 18 rfl rfl)
theorem dX8_worth_157 : decode cX8_worth 157 = .ok (.goto (-151), 3) := dk_167 255 105 (dk_at dksX8_worth_6 19 rfl rfl)
theorem dX8_worth_160 : decode cX8_worth 160 = .ok (.aload_n 0, 1) := dk_42 (dk_at dksX8_worth_6 22 rfl rfl)
theorem dX8_worth_161 : decode cX8_worth 161 = .ok (.getfield 93, 3) := dk_180 0 93 (dk_at dksX8_worth_7 0 rfl rfl)
theorem dX8_worth_164 : decode cX8_worth 164 = .ok (.iconst 0, 1) := dk_3 (dk_at dksX8_worth_7 3 rfl rfl)
theorem dX8_worth_165 : decode cX8_worth 165 = .ok (.iaload, 1) := dk_46 (dk_at dksX8_worth_7 4 rfl rfl)
theorem dX8_worth_166 : decode cX8_worth 166 = .ok (.ireturn, 1) := dk_172 (dk_at dksX8_worth_7 5 rfl rfl)
abbrev cX8_valueOf : ByteArray := prog_19_method_41_code
def yX8_valueOf : MethodName := ⟨RX8, "valueOf", "(IIIII)I"⟩
def dkwX8_valueOf_3 : List UInt8 := [21, 5, 172, 29, 172]
abbrev dktX8_valueOf_3 : List UInt8 := dkwX8_valueOf_3 ++ []
def dkwX8_valueOf_2 : List UInt8 := [28, 184, 1, 94, 172, 42, 28, 42, 180, 0, 16, 182, 1, 97, 172, 42, 28, 182, 1, 101, 172, 21, 4, 172]
abbrev dktX8_valueOf_2 : List UInt8 := dkwX8_valueOf_2 ++ dktX8_valueOf_3
def dkwX8_valueOf_1 : List UInt8 := [170, 0, 0, 0, 0, 0, 0, 103, 0, 0, 0, 5, 0, 0, 0, 19, 0, 0, 0, 100, 0, 0, 0, 103, 0, 0, 0, 81, 0, 0, 0, 103, 0, 0, 0, 103, 0, 0, 0, 103, 0, 0, 0, 103, 0, 0, 0, 103, 0, 0, 0, 103, 0, 0, 0, 103, 0, 0, 0, 103, 0, 0, 0, 103, 0, 0, 0, 76, 0, 0, 0, 91, 0, 0, 0, 97]
abbrev dktX8_valueOf_1 : List UInt8 := dkwX8_valueOf_1 ++ dktX8_valueOf_2
def dkwX8_valueOf_0 : List UInt8 := [27, 16, 100, 162, 0, 9, 28, 27, 122, 4, 126, 172, 27, 16, 100, 100]
abbrev dktX8_valueOf_0 : List UInt8 := dkwX8_valueOf_0 ++ dktX8_valueOf_1
theorem dksX8_valueOf_0 : cX8_valueOf.data.toList.drop 0 = dktX8_valueOf_0 := by decide +kernel
theorem dksX8_valueOf_1 : cX8_valueOf.data.toList.drop 16 = dktX8_valueOf_1 := dk_seg dksX8_valueOf_0 16 rfl rfl
theorem dksX8_valueOf_2 : cX8_valueOf.data.toList.drop 92 = dktX8_valueOf_2 := dk_seg dksX8_valueOf_1 76 rfl rfl
theorem dksX8_valueOf_3 : cX8_valueOf.data.toList.drop 116 = dktX8_valueOf_3 := dk_seg dksX8_valueOf_2 24 rfl rfl
theorem dX8_valueOf_0 : decode cX8_valueOf 0 = .ok (.iload_n 1, 1) := dk_27 (dk_at dksX8_valueOf_0 0 rfl rfl)
theorem dX8_valueOf_1 : decode cX8_valueOf 1 = .ok (.bipush 100, 2) := dk_16 100 (dk_at dksX8_valueOf_0 1 rfl rfl)
theorem dX8_valueOf_3 : decode cX8_valueOf 3 = .ok (.if_icmp .ge 9, 3) := dk_162 0 9 (dk_at dksX8_valueOf_0 3 rfl rfl)
theorem dX8_valueOf_6 : decode cX8_valueOf 6 = .ok (.iload_n 2, 1) := dk_28 (dk_at dksX8_valueOf_0 6 rfl rfl)
theorem dX8_valueOf_7 : decode cX8_valueOf 7 = .ok (.iload_n 1, 1) := dk_27 (dk_at dksX8_valueOf_0 7 rfl rfl)
theorem dX8_valueOf_8 : decode cX8_valueOf 8 = .ok (.ishr, 1) := dk_122 (dk_at dksX8_valueOf_0 8 rfl rfl)
theorem dX8_valueOf_9 : decode cX8_valueOf 9 = .ok (.iconst 1, 1) := dk_4 (dk_at dksX8_valueOf_0 9 rfl rfl)
theorem dX8_valueOf_10 : decode cX8_valueOf 10 = .ok (.iand, 1) := dk_126 (dk_at dksX8_valueOf_0 10 rfl rfl)
theorem dX8_valueOf_11 : decode cX8_valueOf 11 = .ok (.ireturn, 1) := dk_172 (dk_at dksX8_valueOf_0 11 rfl rfl)
theorem dX8_valueOf_12 : decode cX8_valueOf 12 = .ok (.iload_n 1, 1) := dk_27 (dk_at dksX8_valueOf_0 12 rfl rfl)
theorem dX8_valueOf_13 : decode cX8_valueOf 13 = .ok (.bipush 100, 2) := dk_16 100 (dk_at dksX8_valueOf_0 13 rfl rfl)
theorem dX8_valueOf_15 : decode cX8_valueOf 15 = .ok (.isub, 1) := dk_100 (dk_at dksX8_valueOf_0 15 rfl rfl)
theorem dX8_valueOf_16 : decode cX8_valueOf 16 = .ok (.tableswitch 103 5 19 #[100, 103, 81, 103, 103, 103, 103, 103, 103, 103, 103, 103, 76, 91, 97], 76) := by decide +kernel
theorem dX8_valueOf_92 : decode cX8_valueOf 92 = .ok (.iload_n 2, 1) := dk_28 (dk_at dksX8_valueOf_2 0 rfl rfl)
theorem dX8_valueOf_93 : decode cX8_valueOf 93 = .ok (.invokestatic 350, 3) := dk_184 1 94 (dk_at dksX8_valueOf_2 1 rfl rfl)
theorem dX8_valueOf_96 : decode cX8_valueOf 96 = .ok (.ireturn, 1) := dk_172 (dk_at dksX8_valueOf_2 4 rfl rfl)
theorem dX8_valueOf_97 : decode cX8_valueOf 97 = .ok (.aload_n 0, 1) := dk_42 (dk_at dksX8_valueOf_2 5 rfl rfl)
theorem dX8_valueOf_98 : decode cX8_valueOf 98 = .ok (.iload_n 2, 1) := dk_28 (dk_at dksX8_valueOf_2 6 rfl rfl)
theorem dX8_valueOf_99 : decode cX8_valueOf 99 = .ok (.aload_n 0, 1) := dk_42 (dk_at dksX8_valueOf_2 7 rfl rfl)
theorem dX8_valueOf_100 : decode cX8_valueOf 100 = .ok (.getfield 16, 3) := dk_180 0 16 (dk_at dksX8_valueOf_2 8 rfl rfl)
theorem dX8_valueOf_103 : decode cX8_valueOf 103 = .ok (.invokevirtual 353, 3) := dk_182 1 97 (dk_at dksX8_valueOf_2 11 rfl rfl)
theorem dX8_valueOf_106 : decode cX8_valueOf 106 = .ok (.ireturn, 1) := dk_172 (dk_at dksX8_valueOf_2 14 rfl rfl)
theorem dX8_valueOf_107 : decode cX8_valueOf 107 = .ok (.aload_n 0, 1) := dk_42 (dk_at dksX8_valueOf_2 15 rfl rfl)
theorem dX8_valueOf_108 : decode cX8_valueOf 108 = .ok (.iload_n 2, 1) := dk_28 (dk_at dksX8_valueOf_2 16 rfl rfl)
theorem dX8_valueOf_109 : decode cX8_valueOf 109 = .ok (.invokevirtual 357, 3) := dk_182 1 101 (dk_at dksX8_valueOf_2 17 rfl rfl)
theorem dX8_valueOf_112 : decode cX8_valueOf 112 = .ok (.ireturn, 1) := dk_172 (dk_at dksX8_valueOf_2 20 rfl rfl)
theorem dX8_valueOf_113 : decode cX8_valueOf 113 = .ok (.iload 4, 2) := dk_21 4 (dk_at dksX8_valueOf_2 21 rfl rfl)
theorem dX8_valueOf_115 : decode cX8_valueOf 115 = .ok (.ireturn, 1) := dk_172 (dk_at dksX8_valueOf_2 23 rfl rfl)
theorem dX8_valueOf_116 : decode cX8_valueOf 116 = .ok (.iload 5, 2) := dk_21 5 (dk_at dksX8_valueOf_3 0 rfl rfl)
theorem dX8_valueOf_118 : decode cX8_valueOf 118 = .ok (.ireturn, 1) := dk_172 (dk_at dksX8_valueOf_3 2 rfl rfl)
theorem dX8_valueOf_119 : decode cX8_valueOf 119 = .ok (.iload_n 3, 1) := dk_29 (dk_at dksX8_valueOf_3 3 rfl rfl)
theorem dX8_valueOf_120 : decode cX8_valueOf 120 = .ok (.ireturn, 1) := dk_172 (dk_at dksX8_valueOf_3 4 rfl rfl)
abbrev cX8_bits : ByteArray := prog_19_method_5_code
def yX8_bits : MethodName := ⟨RX8, "bits", "(I)I"⟩
def dkwX8_bits_0 : List UInt8 := [3, 60, 26, 61, 28, 153, 0, 15, 132, 1, 1, 28, 28, 4, 100, 126, 61, 167, 255, 243, 27, 172]
abbrev dktX8_bits_0 : List UInt8 := dkwX8_bits_0 ++ []
theorem dksX8_bits_0 : cX8_bits.data.toList.drop 0 = dktX8_bits_0 := by decide +kernel
theorem dX8_bits_0 : decode cX8_bits 0 = .ok (.iconst 0, 1) := dk_3 (dk_at dksX8_bits_0 0 rfl rfl)
theorem dX8_bits_1 : decode cX8_bits 1 = .ok (.istore_n 1, 1) := dk_60 (dk_at dksX8_bits_0 1 rfl rfl)
theorem dX8_bits_2 : decode cX8_bits 2 = .ok (.iload_n 0, 1) := dk_26 (dk_at dksX8_bits_0 2 rfl rfl)
theorem dX8_bits_3 : decode cX8_bits 3 = .ok (.istore_n 2, 1) := dk_61 (dk_at dksX8_bits_0 3 rfl rfl)
theorem dX8_bits_4 : decode cX8_bits 4 = .ok (.iload_n 2, 1) := dk_28 (dk_at dksX8_bits_0 4 rfl rfl)
theorem dX8_bits_5 : decode cX8_bits 5 = .ok (.ifCond .eq 15, 3) := dk_153 0 15 (dk_at dksX8_bits_0 5 rfl rfl)
theorem dX8_bits_8 : decode cX8_bits 8 = .ok (.iinc 1 1, 3) := dk_132 1 1 (dk_at dksX8_bits_0 8 rfl rfl)
theorem dX8_bits_11 : decode cX8_bits 11 = .ok (.iload_n 2, 1) := dk_28 (dk_at dksX8_bits_0 11 rfl rfl)
theorem dX8_bits_12 : decode cX8_bits 12 = .ok (.iload_n 2, 1) := dk_28 (dk_at dksX8_bits_0 12 rfl rfl)
theorem dX8_bits_13 : decode cX8_bits 13 = .ok (.iconst 1, 1) := dk_4 (dk_at dksX8_bits_0 13 rfl rfl)
theorem dX8_bits_14 : decode cX8_bits 14 = .ok (.isub, 1) := dk_100 (dk_at dksX8_bits_0 14 rfl rfl)
theorem dX8_bits_15 : decode cX8_bits 15 = .ok (.iand, 1) := dk_126 (dk_at dksX8_bits_0 15 rfl rfl)
theorem dX8_bits_16 : decode cX8_bits 16 = .ok (.istore_n 2, 1) := dk_61 (dk_at dksX8_bits_0 16 rfl rfl)
theorem dX8_bits_17 : decode cX8_bits 17 = .ok (.goto (-13), 3) := dk_167 255 243 (dk_at dksX8_bits_0 17 rfl rfl)
theorem dX8_bits_20 : decode cX8_bits 20 = .ok (.iload_n 1, 1) := dk_27 (dk_at dksX8_bits_0 20 rfl rfl)
theorem dX8_bits_21 : decode cX8_bits 21 = .ok (.ireturn, 1) := dk_172 (dk_at dksX8_bits_0 21 rfl rfl)
abbrev cX8_sumOf : ByteArray := prog_19_method_39_code
def yX8_sumOf : MethodName := ⟨RX8, "sumOf", "(I[I)I"⟩
def dkwX8_sumOf_1 : List UInt8 := [160, 0, 10, 44, 21, 4, 46, 167, 0, 4, 3, 96, 62, 132, 4, 1, 167, 255, 223, 29, 172]
abbrev dktX8_sumOf_1 : List UInt8 := dkwX8_sumOf_1 ++ []
def dkwX8_sumOf_0 : List UInt8 := [3, 62, 3, 54, 4, 21, 4, 42, 180, 1, 82, 162, 0, 30, 29, 27, 21, 4, 122, 4, 126, 4]
abbrev dktX8_sumOf_0 : List UInt8 := dkwX8_sumOf_0 ++ dktX8_sumOf_1
theorem dksX8_sumOf_0 : cX8_sumOf.data.toList.drop 0 = dktX8_sumOf_0 := by decide +kernel
theorem dksX8_sumOf_1 : cX8_sumOf.data.toList.drop 22 = dktX8_sumOf_1 := dk_seg dksX8_sumOf_0 22 rfl rfl
theorem dX8_sumOf_0 : decode cX8_sumOf 0 = .ok (.iconst 0, 1) := dk_3 (dk_at dksX8_sumOf_0 0 rfl rfl)
theorem dX8_sumOf_1 : decode cX8_sumOf 1 = .ok (.istore_n 3, 1) := dk_62 (dk_at dksX8_sumOf_0 1 rfl rfl)
theorem dX8_sumOf_2 : decode cX8_sumOf 2 = .ok (.iconst 0, 1) := dk_3 (dk_at dksX8_sumOf_0 2 rfl rfl)
theorem dX8_sumOf_3 : decode cX8_sumOf 3 = .ok (.istore 4, 2) := dk_54 4 (dk_at dksX8_sumOf_0 3 rfl rfl)
theorem dX8_sumOf_5 : decode cX8_sumOf 5 = .ok (.iload 4, 2) := dk_21 4 (dk_at dksX8_sumOf_0 5 rfl rfl)
theorem dX8_sumOf_7 : decode cX8_sumOf 7 = .ok (.aload_n 0, 1) := dk_42 (dk_at dksX8_sumOf_0 7 rfl rfl)
theorem dX8_sumOf_8 : decode cX8_sumOf 8 = .ok (.getfield 338, 3) := dk_180 1 82 (dk_at dksX8_sumOf_0 8 rfl rfl)
theorem dX8_sumOf_11 : decode cX8_sumOf 11 = .ok (.if_icmp .ge 30, 3) := dk_162 0 30 (dk_at dksX8_sumOf_0 11 rfl rfl)
theorem dX8_sumOf_14 : decode cX8_sumOf 14 = .ok (.iload_n 3, 1) := dk_29 (dk_at dksX8_sumOf_0 14 rfl rfl)
theorem dX8_sumOf_15 : decode cX8_sumOf 15 = .ok (.iload_n 1, 1) := dk_27 (dk_at dksX8_sumOf_0 15 rfl rfl)
theorem dX8_sumOf_16 : decode cX8_sumOf 16 = .ok (.iload 4, 2) := dk_21 4 (dk_at dksX8_sumOf_0 16 rfl rfl)
theorem dX8_sumOf_18 : decode cX8_sumOf 18 = .ok (.ishr, 1) := dk_122 (dk_at dksX8_sumOf_0 18 rfl rfl)
theorem dX8_sumOf_19 : decode cX8_sumOf 19 = .ok (.iconst 1, 1) := dk_4 (dk_at dksX8_sumOf_0 19 rfl rfl)
theorem dX8_sumOf_20 : decode cX8_sumOf 20 = .ok (.iand, 1) := dk_126 (dk_at dksX8_sumOf_0 20 rfl rfl)
theorem dX8_sumOf_21 : decode cX8_sumOf 21 = .ok (.iconst 1, 1) := dk_4 (dk_at dksX8_sumOf_0 21 rfl rfl)
theorem dX8_sumOf_22 : decode cX8_sumOf 22 = .ok (.if_icmp .ne 10, 3) := dk_160 0 10 (dk_at dksX8_sumOf_1 0 rfl rfl)
theorem dX8_sumOf_25 : decode cX8_sumOf 25 = .ok (.aload_n 2, 1) := dk_44 (dk_at dksX8_sumOf_1 3 rfl rfl)
theorem dX8_sumOf_26 : decode cX8_sumOf 26 = .ok (.iload 4, 2) := dk_21 4 (dk_at dksX8_sumOf_1 4 rfl rfl)
theorem dX8_sumOf_28 : decode cX8_sumOf 28 = .ok (.iaload, 1) := dk_46 (dk_at dksX8_sumOf_1 6 rfl rfl)
theorem dX8_sumOf_29 : decode cX8_sumOf 29 = .ok (.goto 4, 3) := dk_167 0 4 (dk_at dksX8_sumOf_1 7 rfl rfl)
theorem dX8_sumOf_32 : decode cX8_sumOf 32 = .ok (.iconst 0, 1) := dk_3 (dk_at dksX8_sumOf_1 10 rfl rfl)
theorem dX8_sumOf_33 : decode cX8_sumOf 33 = .ok (.iadd, 1) := dk_96 (dk_at dksX8_sumOf_1 11 rfl rfl)
theorem dX8_sumOf_34 : decode cX8_sumOf 34 = .ok (.istore_n 3, 1) := dk_62 (dk_at dksX8_sumOf_1 12 rfl rfl)
theorem dX8_sumOf_35 : decode cX8_sumOf 35 = .ok (.iinc 4 1, 3) := dk_132 4 1 (dk_at dksX8_sumOf_1 13 rfl rfl)
theorem dX8_sumOf_38 : decode cX8_sumOf 38 = .ok (.goto (-33), 3) := dk_167 255 223 (dk_at dksX8_sumOf_1 16 rfl rfl)
theorem dX8_sumOf_41 : decode cX8_sumOf 41 = .ok (.iload_n 3, 1) := dk_29 (dk_at dksX8_sumOf_1 19 rfl rfl)
theorem dX8_sumOf_42 : decode cX8_sumOf 42 = .ok (.ireturn, 1) := dk_172 (dk_at dksX8_sumOf_1 20 rfl rfl)
abbrev cX8_rowers : ByteArray := prog_19_method_40_code
def yX8_rowers : MethodName := ⟨RX8, "rowers", "(I)I"⟩
def dkwX8_rowers_1 : List UInt8 := [180, 0, 20, 29, 46, 158, 0, 7, 4, 167, 0, 4, 3, 96, 61, 132, 3, 1, 167, 255, 219, 28, 172]
abbrev dktX8_rowers_1 : List UInt8 := dkwX8_rowers_1 ++ []
def dkwX8_rowers_0 : List UInt8 := [3, 61, 3, 62, 29, 42, 180, 1, 82, 162, 0, 35, 28, 27, 29, 122, 4, 126, 4, 160, 0, 16, 42]
abbrev dktX8_rowers_0 : List UInt8 := dkwX8_rowers_0 ++ dktX8_rowers_1
theorem dksX8_rowers_0 : cX8_rowers.data.toList.drop 0 = dktX8_rowers_0 := by decide +kernel
theorem dksX8_rowers_1 : cX8_rowers.data.toList.drop 23 = dktX8_rowers_1 := dk_seg dksX8_rowers_0 23 rfl rfl
theorem dX8_rowers_0 : decode cX8_rowers 0 = .ok (.iconst 0, 1) := dk_3 (dk_at dksX8_rowers_0 0 rfl rfl)
theorem dX8_rowers_1 : decode cX8_rowers 1 = .ok (.istore_n 2, 1) := dk_61 (dk_at dksX8_rowers_0 1 rfl rfl)
theorem dX8_rowers_2 : decode cX8_rowers 2 = .ok (.iconst 0, 1) := dk_3 (dk_at dksX8_rowers_0 2 rfl rfl)
theorem dX8_rowers_3 : decode cX8_rowers 3 = .ok (.istore_n 3, 1) := dk_62 (dk_at dksX8_rowers_0 3 rfl rfl)
theorem dX8_rowers_4 : decode cX8_rowers 4 = .ok (.iload_n 3, 1) := dk_29 (dk_at dksX8_rowers_0 4 rfl rfl)
theorem dX8_rowers_5 : decode cX8_rowers 5 = .ok (.aload_n 0, 1) := dk_42 (dk_at dksX8_rowers_0 5 rfl rfl)
theorem dX8_rowers_6 : decode cX8_rowers 6 = .ok (.getfield 338, 3) := dk_180 1 82 (dk_at dksX8_rowers_0 6 rfl rfl)
theorem dX8_rowers_9 : decode cX8_rowers 9 = .ok (.if_icmp .ge 35, 3) := dk_162 0 35 (dk_at dksX8_rowers_0 9 rfl rfl)
theorem dX8_rowers_12 : decode cX8_rowers 12 = .ok (.iload_n 2, 1) := dk_28 (dk_at dksX8_rowers_0 12 rfl rfl)
theorem dX8_rowers_13 : decode cX8_rowers 13 = .ok (.iload_n 1, 1) := dk_27 (dk_at dksX8_rowers_0 13 rfl rfl)
theorem dX8_rowers_14 : decode cX8_rowers 14 = .ok (.iload_n 3, 1) := dk_29 (dk_at dksX8_rowers_0 14 rfl rfl)
theorem dX8_rowers_15 : decode cX8_rowers 15 = .ok (.ishr, 1) := dk_122 (dk_at dksX8_rowers_0 15 rfl rfl)
theorem dX8_rowers_16 : decode cX8_rowers 16 = .ok (.iconst 1, 1) := dk_4 (dk_at dksX8_rowers_0 16 rfl rfl)
theorem dX8_rowers_17 : decode cX8_rowers 17 = .ok (.iand, 1) := dk_126 (dk_at dksX8_rowers_0 17 rfl rfl)
theorem dX8_rowers_18 : decode cX8_rowers 18 = .ok (.iconst 1, 1) := dk_4 (dk_at dksX8_rowers_0 18 rfl rfl)
theorem dX8_rowers_19 : decode cX8_rowers 19 = .ok (.if_icmp .ne 16, 3) := dk_160 0 16 (dk_at dksX8_rowers_0 19 rfl rfl)
theorem dX8_rowers_22 : decode cX8_rowers 22 = .ok (.aload_n 0, 1) := dk_42 (dk_at dksX8_rowers_0 22 rfl rfl)
theorem dX8_rowers_23 : decode cX8_rowers 23 = .ok (.getfield 20, 3) := dk_180 0 20 (dk_at dksX8_rowers_1 0 rfl rfl)
theorem dX8_rowers_26 : decode cX8_rowers 26 = .ok (.iload_n 3, 1) := dk_29 (dk_at dksX8_rowers_1 3 rfl rfl)
theorem dX8_rowers_27 : decode cX8_rowers 27 = .ok (.iaload, 1) := dk_46 (dk_at dksX8_rowers_1 4 rfl rfl)
theorem dX8_rowers_28 : decode cX8_rowers 28 = .ok (.ifCond .le 7, 3) := dk_158 0 7 (dk_at dksX8_rowers_1 5 rfl rfl)
theorem dX8_rowers_31 : decode cX8_rowers 31 = .ok (.iconst 1, 1) := dk_4 (dk_at dksX8_rowers_1 8 rfl rfl)
theorem dX8_rowers_32 : decode cX8_rowers 32 = .ok (.goto 4, 3) := dk_167 0 4 (dk_at dksX8_rowers_1 9 rfl rfl)
theorem dX8_rowers_35 : decode cX8_rowers 35 = .ok (.iconst 0, 1) := dk_3 (dk_at dksX8_rowers_1 12 rfl rfl)
theorem dX8_rowers_36 : decode cX8_rowers 36 = .ok (.iadd, 1) := dk_96 (dk_at dksX8_rowers_1 13 rfl rfl)
theorem dX8_rowers_37 : decode cX8_rowers 37 = .ok (.istore_n 2, 1) := dk_61 (dk_at dksX8_rowers_1 14 rfl rfl)
theorem dX8_rowers_38 : decode cX8_rowers 38 = .ok (.iinc 3 1, 3) := dk_132 3 1 (dk_at dksX8_rowers_1 15 rfl rfl)
theorem dX8_rowers_41 : decode cX8_rowers 41 = .ok (.goto (-37), 3) := dk_167 255 219 (dk_at dksX8_rowers_1 18 rfl rfl)
theorem dX8_rowers_44 : decode cX8_rowers 44 = .ok (.iload_n 2, 1) := dk_28 (dk_at dksX8_rowers_1 21 rfl rfl)
theorem dX8_rowers_45 : decode cX8_rowers 45 = .ok (.ireturn, 1) := dk_172 (dk_at dksX8_rowers_1 22 rfl rfl)
abbrev cX8_works : ByteArray := prog_19_method_42_code
def yX8_works : MethodName := ⟨RX8, "works", "(III)I"⟩
def dkwX8_works_5 : List UInt8 := [167, 0, 6, 27, 28, 108, 172]
abbrev dktX8_works_5 : List UInt8 := dkwX8_works_5 ++ []
def dkwX8_works_4 : List UInt8 := [167, 0, 4, 3, 172, 27, 28, 96, 172, 27, 28, 100, 172, 27, 28, 104, 172, 28, 154, 0, 7, 3]
abbrev dktX8_works_4 : List UInt8 := dkwX8_works_4 ++ dktX8_works_5
def dkwX8_works_3 : List UInt8 := [167, 0, 4, 3, 172, 27, 28, 162, 0, 7, 4, 167, 0, 4, 3, 172, 27, 28, 160, 0, 7, 4]
abbrev dktX8_works_3 : List UInt8 := dkwX8_works_3 ++ dktX8_works_4
def dkwX8_works_2 : List UInt8 := [27, 153, 0, 11, 28, 153, 0, 7, 4, 167, 0, 4, 3, 172, 27, 154, 0, 7, 28, 153, 0, 7, 4]
abbrev dktX8_works_2 : List UInt8 := dkwX8_works_2 ++ dktX8_works_3
def dkwX8_works_1 : List UInt8 := [170, 0, 0, 0, 0, 0, 105, 0, 0, 0, 4, 0, 0, 0, 10, 0, 0, 0, 43, 0, 0, 0, 57, 0, 0, 0, 71, 0, 0, 0, 82, 0, 0, 0, 93, 0, 0, 0, 97, 0, 0, 0, 101]
abbrev dktX8_works_1 : List UInt8 := dkwX8_works_1 ++ dktX8_works_2
def dkwX8_works_0 : List UInt8 := [26]
abbrev dktX8_works_0 : List UInt8 := dkwX8_works_0 ++ dktX8_works_1
theorem dksX8_works_0 : cX8_works.data.toList.drop 0 = dktX8_works_0 := by decide +kernel
theorem dksX8_works_1 : cX8_works.data.toList.drop 1 = dktX8_works_1 := dk_seg dksX8_works_0 1 rfl rfl
theorem dksX8_works_2 : cX8_works.data.toList.drop 44 = dktX8_works_2 := dk_seg dksX8_works_1 43 rfl rfl
theorem dksX8_works_3 : cX8_works.data.toList.drop 67 = dktX8_works_3 := dk_seg dksX8_works_2 23 rfl rfl
theorem dksX8_works_4 : cX8_works.data.toList.drop 89 = dktX8_works_4 := dk_seg dksX8_works_3 22 rfl rfl
theorem dksX8_works_5 : cX8_works.data.toList.drop 111 = dktX8_works_5 := dk_seg dksX8_works_4 22 rfl rfl
theorem dX8_works_0 : decode cX8_works 0 = .ok (.iload_n 0, 1) := dk_26 (dk_at dksX8_works_0 0 rfl rfl)
theorem dX8_works_1 : decode cX8_works 1 = .ok (.tableswitch 105 4 10 #[43, 57, 71, 82, 93, 97, 101], 43) := by decide +kernel
theorem dX8_works_44 : decode cX8_works 44 = .ok (.iload_n 1, 1) := dk_27 (dk_at dksX8_works_2 0 rfl rfl)
theorem dX8_works_45 : decode cX8_works 45 = .ok (.ifCond .eq 11, 3) := dk_153 0 11 (dk_at dksX8_works_2 1 rfl rfl)
theorem dX8_works_48 : decode cX8_works 48 = .ok (.iload_n 2, 1) := dk_28 (dk_at dksX8_works_2 4 rfl rfl)
theorem dX8_works_49 : decode cX8_works 49 = .ok (.ifCond .eq 7, 3) := dk_153 0 7 (dk_at dksX8_works_2 5 rfl rfl)
theorem dX8_works_52 : decode cX8_works 52 = .ok (.iconst 1, 1) := dk_4 (dk_at dksX8_works_2 8 rfl rfl)
theorem dX8_works_53 : decode cX8_works 53 = .ok (.goto 4, 3) := dk_167 0 4 (dk_at dksX8_works_2 9 rfl rfl)
theorem dX8_works_56 : decode cX8_works 56 = .ok (.iconst 0, 1) := dk_3 (dk_at dksX8_works_2 12 rfl rfl)
theorem dX8_works_57 : decode cX8_works 57 = .ok (.ireturn, 1) := dk_172 (dk_at dksX8_works_2 13 rfl rfl)
theorem dX8_works_58 : decode cX8_works 58 = .ok (.iload_n 1, 1) := dk_27 (dk_at dksX8_works_2 14 rfl rfl)
theorem dX8_works_59 : decode cX8_works 59 = .ok (.ifCond .ne 7, 3) := dk_154 0 7 (dk_at dksX8_works_2 15 rfl rfl)
theorem dX8_works_62 : decode cX8_works 62 = .ok (.iload_n 2, 1) := dk_28 (dk_at dksX8_works_2 18 rfl rfl)
theorem dX8_works_63 : decode cX8_works 63 = .ok (.ifCond .eq 7, 3) := dk_153 0 7 (dk_at dksX8_works_2 19 rfl rfl)
theorem dX8_works_66 : decode cX8_works 66 = .ok (.iconst 1, 1) := dk_4 (dk_at dksX8_works_2 22 rfl rfl)
theorem dX8_works_67 : decode cX8_works 67 = .ok (.goto 4, 3) := dk_167 0 4 (dk_at dksX8_works_3 0 rfl rfl)
theorem dX8_works_70 : decode cX8_works 70 = .ok (.iconst 0, 1) := dk_3 (dk_at dksX8_works_3 3 rfl rfl)
theorem dX8_works_71 : decode cX8_works 71 = .ok (.ireturn, 1) := dk_172 (dk_at dksX8_works_3 4 rfl rfl)
theorem dX8_works_72 : decode cX8_works 72 = .ok (.iload_n 1, 1) := dk_27 (dk_at dksX8_works_3 5 rfl rfl)
theorem dX8_works_73 : decode cX8_works 73 = .ok (.iload_n 2, 1) := dk_28 (dk_at dksX8_works_3 6 rfl rfl)
theorem dX8_works_74 : decode cX8_works 74 = .ok (.if_icmp .ge 7, 3) := dk_162 0 7 (dk_at dksX8_works_3 7 rfl rfl)
theorem dX8_works_77 : decode cX8_works 77 = .ok (.iconst 1, 1) := dk_4 (dk_at dksX8_works_3 10 rfl rfl)
theorem dX8_works_78 : decode cX8_works 78 = .ok (.goto 4, 3) := dk_167 0 4 (dk_at dksX8_works_3 11 rfl rfl)
theorem dX8_works_81 : decode cX8_works 81 = .ok (.iconst 0, 1) := dk_3 (dk_at dksX8_works_3 14 rfl rfl)
theorem dX8_works_82 : decode cX8_works 82 = .ok (.ireturn, 1) := dk_172 (dk_at dksX8_works_3 15 rfl rfl)
theorem dX8_works_83 : decode cX8_works 83 = .ok (.iload_n 1, 1) := dk_27 (dk_at dksX8_works_3 16 rfl rfl)
theorem dX8_works_84 : decode cX8_works 84 = .ok (.iload_n 2, 1) := dk_28 (dk_at dksX8_works_3 17 rfl rfl)
theorem dX8_works_85 : decode cX8_works 85 = .ok (.if_icmp .ne 7, 3) := dk_160 0 7 (dk_at dksX8_works_3 18 rfl rfl)
theorem dX8_works_88 : decode cX8_works 88 = .ok (.iconst 1, 1) := dk_4 (dk_at dksX8_works_3 21 rfl rfl)
theorem dX8_works_89 : decode cX8_works 89 = .ok (.goto 4, 3) := dk_167 0 4 (dk_at dksX8_works_4 0 rfl rfl)
theorem dX8_works_92 : decode cX8_works 92 = .ok (.iconst 0, 1) := dk_3 (dk_at dksX8_works_4 3 rfl rfl)
theorem dX8_works_93 : decode cX8_works 93 = .ok (.ireturn, 1) := dk_172 (dk_at dksX8_works_4 4 rfl rfl)
theorem dX8_works_94 : decode cX8_works 94 = .ok (.iload_n 1, 1) := dk_27 (dk_at dksX8_works_4 5 rfl rfl)
theorem dX8_works_95 : decode cX8_works 95 = .ok (.iload_n 2, 1) := dk_28 (dk_at dksX8_works_4 6 rfl rfl)
theorem dX8_works_96 : decode cX8_works 96 = .ok (.iadd, 1) := dk_96 (dk_at dksX8_works_4 7 rfl rfl)
theorem dX8_works_97 : decode cX8_works 97 = .ok (.ireturn, 1) := dk_172 (dk_at dksX8_works_4 8 rfl rfl)
theorem dX8_works_98 : decode cX8_works 98 = .ok (.iload_n 1, 1) := dk_27 (dk_at dksX8_works_4 9 rfl rfl)
theorem dX8_works_99 : decode cX8_works 99 = .ok (.iload_n 2, 1) := dk_28 (dk_at dksX8_works_4 10 rfl rfl)
theorem dX8_works_100 : decode cX8_works 100 = .ok (.isub, 1) := dk_100 (dk_at dksX8_works_4 11 rfl rfl)
theorem dX8_works_101 : decode cX8_works 101 = .ok (.ireturn, 1) := dk_172 (dk_at dksX8_works_4 12 rfl rfl)
theorem dX8_works_102 : decode cX8_works 102 = .ok (.iload_n 1, 1) := dk_27 (dk_at dksX8_works_4 13 rfl rfl)
theorem dX8_works_103 : decode cX8_works 103 = .ok (.iload_n 2, 1) := dk_28 (dk_at dksX8_works_4 14 rfl rfl)
theorem dX8_works_104 : decode cX8_works 104 = .ok (.imul, 1) := dk_104 (dk_at dksX8_works_4 15 rfl rfl)
theorem dX8_works_105 : decode cX8_works 105 = .ok (.ireturn, 1) := dk_172 (dk_at dksX8_works_4 16 rfl rfl)
theorem dX8_works_106 : decode cX8_works 106 = .ok (.iload_n 2, 1) := dk_28 (dk_at dksX8_works_4 17 rfl rfl)
theorem dX8_works_107 : decode cX8_works 107 = .ok (.ifCond .ne 7, 3) := dk_154 0 7 (dk_at dksX8_works_4 18 rfl rfl)
theorem dX8_works_110 : decode cX8_works 110 = .ok (.iconst 0, 1) := dk_3 (dk_at dksX8_works_4 21 rfl rfl)
theorem dX8_works_111 : decode cX8_works 111 = .ok (.goto 6, 3) := dk_167 0 6 (dk_at dksX8_works_5 0 rfl rfl)
theorem dX8_works_114 : decode cX8_works 114 = .ok (.iload_n 1, 1) := dk_27 (dk_at dksX8_works_5 3 rfl rfl)
theorem dX8_works_115 : decode cX8_works 115 = .ok (.iload_n 2, 1) := dk_28 (dk_at dksX8_works_5 4 rfl rfl)
theorem dX8_works_116 : decode cX8_works 116 = .ok (.idiv, 1) := dk_108 (dk_at dksX8_works_5 5 rfl rfl)
theorem dX8_works_117 : decode cX8_works 117 = .ok (.ireturn, 1) := dk_172 (dk_at dksX8_works_5 6 rfl rfl)
abbrev cX8_safe : ByteArray := prog_19_method_48_code
def yX8_safe : MethodName := ⟨RX8, "safe", "(IIZ)I"⟩
def dkwX8_safe_3 : List UInt8 := [21, 4, 172]
abbrev dktX8_safe_3 : List UInt8 := dkwX8_safe_3 ++ []
def dkwX8_safe_2 : List UInt8 := [29, 153, 0, 7, 4, 167, 0, 4, 3, 182, 1, 122, 154, 0, 6, 132, 4, 1, 132, 5, 1, 167, 255, 209]
abbrev dktX8_safe_2 : List UInt8 := dkwX8_safe_2 ++ dktX8_safe_3
def dkwX8_safe_1 : List UInt8 := [42, 182, 1, 119, 163, 0, 44, 42, 21, 5, 27, 27, 42, 180, 0, 7, 160, 0, 7, 4, 167, 0, 4, 28]
abbrev dktX8_safe_1 : List UInt8 := dkwX8_safe_1 ++ dktX8_safe_2
def dkwX8_safe_0 : List UInt8 := [42, 3, 181, 0, 173, 42, 27, 28, 182, 1, 115, 154, 0, 5, 3, 172, 3, 54, 4, 4, 54, 5, 21, 5]
abbrev dktX8_safe_0 : List UInt8 := dkwX8_safe_0 ++ dktX8_safe_1
theorem dksX8_safe_0 : cX8_safe.data.toList.drop 0 = dktX8_safe_0 := by decide +kernel
theorem dksX8_safe_1 : cX8_safe.data.toList.drop 24 = dktX8_safe_1 := dk_seg dksX8_safe_0 24 rfl rfl
theorem dksX8_safe_2 : cX8_safe.data.toList.drop 48 = dktX8_safe_2 := dk_seg dksX8_safe_1 24 rfl rfl
theorem dksX8_safe_3 : cX8_safe.data.toList.drop 72 = dktX8_safe_3 := dk_seg dksX8_safe_2 24 rfl rfl
theorem dX8_safe_0 : decode cX8_safe 0 = .ok (.aload_n 0, 1) := dk_42 (dk_at dksX8_safe_0 0 rfl rfl)
theorem dX8_safe_1 : decode cX8_safe 1 = .ok (.iconst 0, 1) := dk_3 (dk_at dksX8_safe_0 1 rfl rfl)
theorem dX8_safe_2 : decode cX8_safe 2 = .ok (.putfield 173, 3) := dk_181 0 173 (dk_at dksX8_safe_0 2 rfl rfl)
theorem dX8_safe_5 : decode cX8_safe 5 = .ok (.aload_n 0, 1) := dk_42 (dk_at dksX8_safe_0 5 rfl rfl)
theorem dX8_safe_6 : decode cX8_safe 6 = .ok (.iload_n 1, 1) := dk_27 (dk_at dksX8_safe_0 6 rfl rfl)
theorem dX8_safe_7 : decode cX8_safe 7 = .ok (.iload_n 2, 1) := dk_28 (dk_at dksX8_safe_0 7 rfl rfl)
theorem dX8_safe_8 : decode cX8_safe 8 = .ok (.invokevirtual 371, 3) := dk_182 1 115 (dk_at dksX8_safe_0 8 rfl rfl)
theorem dX8_safe_11 : decode cX8_safe 11 = .ok (.ifCond .ne 5, 3) := dk_154 0 5 (dk_at dksX8_safe_0 11 rfl rfl)
theorem dX8_safe_14 : decode cX8_safe 14 = .ok (.iconst 0, 1) := dk_3 (dk_at dksX8_safe_0 14 rfl rfl)
theorem dX8_safe_15 : decode cX8_safe 15 = .ok (.ireturn, 1) := dk_172 (dk_at dksX8_safe_0 15 rfl rfl)
theorem dX8_safe_16 : decode cX8_safe 16 = .ok (.iconst 0, 1) := dk_3 (dk_at dksX8_safe_0 16 rfl rfl)
theorem dX8_safe_17 : decode cX8_safe 17 = .ok (.istore 4, 2) := dk_54 4 (dk_at dksX8_safe_0 17 rfl rfl)
theorem dX8_safe_19 : decode cX8_safe 19 = .ok (.iconst 1, 1) := dk_4 (dk_at dksX8_safe_0 19 rfl rfl)
theorem dX8_safe_20 : decode cX8_safe 20 = .ok (.istore 5, 2) := dk_54 5 (dk_at dksX8_safe_0 20 rfl rfl)
theorem dX8_safe_22 : decode cX8_safe 22 = .ok (.iload 5, 2) := dk_21 5 (dk_at dksX8_safe_0 22 rfl rfl)
theorem dX8_safe_24 : decode cX8_safe 24 = .ok (.aload_n 0, 1) := dk_42 (dk_at dksX8_safe_1 0 rfl rfl)
theorem dX8_safe_25 : decode cX8_safe 25 = .ok (.invokevirtual 375, 3) := dk_182 1 119 (dk_at dksX8_safe_1 1 rfl rfl)
theorem dX8_safe_28 : decode cX8_safe 28 = .ok (.if_icmp .gt 44, 3) := dk_163 0 44 (dk_at dksX8_safe_1 4 rfl rfl)
theorem dX8_safe_31 : decode cX8_safe 31 = .ok (.aload_n 0, 1) := dk_42 (dk_at dksX8_safe_1 7 rfl rfl)
theorem dX8_safe_32 : decode cX8_safe 32 = .ok (.iload 5, 2) := dk_21 5 (dk_at dksX8_safe_1 8 rfl rfl)
theorem dX8_safe_34 : decode cX8_safe 34 = .ok (.iload_n 1, 1) := dk_27 (dk_at dksX8_safe_1 10 rfl rfl)
theorem dX8_safe_35 : decode cX8_safe 35 = .ok (.iload_n 1, 1) := dk_27 (dk_at dksX8_safe_1 11 rfl rfl)
theorem dX8_safe_36 : decode cX8_safe 36 = .ok (.aload_n 0, 1) := dk_42 (dk_at dksX8_safe_1 12 rfl rfl)
theorem dX8_safe_37 : decode cX8_safe 37 = .ok (.getfield 7, 3) := dk_180 0 7 (dk_at dksX8_safe_1 13 rfl rfl)
theorem dX8_safe_40 : decode cX8_safe 40 = .ok (.if_icmp .ne 7, 3) := dk_160 0 7 (dk_at dksX8_safe_1 16 rfl rfl)
theorem dX8_safe_43 : decode cX8_safe 43 = .ok (.iconst 1, 1) := dk_4 (dk_at dksX8_safe_1 19 rfl rfl)
theorem dX8_safe_44 : decode cX8_safe 44 = .ok (.goto 4, 3) := dk_167 0 4 (dk_at dksX8_safe_1 20 rfl rfl)
theorem dX8_safe_47 : decode cX8_safe 47 = .ok (.iload_n 2, 1) := dk_28 (dk_at dksX8_safe_1 23 rfl rfl)
theorem dX8_safe_48 : decode cX8_safe 48 = .ok (.iload_n 3, 1) := dk_29 (dk_at dksX8_safe_2 0 rfl rfl)
theorem dX8_safe_49 : decode cX8_safe 49 = .ok (.ifCond .eq 7, 3) := dk_153 0 7 (dk_at dksX8_safe_2 1 rfl rfl)
theorem dX8_safe_52 : decode cX8_safe 52 = .ok (.iconst 1, 1) := dk_4 (dk_at dksX8_safe_2 4 rfl rfl)
theorem dX8_safe_53 : decode cX8_safe 53 = .ok (.goto 4, 3) := dk_167 0 4 (dk_at dksX8_safe_2 5 rfl rfl)
theorem dX8_safe_56 : decode cX8_safe 56 = .ok (.iconst 0, 1) := dk_3 (dk_at dksX8_safe_2 8 rfl rfl)
theorem dX8_safe_57 : decode cX8_safe 57 = .ok (.invokevirtual 378, 3) := dk_182 1 122 (dk_at dksX8_safe_2 9 rfl rfl)
theorem dX8_safe_60 : decode cX8_safe 60 = .ok (.ifCond .ne 6, 3) := dk_154 0 6 (dk_at dksX8_safe_2 12 rfl rfl)
theorem dX8_safe_63 : decode cX8_safe 63 = .ok (.iinc 4 1, 3) := dk_132 4 1 (dk_at dksX8_safe_2 15 rfl rfl)
theorem dX8_safe_66 : decode cX8_safe 66 = .ok (.iinc 5 1, 3) := dk_132 5 1 (dk_at dksX8_safe_2 18 rfl rfl)
theorem dX8_safe_69 : decode cX8_safe 69 = .ok (.goto (-47), 3) := dk_167 255 209 (dk_at dksX8_safe_2 21 rfl rfl)
theorem dX8_safe_72 : decode cX8_safe 72 = .ok (.iload 4, 2) := dk_21 4 (dk_at dksX8_safe_3 0 rfl rfl)
theorem dX8_safe_74 : decode cX8_safe 74 = .ok (.ireturn, 1) := dk_172 (dk_at dksX8_safe_3 2 rfl rfl)
abbrev cX8_alike : ByteArray := prog_19_method_49_code
def yX8_alike : MethodName := ⟨RX8, "alike", "(I)I"⟩
def dkwX8_alike_4 : List UInt8 := [132, 3, 1, 167, 255, 195, 28, 172]
abbrev dktX8_alike_4 : List UInt8 := dkwX8_alike_4 ++ []
def dkwX8_alike_3 : List UInt8 := [42, 180, 0, 20, 27, 46, 160, 0, 18, 42, 27, 29, 182, 1, 126, 153, 0, 9, 28, 4, 29, 120, 128, 61]
abbrev dktX8_alike_3 : List UInt8 := dkwX8_alike_3 ++ dktX8_alike_4
def dkwX8_alike_2 : List UInt8 := [159, 0, 48, 42, 180, 0, 16, 29, 46, 42, 180, 0, 16, 27, 46, 160, 0, 33, 42, 180, 0, 20, 29, 46]
abbrev dktX8_alike_2 : List UInt8 := dkwX8_alike_2 ++ dktX8_alike_3
def dkwX8_alike_1 : List UInt8 := [182, 1, 72, 154, 0, 5, 3, 172, 4, 27, 120, 61, 3, 62, 29, 42, 180, 1, 82, 162, 0, 59, 29, 27]
abbrev dktX8_alike_1 : List UInt8 := dkwX8_alike_1 ++ dktX8_alike_2
def dkwX8_alike_0 : List UInt8 := [42, 3, 181, 0, 173, 42, 27, 155, 0, 15, 27, 42, 180, 1, 82, 162, 0, 7, 4, 167, 0, 4, 3, 4]
abbrev dktX8_alike_0 : List UInt8 := dkwX8_alike_0 ++ dktX8_alike_1
theorem dksX8_alike_0 : cX8_alike.data.toList.drop 0 = dktX8_alike_0 := by decide +kernel
theorem dksX8_alike_1 : cX8_alike.data.toList.drop 24 = dktX8_alike_1 := dk_seg dksX8_alike_0 24 rfl rfl
theorem dksX8_alike_2 : cX8_alike.data.toList.drop 48 = dktX8_alike_2 := dk_seg dksX8_alike_1 24 rfl rfl
theorem dksX8_alike_3 : cX8_alike.data.toList.drop 72 = dktX8_alike_3 := dk_seg dksX8_alike_2 24 rfl rfl
theorem dksX8_alike_4 : cX8_alike.data.toList.drop 96 = dktX8_alike_4 := dk_seg dksX8_alike_3 24 rfl rfl
theorem dX8_alike_0 : decode cX8_alike 0 = .ok (.aload_n 0, 1) := dk_42 (dk_at dksX8_alike_0 0 rfl rfl)
theorem dX8_alike_1 : decode cX8_alike 1 = .ok (.iconst 0, 1) := dk_3 (dk_at dksX8_alike_0 1 rfl rfl)
theorem dX8_alike_2 : decode cX8_alike 2 = .ok (.putfield 173, 3) := dk_181 0 173 (dk_at dksX8_alike_0 2 rfl rfl)
theorem dX8_alike_5 : decode cX8_alike 5 = .ok (.aload_n 0, 1) := dk_42 (dk_at dksX8_alike_0 5 rfl rfl)
theorem dX8_alike_6 : decode cX8_alike 6 = .ok (.iload_n 1, 1) := dk_27 (dk_at dksX8_alike_0 6 rfl rfl)
theorem dX8_alike_7 : decode cX8_alike 7 = .ok (.ifCond .lt 15, 3) := dk_155 0 15 (dk_at dksX8_alike_0 7 rfl rfl)
theorem dX8_alike_10 : decode cX8_alike 10 = .ok (.iload_n 1, 1) := dk_27 (dk_at dksX8_alike_0 10 rfl rfl)
theorem dX8_alike_11 : decode cX8_alike 11 = .ok (.aload_n 0, 1) := dk_42 (dk_at dksX8_alike_0 11 rfl rfl)
theorem dX8_alike_12 : decode cX8_alike 12 = .ok (.getfield 338, 3) := dk_180 1 82 (dk_at dksX8_alike_0 12 rfl rfl)
theorem dX8_alike_15 : decode cX8_alike 15 = .ok (.if_icmp .ge 7, 3) := dk_162 0 7 (dk_at dksX8_alike_0 15 rfl rfl)
theorem dX8_alike_18 : decode cX8_alike 18 = .ok (.iconst 1, 1) := dk_4 (dk_at dksX8_alike_0 18 rfl rfl)
theorem dX8_alike_19 : decode cX8_alike 19 = .ok (.goto 4, 3) := dk_167 0 4 (dk_at dksX8_alike_0 19 rfl rfl)
theorem dX8_alike_22 : decode cX8_alike 22 = .ok (.iconst 0, 1) := dk_3 (dk_at dksX8_alike_0 22 rfl rfl)
theorem dX8_alike_23 : decode cX8_alike 23 = .ok (.iconst 1, 1) := dk_4 (dk_at dksX8_alike_0 23 rfl rfl)
theorem dX8_alike_24 : decode cX8_alike 24 = .ok (.invokevirtual 328, 3) := dk_182 1 72 (dk_at dksX8_alike_1 0 rfl rfl)
theorem dX8_alike_27 : decode cX8_alike 27 = .ok (.ifCond .ne 5, 3) := dk_154 0 5 (dk_at dksX8_alike_1 3 rfl rfl)
theorem dX8_alike_30 : decode cX8_alike 30 = .ok (.iconst 0, 1) := dk_3 (dk_at dksX8_alike_1 6 rfl rfl)
theorem dX8_alike_31 : decode cX8_alike 31 = .ok (.ireturn, 1) := dk_172 (dk_at dksX8_alike_1 7 rfl rfl)
theorem dX8_alike_32 : decode cX8_alike 32 = .ok (.iconst 1, 1) := dk_4 (dk_at dksX8_alike_1 8 rfl rfl)
theorem dX8_alike_33 : decode cX8_alike 33 = .ok (.iload_n 1, 1) := dk_27 (dk_at dksX8_alike_1 9 rfl rfl)
theorem dX8_alike_34 : decode cX8_alike 34 = .ok (.ishl, 1) := dk_120 (dk_at dksX8_alike_1 10 rfl rfl)
theorem dX8_alike_35 : decode cX8_alike 35 = .ok (.istore_n 2, 1) := dk_61 (dk_at dksX8_alike_1 11 rfl rfl)
theorem dX8_alike_36 : decode cX8_alike 36 = .ok (.iconst 0, 1) := dk_3 (dk_at dksX8_alike_1 12 rfl rfl)
theorem dX8_alike_37 : decode cX8_alike 37 = .ok (.istore_n 3, 1) := dk_62 (dk_at dksX8_alike_1 13 rfl rfl)
theorem dX8_alike_38 : decode cX8_alike 38 = .ok (.iload_n 3, 1) := dk_29 (dk_at dksX8_alike_1 14 rfl rfl)
theorem dX8_alike_39 : decode cX8_alike 39 = .ok (.aload_n 0, 1) := dk_42 (dk_at dksX8_alike_1 15 rfl rfl)
theorem dX8_alike_40 : decode cX8_alike 40 = .ok (.getfield 338, 3) := dk_180 1 82 (dk_at dksX8_alike_1 16 rfl rfl)
theorem dX8_alike_43 : decode cX8_alike 43 = .ok (.if_icmp .ge 59, 3) := dk_162 0 59 (dk_at dksX8_alike_1 19 rfl rfl)
theorem dX8_alike_46 : decode cX8_alike 46 = .ok (.iload_n 3, 1) := dk_29 (dk_at dksX8_alike_1 22 rfl rfl)
theorem dX8_alike_47 : decode cX8_alike 47 = .ok (.iload_n 1, 1) := dk_27 (dk_at dksX8_alike_1 23 rfl rfl)
theorem dX8_alike_48 : decode cX8_alike 48 = .ok (.if_icmp .eq 48, 3) := dk_159 0 48 (dk_at dksX8_alike_2 0 rfl rfl)
theorem dX8_alike_51 : decode cX8_alike 51 = .ok (.aload_n 0, 1) := dk_42 (dk_at dksX8_alike_2 3 rfl rfl)
theorem dX8_alike_52 : decode cX8_alike 52 = .ok (.getfield 16, 3) := dk_180 0 16 (dk_at dksX8_alike_2 4 rfl rfl)
theorem dX8_alike_55 : decode cX8_alike 55 = .ok (.iload_n 3, 1) := dk_29 (dk_at dksX8_alike_2 7 rfl rfl)
theorem dX8_alike_56 : decode cX8_alike 56 = .ok (.iaload, 1) := dk_46 (dk_at dksX8_alike_2 8 rfl rfl)
theorem dX8_alike_57 : decode cX8_alike 57 = .ok (.aload_n 0, 1) := dk_42 (dk_at dksX8_alike_2 9 rfl rfl)
theorem dX8_alike_58 : decode cX8_alike 58 = .ok (.getfield 16, 3) := dk_180 0 16 (dk_at dksX8_alike_2 10 rfl rfl)
theorem dX8_alike_61 : decode cX8_alike 61 = .ok (.iload_n 1, 1) := dk_27 (dk_at dksX8_alike_2 13 rfl rfl)
theorem dX8_alike_62 : decode cX8_alike 62 = .ok (.iaload, 1) := dk_46 (dk_at dksX8_alike_2 14 rfl rfl)
theorem dX8_alike_63 : decode cX8_alike 63 = .ok (.if_icmp .ne 33, 3) := dk_160 0 33 (dk_at dksX8_alike_2 15 rfl rfl)
theorem dX8_alike_66 : decode cX8_alike 66 = .ok (.aload_n 0, 1) := dk_42 (dk_at dksX8_alike_2 18 rfl rfl)
theorem dX8_alike_67 : decode cX8_alike 67 = .ok (.getfield 20, 3) := dk_180 0 20 (dk_at dksX8_alike_2 19 rfl rfl)
theorem dX8_alike_70 : decode cX8_alike 70 = .ok (.iload_n 3, 1) := dk_29 (dk_at dksX8_alike_2 22 rfl rfl)
theorem dX8_alike_71 : decode cX8_alike 71 = .ok (.iaload, 1) := dk_46 (dk_at dksX8_alike_2 23 rfl rfl)
theorem dX8_alike_72 : decode cX8_alike 72 = .ok (.aload_n 0, 1) := dk_42 (dk_at dksX8_alike_3 0 rfl rfl)
theorem dX8_alike_73 : decode cX8_alike 73 = .ok (.getfield 20, 3) := dk_180 0 20 (dk_at dksX8_alike_3 1 rfl rfl)
theorem dX8_alike_76 : decode cX8_alike 76 = .ok (.iload_n 1, 1) := dk_27 (dk_at dksX8_alike_3 4 rfl rfl)
theorem dX8_alike_77 : decode cX8_alike 77 = .ok (.iaload, 1) := dk_46 (dk_at dksX8_alike_3 5 rfl rfl)
theorem dX8_alike_78 : decode cX8_alike 78 = .ok (.if_icmp .ne 18, 3) := dk_160 0 18 (dk_at dksX8_alike_3 6 rfl rfl)
theorem dX8_alike_81 : decode cX8_alike 81 = .ok (.aload_n 0, 1) := dk_42 (dk_at dksX8_alike_3 9 rfl rfl)
theorem dX8_alike_82 : decode cX8_alike 82 = .ok (.iload_n 1, 1) := dk_27 (dk_at dksX8_alike_3 10 rfl rfl)
theorem dX8_alike_83 : decode cX8_alike 83 = .ok (.iload_n 3, 1) := dk_29 (dk_at dksX8_alike_3 11 rfl rfl)
theorem dX8_alike_84 : decode cX8_alike 84 = .ok (.invokevirtual 382, 3) := dk_182 1 126 (dk_at dksX8_alike_3 12 rfl rfl)
theorem dX8_alike_87 : decode cX8_alike 87 = .ok (.ifCond .eq 9, 3) := dk_153 0 9 (dk_at dksX8_alike_3 15 rfl rfl)
theorem dX8_alike_90 : decode cX8_alike 90 = .ok (.iload_n 2, 1) := dk_28 (dk_at dksX8_alike_3 18 rfl rfl)
theorem dX8_alike_91 : decode cX8_alike 91 = .ok (.iconst 1, 1) := dk_4 (dk_at dksX8_alike_3 19 rfl rfl)
theorem dX8_alike_92 : decode cX8_alike 92 = .ok (.iload_n 3, 1) := dk_29 (dk_at dksX8_alike_3 20 rfl rfl)
theorem dX8_alike_93 : decode cX8_alike 93 = .ok (.ishl, 1) := dk_120 (dk_at dksX8_alike_3 21 rfl rfl)
theorem dX8_alike_94 : decode cX8_alike 94 = .ok (.ior, 1) := dk_128 (dk_at dksX8_alike_3 22 rfl rfl)
theorem dX8_alike_95 : decode cX8_alike 95 = .ok (.istore_n 2, 1) := dk_61 (dk_at dksX8_alike_3 23 rfl rfl)
theorem dX8_alike_96 : decode cX8_alike 96 = .ok (.iinc 3 1, 3) := dk_132 3 1 (dk_at dksX8_alike_4 0 rfl rfl)
theorem dX8_alike_99 : decode cX8_alike 99 = .ok (.goto (-61), 3) := dk_167 255 195 (dk_at dksX8_alike_4 3 rfl rfl)
theorem dX8_alike_102 : decode cX8_alike 102 = .ok (.iload_n 2, 1) := dk_28 (dk_at dksX8_alike_4 6 rfl rfl)
theorem dX8_alike_103 : decode cX8_alike 103 = .ok (.ireturn, 1) := dk_172 (dk_at dksX8_alike_4 7 rfl rfl)
abbrev cX8_areAlike : ByteArray := prog_19_method_50_code
def yX8_areAlike : MethodName := ⟨RX8, "areAlike", "(II)Z"⟩
def dkwX8_areAlike_6 : List UInt8 := [167, 255, 160, 132, 3, 1, 167, 255, 110, 4, 172]
abbrev dktX8_areAlike_6 : List UInt8 := dkwX8_areAlike_6 ++ []
def dkwX8_areAlike_5 : List UInt8 := [182, 1, 122, 159, 0, 5, 3, 172, 132, 7, 1, 167, 255, 219, 132, 6, 1, 167, 255, 191, 132, 5, 1]
abbrev dktX8_areAlike_5 : List UInt8 := dkwX8_areAlike_5 ++ dktX8_areAlike_6
def dkwX8_areAlike_4 : List UInt8 := [5, 162, 0, 37, 42, 29, 21, 5, 21, 6, 21, 7, 182, 1, 122, 42, 21, 4, 21, 5, 21, 6, 21, 7]
abbrev dktX8_areAlike_4 : List UInt8 := dkwX8_areAlike_4 ++ dktX8_areAlike_5
def dkwX8_areAlike_3 : List UInt8 := [21, 6, 21, 5, 42, 180, 0, 7, 160, 0, 7, 4, 167, 0, 4, 5, 163, 0, 52, 3, 54, 7, 21, 7]
abbrev dktX8_areAlike_3 : List UInt8 := dkwX8_areAlike_3 ++ dktX8_areAlike_4
def dkwX8_areAlike_2 : List UInt8 := [42, 180, 0, 7, 163, 0, 93, 21, 5, 42, 180, 0, 7, 160, 0, 7, 4, 167, 0, 4, 3, 54, 6]
abbrev dktX8_areAlike_2 : List UInt8 := dkwX8_areAlike_2 ++ dktX8_areAlike_3
def dkwX8_areAlike_1 : List UInt8 := [160, 0, 6, 167, 0, 118, 29, 4, 27, 120, 2, 130, 126, 4, 28, 120, 128, 54, 4, 3, 54, 5, 21, 5]
abbrev dktX8_areAlike_1 : List UInt8 := dkwX8_areAlike_1 ++ dktX8_areAlike_2
def dkwX8_areAlike_0 : List UInt8 := [4, 62, 29, 42, 182, 1, 119, 163, 0, 144, 29, 27, 122, 4, 126, 153, 0, 130, 29, 28, 122, 4, 126, 4]
abbrev dktX8_areAlike_0 : List UInt8 := dkwX8_areAlike_0 ++ dktX8_areAlike_1
theorem dksX8_areAlike_0 : cX8_areAlike.data.toList.drop 0 = dktX8_areAlike_0 := by decide +kernel
theorem dksX8_areAlike_1 : cX8_areAlike.data.toList.drop 24 = dktX8_areAlike_1 := dk_seg dksX8_areAlike_0 24 rfl rfl
theorem dksX8_areAlike_2 : cX8_areAlike.data.toList.drop 48 = dktX8_areAlike_2 := dk_seg dksX8_areAlike_1 24 rfl rfl
theorem dksX8_areAlike_3 : cX8_areAlike.data.toList.drop 71 = dktX8_areAlike_3 := dk_seg dksX8_areAlike_2 23 rfl rfl
theorem dksX8_areAlike_4 : cX8_areAlike.data.toList.drop 95 = dktX8_areAlike_4 := dk_seg dksX8_areAlike_3 24 rfl rfl
theorem dksX8_areAlike_5 : cX8_areAlike.data.toList.drop 119 = dktX8_areAlike_5 := dk_seg dksX8_areAlike_4 24 rfl rfl
theorem dksX8_areAlike_6 : cX8_areAlike.data.toList.drop 142 = dktX8_areAlike_6 := dk_seg dksX8_areAlike_5 23 rfl rfl
theorem dX8_areAlike_0 : decode cX8_areAlike 0 = .ok (.iconst 1, 1) := dk_4 (dk_at dksX8_areAlike_0 0 rfl rfl)
theorem dX8_areAlike_1 : decode cX8_areAlike 1 = .ok (.istore_n 3, 1) := dk_62 (dk_at dksX8_areAlike_0 1 rfl rfl)
theorem dX8_areAlike_2 : decode cX8_areAlike 2 = .ok (.iload_n 3, 1) := dk_29 (dk_at dksX8_areAlike_0 2 rfl rfl)
theorem dX8_areAlike_3 : decode cX8_areAlike 3 = .ok (.aload_n 0, 1) := dk_42 (dk_at dksX8_areAlike_0 3 rfl rfl)
theorem dX8_areAlike_4 : decode cX8_areAlike 4 = .ok (.invokevirtual 375, 3) := dk_182 1 119 (dk_at dksX8_areAlike_0 4 rfl rfl)
theorem dX8_areAlike_7 : decode cX8_areAlike 7 = .ok (.if_icmp .gt 144, 3) := dk_163 0 144 (dk_at dksX8_areAlike_0 7 rfl rfl)
theorem dX8_areAlike_10 : decode cX8_areAlike 10 = .ok (.iload_n 3, 1) := dk_29 (dk_at dksX8_areAlike_0 10 rfl rfl)
theorem dX8_areAlike_11 : decode cX8_areAlike 11 = .ok (.iload_n 1, 1) := dk_27 (dk_at dksX8_areAlike_0 11 rfl rfl)
theorem dX8_areAlike_12 : decode cX8_areAlike 12 = .ok (.ishr, 1) := dk_122 (dk_at dksX8_areAlike_0 12 rfl rfl)
theorem dX8_areAlike_13 : decode cX8_areAlike 13 = .ok (.iconst 1, 1) := dk_4 (dk_at dksX8_areAlike_0 13 rfl rfl)
theorem dX8_areAlike_14 : decode cX8_areAlike 14 = .ok (.iand, 1) := dk_126 (dk_at dksX8_areAlike_0 14 rfl rfl)
theorem dX8_areAlike_15 : decode cX8_areAlike 15 = .ok (.ifCond .eq 130, 3) := dk_153 0 130 (dk_at dksX8_areAlike_0 15 rfl rfl)
theorem dX8_areAlike_18 : decode cX8_areAlike 18 = .ok (.iload_n 3, 1) := dk_29 (dk_at dksX8_areAlike_0 18 rfl rfl)
theorem dX8_areAlike_19 : decode cX8_areAlike 19 = .ok (.iload_n 2, 1) := dk_28 (dk_at dksX8_areAlike_0 19 rfl rfl)
theorem dX8_areAlike_20 : decode cX8_areAlike 20 = .ok (.ishr, 1) := dk_122 (dk_at dksX8_areAlike_0 20 rfl rfl)
theorem dX8_areAlike_21 : decode cX8_areAlike 21 = .ok (.iconst 1, 1) := dk_4 (dk_at dksX8_areAlike_0 21 rfl rfl)
theorem dX8_areAlike_22 : decode cX8_areAlike 22 = .ok (.iand, 1) := dk_126 (dk_at dksX8_areAlike_0 22 rfl rfl)
theorem dX8_areAlike_23 : decode cX8_areAlike 23 = .ok (.iconst 1, 1) := dk_4 (dk_at dksX8_areAlike_0 23 rfl rfl)
theorem dX8_areAlike_24 : decode cX8_areAlike 24 = .ok (.if_icmp .ne 6, 3) := dk_160 0 6 (dk_at dksX8_areAlike_1 0 rfl rfl)
theorem dX8_areAlike_27 : decode cX8_areAlike 27 = .ok (.goto 118, 3) := dk_167 0 118 (dk_at dksX8_areAlike_1 3 rfl rfl)
theorem dX8_areAlike_30 : decode cX8_areAlike 30 = .ok (.iload_n 3, 1) := dk_29 (dk_at dksX8_areAlike_1 6 rfl rfl)
theorem dX8_areAlike_31 : decode cX8_areAlike 31 = .ok (.iconst 1, 1) := dk_4 (dk_at dksX8_areAlike_1 7 rfl rfl)
theorem dX8_areAlike_32 : decode cX8_areAlike 32 = .ok (.iload_n 1, 1) := dk_27 (dk_at dksX8_areAlike_1 8 rfl rfl)
theorem dX8_areAlike_33 : decode cX8_areAlike 33 = .ok (.ishl, 1) := dk_120 (dk_at dksX8_areAlike_1 9 rfl rfl)
theorem dX8_areAlike_34 : decode cX8_areAlike 34 = .ok (.iconst (-1), 1) := dk_2 (dk_at dksX8_areAlike_1 10 rfl rfl)
theorem dX8_areAlike_35 : decode cX8_areAlike 35 = .ok (.ixor, 1) := dk_130 (dk_at dksX8_areAlike_1 11 rfl rfl)
theorem dX8_areAlike_36 : decode cX8_areAlike 36 = .ok (.iand, 1) := dk_126 (dk_at dksX8_areAlike_1 12 rfl rfl)
theorem dX8_areAlike_37 : decode cX8_areAlike 37 = .ok (.iconst 1, 1) := dk_4 (dk_at dksX8_areAlike_1 13 rfl rfl)
theorem dX8_areAlike_38 : decode cX8_areAlike 38 = .ok (.iload_n 2, 1) := dk_28 (dk_at dksX8_areAlike_1 14 rfl rfl)
theorem dX8_areAlike_39 : decode cX8_areAlike 39 = .ok (.ishl, 1) := dk_120 (dk_at dksX8_areAlike_1 15 rfl rfl)
theorem dX8_areAlike_40 : decode cX8_areAlike 40 = .ok (.ior, 1) := dk_128 (dk_at dksX8_areAlike_1 16 rfl rfl)
theorem dX8_areAlike_41 : decode cX8_areAlike 41 = .ok (.istore 4, 2) := dk_54 4 (dk_at dksX8_areAlike_1 17 rfl rfl)
theorem dX8_areAlike_43 : decode cX8_areAlike 43 = .ok (.iconst 0, 1) := dk_3 (dk_at dksX8_areAlike_1 19 rfl rfl)
theorem dX8_areAlike_44 : decode cX8_areAlike 44 = .ok (.istore 5, 2) := dk_54 5 (dk_at dksX8_areAlike_1 20 rfl rfl)
theorem dX8_areAlike_46 : decode cX8_areAlike 46 = .ok (.iload 5, 2) := dk_21 5 (dk_at dksX8_areAlike_1 22 rfl rfl)
theorem dX8_areAlike_48 : decode cX8_areAlike 48 = .ok (.aload_n 0, 1) := dk_42 (dk_at dksX8_areAlike_2 0 rfl rfl)
theorem dX8_areAlike_49 : decode cX8_areAlike 49 = .ok (.getfield 7, 3) := dk_180 0 7 (dk_at dksX8_areAlike_2 1 rfl rfl)
theorem dX8_areAlike_52 : decode cX8_areAlike 52 = .ok (.if_icmp .gt 93, 3) := dk_163 0 93 (dk_at dksX8_areAlike_2 4 rfl rfl)
theorem dX8_areAlike_55 : decode cX8_areAlike 55 = .ok (.iload 5, 2) := dk_21 5 (dk_at dksX8_areAlike_2 7 rfl rfl)
theorem dX8_areAlike_57 : decode cX8_areAlike 57 = .ok (.aload_n 0, 1) := dk_42 (dk_at dksX8_areAlike_2 9 rfl rfl)
theorem dX8_areAlike_58 : decode cX8_areAlike 58 = .ok (.getfield 7, 3) := dk_180 0 7 (dk_at dksX8_areAlike_2 10 rfl rfl)
theorem dX8_areAlike_61 : decode cX8_areAlike 61 = .ok (.if_icmp .ne 7, 3) := dk_160 0 7 (dk_at dksX8_areAlike_2 13 rfl rfl)
theorem dX8_areAlike_64 : decode cX8_areAlike 64 = .ok (.iconst 1, 1) := dk_4 (dk_at dksX8_areAlike_2 16 rfl rfl)
theorem dX8_areAlike_65 : decode cX8_areAlike 65 = .ok (.goto 4, 3) := dk_167 0 4 (dk_at dksX8_areAlike_2 17 rfl rfl)
theorem dX8_areAlike_68 : decode cX8_areAlike 68 = .ok (.iconst 0, 1) := dk_3 (dk_at dksX8_areAlike_2 20 rfl rfl)
theorem dX8_areAlike_69 : decode cX8_areAlike 69 = .ok (.istore 6, 2) := dk_54 6 (dk_at dksX8_areAlike_2 21 rfl rfl)
theorem dX8_areAlike_71 : decode cX8_areAlike 71 = .ok (.iload 6, 2) := dk_21 6 (dk_at dksX8_areAlike_3 0 rfl rfl)
theorem dX8_areAlike_73 : decode cX8_areAlike 73 = .ok (.iload 5, 2) := dk_21 5 (dk_at dksX8_areAlike_3 2 rfl rfl)
theorem dX8_areAlike_75 : decode cX8_areAlike 75 = .ok (.aload_n 0, 1) := dk_42 (dk_at dksX8_areAlike_3 4 rfl rfl)
theorem dX8_areAlike_76 : decode cX8_areAlike 76 = .ok (.getfield 7, 3) := dk_180 0 7 (dk_at dksX8_areAlike_3 5 rfl rfl)
theorem dX8_areAlike_79 : decode cX8_areAlike 79 = .ok (.if_icmp .ne 7, 3) := dk_160 0 7 (dk_at dksX8_areAlike_3 8 rfl rfl)
theorem dX8_areAlike_82 : decode cX8_areAlike 82 = .ok (.iconst 1, 1) := dk_4 (dk_at dksX8_areAlike_3 11 rfl rfl)
theorem dX8_areAlike_83 : decode cX8_areAlike 83 = .ok (.goto 4, 3) := dk_167 0 4 (dk_at dksX8_areAlike_3 12 rfl rfl)
theorem dX8_areAlike_86 : decode cX8_areAlike 86 = .ok (.iconst 2, 1) := dk_5 (dk_at dksX8_areAlike_3 15 rfl rfl)
theorem dX8_areAlike_87 : decode cX8_areAlike 87 = .ok (.if_icmp .gt 52, 3) := dk_163 0 52 (dk_at dksX8_areAlike_3 16 rfl rfl)
theorem dX8_areAlike_90 : decode cX8_areAlike 90 = .ok (.iconst 0, 1) := dk_3 (dk_at dksX8_areAlike_3 19 rfl rfl)
theorem dX8_areAlike_91 : decode cX8_areAlike 91 = .ok (.istore 7, 2) := dk_54 7 (dk_at dksX8_areAlike_3 20 rfl rfl)
theorem dX8_areAlike_93 : decode cX8_areAlike 93 = .ok (.iload 7, 2) := dk_21 7 (dk_at dksX8_areAlike_3 22 rfl rfl)
theorem dX8_areAlike_95 : decode cX8_areAlike 95 = .ok (.iconst 2, 1) := dk_5 (dk_at dksX8_areAlike_4 0 rfl rfl)
theorem dX8_areAlike_96 : decode cX8_areAlike 96 = .ok (.if_icmp .ge 37, 3) := dk_162 0 37 (dk_at dksX8_areAlike_4 1 rfl rfl)
theorem dX8_areAlike_99 : decode cX8_areAlike 99 = .ok (.aload_n 0, 1) := dk_42 (dk_at dksX8_areAlike_4 4 rfl rfl)
theorem dX8_areAlike_100 : decode cX8_areAlike 100 = .ok (.iload_n 3, 1) := dk_29 (dk_at dksX8_areAlike_4 5 rfl rfl)
theorem dX8_areAlike_101 : decode cX8_areAlike 101 = .ok (.iload 5, 2) := dk_21 5 (dk_at dksX8_areAlike_4 6 rfl rfl)
theorem dX8_areAlike_103 : decode cX8_areAlike 103 = .ok (.iload 6, 2) := dk_21 6 (dk_at dksX8_areAlike_4 8 rfl rfl)
theorem dX8_areAlike_105 : decode cX8_areAlike 105 = .ok (.iload 7, 2) := dk_21 7 (dk_at dksX8_areAlike_4 10 rfl rfl)
theorem dX8_areAlike_107 : decode cX8_areAlike 107 = .ok (.invokevirtual 378, 3) := dk_182 1 122 (dk_at dksX8_areAlike_4 12 rfl rfl)
theorem dX8_areAlike_110 : decode cX8_areAlike 110 = .ok (.aload_n 0, 1) := dk_42 (dk_at dksX8_areAlike_4 15 rfl rfl)
theorem dX8_areAlike_111 : decode cX8_areAlike 111 = .ok (.iload 4, 2) := dk_21 4 (dk_at dksX8_areAlike_4 16 rfl rfl)
theorem dX8_areAlike_113 : decode cX8_areAlike 113 = .ok (.iload 5, 2) := dk_21 5 (dk_at dksX8_areAlike_4 18 rfl rfl)
theorem dX8_areAlike_115 : decode cX8_areAlike 115 = .ok (.iload 6, 2) := dk_21 6 (dk_at dksX8_areAlike_4 20 rfl rfl)
theorem dX8_areAlike_117 : decode cX8_areAlike 117 = .ok (.iload 7, 2) := dk_21 7 (dk_at dksX8_areAlike_4 22 rfl rfl)
theorem dX8_areAlike_119 : decode cX8_areAlike 119 = .ok (.invokevirtual 378, 3) := dk_182 1 122 (dk_at dksX8_areAlike_5 0 rfl rfl)
theorem dX8_areAlike_122 : decode cX8_areAlike 122 = .ok (.if_icmp .eq 5, 3) := dk_159 0 5 (dk_at dksX8_areAlike_5 3 rfl rfl)
theorem dX8_areAlike_125 : decode cX8_areAlike 125 = .ok (.iconst 0, 1) := dk_3 (dk_at dksX8_areAlike_5 6 rfl rfl)
theorem dX8_areAlike_126 : decode cX8_areAlike 126 = .ok (.ireturn, 1) := dk_172 (dk_at dksX8_areAlike_5 7 rfl rfl)
theorem dX8_areAlike_127 : decode cX8_areAlike 127 = .ok (.iinc 7 1, 3) := dk_132 7 1 (dk_at dksX8_areAlike_5 8 rfl rfl)
theorem dX8_areAlike_130 : decode cX8_areAlike 130 = .ok (.goto (-37), 3) := dk_167 255 219 (dk_at dksX8_areAlike_5 11 rfl rfl)
theorem dX8_areAlike_133 : decode cX8_areAlike 133 = .ok (.iinc 6 1, 3) := dk_132 6 1 (dk_at dksX8_areAlike_5 14 rfl rfl)
theorem dX8_areAlike_136 : decode cX8_areAlike 136 = .ok (.goto (-65), 3) := dk_167 255 191 (dk_at dksX8_areAlike_5 17 rfl rfl)
theorem dX8_areAlike_139 : decode cX8_areAlike 139 = .ok (.iinc 5 1, 3) := dk_132 5 1 (dk_at dksX8_areAlike_5 20 rfl rfl)
theorem dX8_areAlike_142 : decode cX8_areAlike 142 = .ok (.goto (-96), 3) := dk_167 255 160 (dk_at dksX8_areAlike_6 0 rfl rfl)
theorem dX8_areAlike_145 : decode cX8_areAlike 145 = .ok (.iinc 3 1, 3) := dk_132 3 1 (dk_at dksX8_areAlike_6 3 rfl rfl)
theorem dX8_areAlike_148 : decode cX8_areAlike 148 = .ok (.goto (-146), 3) := dk_167 255 110 (dk_at dksX8_areAlike_6 6 rfl rfl)
theorem dX8_areAlike_151 : decode cX8_areAlike 151 = .ok (.iconst 1, 1) := dk_4 (dk_at dksX8_areAlike_6 9 rfl rfl)
theorem dX8_areAlike_152 : decode cX8_areAlike 152 = .ok (.ireturn, 1) := dk_172 (dk_at dksX8_areAlike_6 10 rfl rfl)
abbrev cX8_count : ByteArray := prog_19_method_51_code
def yX8_count : MethodName := ⟨RX8, "count", "(I)I"⟩
def dkwX8_count_4 : List UInt8 := [2, 160, 0, 7, 3, 167, 0, 4, 4, 172, 42, 180, 1, 129, 172, 42, 180, 0, 176, 172]
abbrev dktX8_count_4 : List UInt8 := dkwX8_count_4 ++ []
def dkwX8_count_3 : List UInt8 := [42, 180, 0, 7, 172, 42, 180, 1, 82, 172, 42, 180, 1, 85, 172, 42, 180, 1, 88, 172, 42, 180, 0, 13]
abbrev dktX8_count_3 : List UInt8 := dkwX8_count_3 ++ dktX8_count_4
def dkwX8_count_2 : List UInt8 := [170, 0, 0, 0, 76, 0, 0, 0, 0, 0, 0, 0, 5, 0, 0, 0, 37, 0, 0, 0, 42, 0, 0, 0, 47, 0, 0, 0, 52, 0, 0, 0, 57, 0, 0, 0, 71]
abbrev dktX8_count_2 : List UInt8 := dkwX8_count_2 ++ dktX8_count_3
def dkwX8_count_1 : List UInt8 := [182, 1, 72, 154, 0, 5, 3, 172, 27]
abbrev dktX8_count_1 : List UInt8 := dkwX8_count_1 ++ dktX8_count_2
def dkwX8_count_0 : List UInt8 := [42, 3, 181, 0, 173, 42, 27, 155, 0, 13, 27, 16, 6, 163, 0, 7, 4, 167, 0, 4, 3, 4]
abbrev dktX8_count_0 : List UInt8 := dkwX8_count_0 ++ dktX8_count_1
theorem dksX8_count_0 : cX8_count.data.toList.drop 0 = dktX8_count_0 := by decide +kernel
theorem dksX8_count_1 : cX8_count.data.toList.drop 22 = dktX8_count_1 := dk_seg dksX8_count_0 22 rfl rfl
theorem dksX8_count_2 : cX8_count.data.toList.drop 31 = dktX8_count_2 := dk_seg dksX8_count_1 9 rfl rfl
theorem dksX8_count_3 : cX8_count.data.toList.drop 68 = dktX8_count_3 := dk_seg dksX8_count_2 37 rfl rfl
theorem dksX8_count_4 : cX8_count.data.toList.drop 92 = dktX8_count_4 := dk_seg dksX8_count_3 24 rfl rfl
theorem dX8_count_0 : decode cX8_count 0 = .ok (.aload_n 0, 1) := dk_42 (dk_at dksX8_count_0 0 rfl rfl)
theorem dX8_count_1 : decode cX8_count 1 = .ok (.iconst 0, 1) := dk_3 (dk_at dksX8_count_0 1 rfl rfl)
theorem dX8_count_2 : decode cX8_count 2 = .ok (.putfield 173, 3) := dk_181 0 173 (dk_at dksX8_count_0 2 rfl rfl)
theorem dX8_count_5 : decode cX8_count 5 = .ok (.aload_n 0, 1) := dk_42 (dk_at dksX8_count_0 5 rfl rfl)
theorem dX8_count_6 : decode cX8_count 6 = .ok (.iload_n 1, 1) := dk_27 (dk_at dksX8_count_0 6 rfl rfl)
theorem dX8_count_7 : decode cX8_count 7 = .ok (.ifCond .lt 13, 3) := dk_155 0 13 (dk_at dksX8_count_0 7 rfl rfl)
theorem dX8_count_10 : decode cX8_count 10 = .ok (.iload_n 1, 1) := dk_27 (dk_at dksX8_count_0 10 rfl rfl)
theorem dX8_count_11 : decode cX8_count 11 = .ok (.bipush 6, 2) := dk_16 6 (dk_at dksX8_count_0 11 rfl rfl)
theorem dX8_count_13 : decode cX8_count 13 = .ok (.if_icmp .gt 7, 3) := dk_163 0 7 (dk_at dksX8_count_0 13 rfl rfl)
theorem dX8_count_16 : decode cX8_count 16 = .ok (.iconst 1, 1) := dk_4 (dk_at dksX8_count_0 16 rfl rfl)
theorem dX8_count_17 : decode cX8_count 17 = .ok (.goto 4, 3) := dk_167 0 4 (dk_at dksX8_count_0 17 rfl rfl)
theorem dX8_count_20 : decode cX8_count 20 = .ok (.iconst 0, 1) := dk_3 (dk_at dksX8_count_0 20 rfl rfl)
theorem dX8_count_21 : decode cX8_count 21 = .ok (.iconst 1, 1) := dk_4 (dk_at dksX8_count_0 21 rfl rfl)
theorem dX8_count_22 : decode cX8_count 22 = .ok (.invokevirtual 328, 3) := dk_182 1 72 (dk_at dksX8_count_1 0 rfl rfl)
theorem dX8_count_25 : decode cX8_count 25 = .ok (.ifCond .ne 5, 3) := dk_154 0 5 (dk_at dksX8_count_1 3 rfl rfl)
theorem dX8_count_28 : decode cX8_count 28 = .ok (.iconst 0, 1) := dk_3 (dk_at dksX8_count_1 6 rfl rfl)
theorem dX8_count_29 : decode cX8_count 29 = .ok (.ireturn, 1) := dk_172 (dk_at dksX8_count_1 7 rfl rfl)
theorem dX8_count_30 : decode cX8_count 30 = .ok (.iload_n 1, 1) := dk_27 (dk_at dksX8_count_1 8 rfl rfl)
theorem dX8_count_31 : decode cX8_count 31 = .ok (.tableswitch 76 0 5 #[37, 42, 47, 52, 57, 71], 37) := by decide +kernel
theorem dX8_count_68 : decode cX8_count 68 = .ok (.aload_n 0, 1) := dk_42 (dk_at dksX8_count_3 0 rfl rfl)
theorem dX8_count_69 : decode cX8_count 69 = .ok (.getfield 7, 3) := dk_180 0 7 (dk_at dksX8_count_3 1 rfl rfl)
theorem dX8_count_72 : decode cX8_count 72 = .ok (.ireturn, 1) := dk_172 (dk_at dksX8_count_3 4 rfl rfl)
theorem dX8_count_73 : decode cX8_count 73 = .ok (.aload_n 0, 1) := dk_42 (dk_at dksX8_count_3 5 rfl rfl)
theorem dX8_count_74 : decode cX8_count 74 = .ok (.getfield 338, 3) := dk_180 1 82 (dk_at dksX8_count_3 6 rfl rfl)
theorem dX8_count_77 : decode cX8_count 77 = .ok (.ireturn, 1) := dk_172 (dk_at dksX8_count_3 9 rfl rfl)
theorem dX8_count_78 : decode cX8_count 78 = .ok (.aload_n 0, 1) := dk_42 (dk_at dksX8_count_3 10 rfl rfl)
theorem dX8_count_79 : decode cX8_count 79 = .ok (.getfield 341, 3) := dk_180 1 85 (dk_at dksX8_count_3 11 rfl rfl)
theorem dX8_count_82 : decode cX8_count 82 = .ok (.ireturn, 1) := dk_172 (dk_at dksX8_count_3 14 rfl rfl)
theorem dX8_count_83 : decode cX8_count 83 = .ok (.aload_n 0, 1) := dk_42 (dk_at dksX8_count_3 15 rfl rfl)
theorem dX8_count_84 : decode cX8_count 84 = .ok (.getfield 344, 3) := dk_180 1 88 (dk_at dksX8_count_3 16 rfl rfl)
theorem dX8_count_87 : decode cX8_count 87 = .ok (.ireturn, 1) := dk_172 (dk_at dksX8_count_3 19 rfl rfl)
theorem dX8_count_88 : decode cX8_count 88 = .ok (.aload_n 0, 1) := dk_42 (dk_at dksX8_count_3 20 rfl rfl)
theorem dX8_count_89 : decode cX8_count 89 = .ok (.getfield 13, 3) := dk_180 0 13 (dk_at dksX8_count_3 21 rfl rfl)
theorem dX8_count_92 : decode cX8_count 92 = .ok (.iconst (-1), 1) := dk_2 (dk_at dksX8_count_4 0 rfl rfl)
theorem dX8_count_93 : decode cX8_count 93 = .ok (.if_icmp .ne 7, 3) := dk_160 0 7 (dk_at dksX8_count_4 1 rfl rfl)
theorem dX8_count_96 : decode cX8_count 96 = .ok (.iconst 0, 1) := dk_3 (dk_at dksX8_count_4 4 rfl rfl)
theorem dX8_count_97 : decode cX8_count 97 = .ok (.goto 4, 3) := dk_167 0 4 (dk_at dksX8_count_4 5 rfl rfl)
theorem dX8_count_100 : decode cX8_count 100 = .ok (.iconst 1, 1) := dk_4 (dk_at dksX8_count_4 8 rfl rfl)
theorem dX8_count_101 : decode cX8_count 101 = .ok (.ireturn, 1) := dk_172 (dk_at dksX8_count_4 9 rfl rfl)
theorem dX8_count_102 : decode cX8_count 102 = .ok (.aload_n 0, 1) := dk_42 (dk_at dksX8_count_4 10 rfl rfl)
theorem dX8_count_103 : decode cX8_count 103 = .ok (.getfield 385, 3) := dk_180 1 129 (dk_at dksX8_count_4 11 rfl rfl)
theorem dX8_count_106 : decode cX8_count 106 = .ok (.ireturn, 1) := dk_172 (dk_at dksX8_count_4 14 rfl rfl)
theorem dX8_count_107 : decode cX8_count 107 = .ok (.aload_n 0, 1) := dk_42 (dk_at dksX8_count_4 15 rfl rfl)
theorem dX8_count_108 : decode cX8_count 108 = .ok (.getfield 176, 3) := dk_180 0 176 (dk_at dksX8_count_4 16 rfl rfl)
theorem dX8_count_111 : decode cX8_count 111 = .ok (.ireturn, 1) := dk_172 (dk_at dksX8_count_4 19 rfl rfl)
abbrev cX8_thing_2 : ByteArray := prog_19_method_52_code
def yX8_thing_2 : MethodName := ⟨RX8, "thing", "(II)I"⟩
def dkwX8_thing_2_3 : List UInt8 := [180, 0, 23, 27, 46, 172]
abbrev dktX8_thing_2_3 : List UInt8 := dkwX8_thing_2_3 ++ []
def dkwX8_thing_2_2 : List UInt8 := [180, 0, 16, 27, 46, 167, 0, 23, 28, 4, 160, 0, 12, 42, 180, 0, 20, 27, 46, 167, 0, 9, 42]
abbrev dktX8_thing_2_2 : List UInt8 := dkwX8_thing_2_2 ++ dktX8_thing_2_3
def dkwX8_thing_2_1 : List UInt8 := [163, 0, 7, 4, 167, 0, 4, 3, 4, 182, 1, 72, 154, 0, 5, 3, 172, 28, 154, 0, 12, 42]
abbrev dktX8_thing_2_1 : List UInt8 := dkwX8_thing_2_1 ++ dktX8_thing_2_2
def dkwX8_thing_2_0 : List UInt8 := [42, 3, 181, 0, 173, 42, 27, 155, 0, 24, 27, 42, 180, 1, 82, 162, 0, 16, 28, 155, 0, 12, 28, 5]
abbrev dktX8_thing_2_0 : List UInt8 := dkwX8_thing_2_0 ++ dktX8_thing_2_1
theorem dksX8_thing_2_0 : cX8_thing_2.data.toList.drop 0 = dktX8_thing_2_0 := by decide +kernel
theorem dksX8_thing_2_1 : cX8_thing_2.data.toList.drop 24 = dktX8_thing_2_1 := dk_seg dksX8_thing_2_0 24 rfl rfl
theorem dksX8_thing_2_2 : cX8_thing_2.data.toList.drop 46 = dktX8_thing_2_2 := dk_seg dksX8_thing_2_1 22 rfl rfl
theorem dksX8_thing_2_3 : cX8_thing_2.data.toList.drop 69 = dktX8_thing_2_3 := dk_seg dksX8_thing_2_2 23 rfl rfl
theorem dX8_thing_2_0 : decode cX8_thing_2 0 = .ok (.aload_n 0, 1) := dk_42 (dk_at dksX8_thing_2_0 0 rfl rfl)
theorem dX8_thing_2_1 : decode cX8_thing_2 1 = .ok (.iconst 0, 1) := dk_3 (dk_at dksX8_thing_2_0 1 rfl rfl)
theorem dX8_thing_2_2 : decode cX8_thing_2 2 = .ok (.putfield 173, 3) := dk_181 0 173 (dk_at dksX8_thing_2_0 2 rfl rfl)
theorem dX8_thing_2_5 : decode cX8_thing_2 5 = .ok (.aload_n 0, 1) := dk_42 (dk_at dksX8_thing_2_0 5 rfl rfl)
theorem dX8_thing_2_6 : decode cX8_thing_2 6 = .ok (.iload_n 1, 1) := dk_27 (dk_at dksX8_thing_2_0 6 rfl rfl)
theorem dX8_thing_2_7 : decode cX8_thing_2 7 = .ok (.ifCond .lt 24, 3) := dk_155 0 24 (dk_at dksX8_thing_2_0 7 rfl rfl)
theorem dX8_thing_2_10 : decode cX8_thing_2 10 = .ok (.iload_n 1, 1) := dk_27 (dk_at dksX8_thing_2_0 10 rfl rfl)
theorem dX8_thing_2_11 : decode cX8_thing_2 11 = .ok (.aload_n 0, 1) := dk_42 (dk_at dksX8_thing_2_0 11 rfl rfl)
theorem dX8_thing_2_12 : decode cX8_thing_2 12 = .ok (.getfield 338, 3) := dk_180 1 82 (dk_at dksX8_thing_2_0 12 rfl rfl)
theorem dX8_thing_2_15 : decode cX8_thing_2 15 = .ok (.if_icmp .ge 16, 3) := dk_162 0 16 (dk_at dksX8_thing_2_0 15 rfl rfl)
theorem dX8_thing_2_18 : decode cX8_thing_2 18 = .ok (.iload_n 2, 1) := dk_28 (dk_at dksX8_thing_2_0 18 rfl rfl)
theorem dX8_thing_2_19 : decode cX8_thing_2 19 = .ok (.ifCond .lt 12, 3) := dk_155 0 12 (dk_at dksX8_thing_2_0 19 rfl rfl)
theorem dX8_thing_2_22 : decode cX8_thing_2 22 = .ok (.iload_n 2, 1) := dk_28 (dk_at dksX8_thing_2_0 22 rfl rfl)
theorem dX8_thing_2_23 : decode cX8_thing_2 23 = .ok (.iconst 2, 1) := dk_5 (dk_at dksX8_thing_2_0 23 rfl rfl)
theorem dX8_thing_2_24 : decode cX8_thing_2 24 = .ok (.if_icmp .gt 7, 3) := dk_163 0 7 (dk_at dksX8_thing_2_1 0 rfl rfl)
theorem dX8_thing_2_27 : decode cX8_thing_2 27 = .ok (.iconst 1, 1) := dk_4 (dk_at dksX8_thing_2_1 3 rfl rfl)
theorem dX8_thing_2_28 : decode cX8_thing_2 28 = .ok (.goto 4, 3) := dk_167 0 4 (dk_at dksX8_thing_2_1 4 rfl rfl)
theorem dX8_thing_2_31 : decode cX8_thing_2 31 = .ok (.iconst 0, 1) := dk_3 (dk_at dksX8_thing_2_1 7 rfl rfl)
theorem dX8_thing_2_32 : decode cX8_thing_2 32 = .ok (.iconst 1, 1) := dk_4 (dk_at dksX8_thing_2_1 8 rfl rfl)
theorem dX8_thing_2_33 : decode cX8_thing_2 33 = .ok (.invokevirtual 328, 3) := dk_182 1 72 (dk_at dksX8_thing_2_1 9 rfl rfl)
theorem dX8_thing_2_36 : decode cX8_thing_2 36 = .ok (.ifCond .ne 5, 3) := dk_154 0 5 (dk_at dksX8_thing_2_1 12 rfl rfl)
theorem dX8_thing_2_39 : decode cX8_thing_2 39 = .ok (.iconst 0, 1) := dk_3 (dk_at dksX8_thing_2_1 15 rfl rfl)
theorem dX8_thing_2_40 : decode cX8_thing_2 40 = .ok (.ireturn, 1) := dk_172 (dk_at dksX8_thing_2_1 16 rfl rfl)
theorem dX8_thing_2_41 : decode cX8_thing_2 41 = .ok (.iload_n 2, 1) := dk_28 (dk_at dksX8_thing_2_1 17 rfl rfl)
theorem dX8_thing_2_42 : decode cX8_thing_2 42 = .ok (.ifCond .ne 12, 3) := dk_154 0 12 (dk_at dksX8_thing_2_1 18 rfl rfl)
theorem dX8_thing_2_45 : decode cX8_thing_2 45 = .ok (.aload_n 0, 1) := dk_42 (dk_at dksX8_thing_2_1 21 rfl rfl)
theorem dX8_thing_2_46 : decode cX8_thing_2 46 = .ok (.getfield 16, 3) := dk_180 0 16 (dk_at dksX8_thing_2_2 0 rfl rfl)
theorem dX8_thing_2_49 : decode cX8_thing_2 49 = .ok (.iload_n 1, 1) := dk_27 (dk_at dksX8_thing_2_2 3 rfl rfl)
theorem dX8_thing_2_50 : decode cX8_thing_2 50 = .ok (.iaload, 1) := dk_46 (dk_at dksX8_thing_2_2 4 rfl rfl)
theorem dX8_thing_2_51 : decode cX8_thing_2 51 = .ok (.goto 23, 3) := dk_167 0 23 (dk_at dksX8_thing_2_2 5 rfl rfl)
theorem dX8_thing_2_54 : decode cX8_thing_2 54 = .ok (.iload_n 2, 1) := dk_28 (dk_at dksX8_thing_2_2 8 rfl rfl)
theorem dX8_thing_2_55 : decode cX8_thing_2 55 = .ok (.iconst 1, 1) := dk_4 (dk_at dksX8_thing_2_2 9 rfl rfl)
theorem dX8_thing_2_56 : decode cX8_thing_2 56 = .ok (.if_icmp .ne 12, 3) := dk_160 0 12 (dk_at dksX8_thing_2_2 10 rfl rfl)
theorem dX8_thing_2_59 : decode cX8_thing_2 59 = .ok (.aload_n 0, 1) := dk_42 (dk_at dksX8_thing_2_2 13 rfl rfl)
theorem dX8_thing_2_60 : decode cX8_thing_2 60 = .ok (.getfield 20, 3) := dk_180 0 20 (dk_at dksX8_thing_2_2 14 rfl rfl)
theorem dX8_thing_2_63 : decode cX8_thing_2 63 = .ok (.iload_n 1, 1) := dk_27 (dk_at dksX8_thing_2_2 17 rfl rfl)
theorem dX8_thing_2_64 : decode cX8_thing_2 64 = .ok (.iaload, 1) := dk_46 (dk_at dksX8_thing_2_2 18 rfl rfl)
theorem dX8_thing_2_65 : decode cX8_thing_2 65 = .ok (.goto 9, 3) := dk_167 0 9 (dk_at dksX8_thing_2_2 19 rfl rfl)
theorem dX8_thing_2_68 : decode cX8_thing_2 68 = .ok (.aload_n 0, 1) := dk_42 (dk_at dksX8_thing_2_2 22 rfl rfl)
theorem dX8_thing_2_69 : decode cX8_thing_2 69 = .ok (.getfield 23, 3) := dk_180 0 23 (dk_at dksX8_thing_2_3 0 rfl rfl)
theorem dX8_thing_2_72 : decode cX8_thing_2 72 = .ok (.iload_n 1, 1) := dk_27 (dk_at dksX8_thing_2_3 3 rfl rfl)
theorem dX8_thing_2_73 : decode cX8_thing_2 73 = .ok (.iaload, 1) := dk_46 (dk_at dksX8_thing_2_3 4 rfl rfl)
theorem dX8_thing_2_74 : decode cX8_thing_2 74 = .ok (.ireturn, 1) := dk_172 (dk_at dksX8_thing_2_3 5 rfl rfl)
abbrev cX8_boat_2 : ByteArray := prog_19_method_53_code
def yX8_boat_2 : MethodName := ⟨RX8, "boat", "(II)I"⟩
def dkwX8_boat_2_3 : List UInt8 := [180, 0, 32, 27, 46, 172]
abbrev dktX8_boat_2_3 : List UInt8 := dkwX8_boat_2_3 ++ []
def dkwX8_boat_2_2 : List UInt8 := [180, 0, 26, 27, 46, 167, 0, 23, 28, 4, 160, 0, 12, 42, 180, 0, 29, 27, 46, 167, 0, 9, 42]
abbrev dktX8_boat_2_2 : List UInt8 := dkwX8_boat_2_2 ++ dktX8_boat_2_3
def dkwX8_boat_2_1 : List UInt8 := [163, 0, 7, 4, 167, 0, 4, 3, 4, 182, 1, 72, 154, 0, 5, 3, 172, 28, 154, 0, 12, 42]
abbrev dktX8_boat_2_1 : List UInt8 := dkwX8_boat_2_1 ++ dktX8_boat_2_2
def dkwX8_boat_2_0 : List UInt8 := [42, 3, 181, 0, 173, 42, 27, 155, 0, 24, 27, 42, 180, 1, 85, 162, 0, 16, 28, 155, 0, 12, 28, 5]
abbrev dktX8_boat_2_0 : List UInt8 := dkwX8_boat_2_0 ++ dktX8_boat_2_1
theorem dksX8_boat_2_0 : cX8_boat_2.data.toList.drop 0 = dktX8_boat_2_0 := by decide +kernel
theorem dksX8_boat_2_1 : cX8_boat_2.data.toList.drop 24 = dktX8_boat_2_1 := dk_seg dksX8_boat_2_0 24 rfl rfl
theorem dksX8_boat_2_2 : cX8_boat_2.data.toList.drop 46 = dktX8_boat_2_2 := dk_seg dksX8_boat_2_1 22 rfl rfl
theorem dksX8_boat_2_3 : cX8_boat_2.data.toList.drop 69 = dktX8_boat_2_3 := dk_seg dksX8_boat_2_2 23 rfl rfl
theorem dX8_boat_2_0 : decode cX8_boat_2 0 = .ok (.aload_n 0, 1) := dk_42 (dk_at dksX8_boat_2_0 0 rfl rfl)
theorem dX8_boat_2_1 : decode cX8_boat_2 1 = .ok (.iconst 0, 1) := dk_3 (dk_at dksX8_boat_2_0 1 rfl rfl)
theorem dX8_boat_2_2 : decode cX8_boat_2 2 = .ok (.putfield 173, 3) := dk_181 0 173 (dk_at dksX8_boat_2_0 2 rfl rfl)
theorem dX8_boat_2_5 : decode cX8_boat_2 5 = .ok (.aload_n 0, 1) := dk_42 (dk_at dksX8_boat_2_0 5 rfl rfl)
theorem dX8_boat_2_6 : decode cX8_boat_2 6 = .ok (.iload_n 1, 1) := dk_27 (dk_at dksX8_boat_2_0 6 rfl rfl)
theorem dX8_boat_2_7 : decode cX8_boat_2 7 = .ok (.ifCond .lt 24, 3) := dk_155 0 24 (dk_at dksX8_boat_2_0 7 rfl rfl)
theorem dX8_boat_2_10 : decode cX8_boat_2 10 = .ok (.iload_n 1, 1) := dk_27 (dk_at dksX8_boat_2_0 10 rfl rfl)
theorem dX8_boat_2_11 : decode cX8_boat_2 11 = .ok (.aload_n 0, 1) := dk_42 (dk_at dksX8_boat_2_0 11 rfl rfl)
theorem dX8_boat_2_12 : decode cX8_boat_2 12 = .ok (.getfield 341, 3) := dk_180 1 85 (dk_at dksX8_boat_2_0 12 rfl rfl)
theorem dX8_boat_2_15 : decode cX8_boat_2 15 = .ok (.if_icmp .ge 16, 3) := dk_162 0 16 (dk_at dksX8_boat_2_0 15 rfl rfl)
theorem dX8_boat_2_18 : decode cX8_boat_2 18 = .ok (.iload_n 2, 1) := dk_28 (dk_at dksX8_boat_2_0 18 rfl rfl)
theorem dX8_boat_2_19 : decode cX8_boat_2 19 = .ok (.ifCond .lt 12, 3) := dk_155 0 12 (dk_at dksX8_boat_2_0 19 rfl rfl)
theorem dX8_boat_2_22 : decode cX8_boat_2 22 = .ok (.iload_n 2, 1) := dk_28 (dk_at dksX8_boat_2_0 22 rfl rfl)
theorem dX8_boat_2_23 : decode cX8_boat_2 23 = .ok (.iconst 2, 1) := dk_5 (dk_at dksX8_boat_2_0 23 rfl rfl)
theorem dX8_boat_2_24 : decode cX8_boat_2 24 = .ok (.if_icmp .gt 7, 3) := dk_163 0 7 (dk_at dksX8_boat_2_1 0 rfl rfl)
theorem dX8_boat_2_27 : decode cX8_boat_2 27 = .ok (.iconst 1, 1) := dk_4 (dk_at dksX8_boat_2_1 3 rfl rfl)
theorem dX8_boat_2_28 : decode cX8_boat_2 28 = .ok (.goto 4, 3) := dk_167 0 4 (dk_at dksX8_boat_2_1 4 rfl rfl)
theorem dX8_boat_2_31 : decode cX8_boat_2 31 = .ok (.iconst 0, 1) := dk_3 (dk_at dksX8_boat_2_1 7 rfl rfl)
theorem dX8_boat_2_32 : decode cX8_boat_2 32 = .ok (.iconst 1, 1) := dk_4 (dk_at dksX8_boat_2_1 8 rfl rfl)
theorem dX8_boat_2_33 : decode cX8_boat_2 33 = .ok (.invokevirtual 328, 3) := dk_182 1 72 (dk_at dksX8_boat_2_1 9 rfl rfl)
theorem dX8_boat_2_36 : decode cX8_boat_2 36 = .ok (.ifCond .ne 5, 3) := dk_154 0 5 (dk_at dksX8_boat_2_1 12 rfl rfl)
theorem dX8_boat_2_39 : decode cX8_boat_2 39 = .ok (.iconst 0, 1) := dk_3 (dk_at dksX8_boat_2_1 15 rfl rfl)
theorem dX8_boat_2_40 : decode cX8_boat_2 40 = .ok (.ireturn, 1) := dk_172 (dk_at dksX8_boat_2_1 16 rfl rfl)
theorem dX8_boat_2_41 : decode cX8_boat_2 41 = .ok (.iload_n 2, 1) := dk_28 (dk_at dksX8_boat_2_1 17 rfl rfl)
theorem dX8_boat_2_42 : decode cX8_boat_2 42 = .ok (.ifCond .ne 12, 3) := dk_154 0 12 (dk_at dksX8_boat_2_1 18 rfl rfl)
theorem dX8_boat_2_45 : decode cX8_boat_2 45 = .ok (.aload_n 0, 1) := dk_42 (dk_at dksX8_boat_2_1 21 rfl rfl)
theorem dX8_boat_2_46 : decode cX8_boat_2 46 = .ok (.getfield 26, 3) := dk_180 0 26 (dk_at dksX8_boat_2_2 0 rfl rfl)
theorem dX8_boat_2_49 : decode cX8_boat_2 49 = .ok (.iload_n 1, 1) := dk_27 (dk_at dksX8_boat_2_2 3 rfl rfl)
theorem dX8_boat_2_50 : decode cX8_boat_2 50 = .ok (.iaload, 1) := dk_46 (dk_at dksX8_boat_2_2 4 rfl rfl)
theorem dX8_boat_2_51 : decode cX8_boat_2 51 = .ok (.goto 23, 3) := dk_167 0 23 (dk_at dksX8_boat_2_2 5 rfl rfl)
theorem dX8_boat_2_54 : decode cX8_boat_2 54 = .ok (.iload_n 2, 1) := dk_28 (dk_at dksX8_boat_2_2 8 rfl rfl)
theorem dX8_boat_2_55 : decode cX8_boat_2 55 = .ok (.iconst 1, 1) := dk_4 (dk_at dksX8_boat_2_2 9 rfl rfl)
theorem dX8_boat_2_56 : decode cX8_boat_2 56 = .ok (.if_icmp .ne 12, 3) := dk_160 0 12 (dk_at dksX8_boat_2_2 10 rfl rfl)
theorem dX8_boat_2_59 : decode cX8_boat_2 59 = .ok (.aload_n 0, 1) := dk_42 (dk_at dksX8_boat_2_2 13 rfl rfl)
theorem dX8_boat_2_60 : decode cX8_boat_2 60 = .ok (.getfield 29, 3) := dk_180 0 29 (dk_at dksX8_boat_2_2 14 rfl rfl)
theorem dX8_boat_2_63 : decode cX8_boat_2 63 = .ok (.iload_n 1, 1) := dk_27 (dk_at dksX8_boat_2_2 17 rfl rfl)
theorem dX8_boat_2_64 : decode cX8_boat_2 64 = .ok (.iaload, 1) := dk_46 (dk_at dksX8_boat_2_2 18 rfl rfl)
theorem dX8_boat_2_65 : decode cX8_boat_2 65 = .ok (.goto 9, 3) := dk_167 0 9 (dk_at dksX8_boat_2_2 19 rfl rfl)
theorem dX8_boat_2_68 : decode cX8_boat_2 68 = .ok (.aload_n 0, 1) := dk_42 (dk_at dksX8_boat_2_2 22 rfl rfl)
theorem dX8_boat_2_69 : decode cX8_boat_2 69 = .ok (.getfield 32, 3) := dk_180 0 32 (dk_at dksX8_boat_2_3 0 rfl rfl)
theorem dX8_boat_2_72 : decode cX8_boat_2 72 = .ok (.iload_n 1, 1) := dk_27 (dk_at dksX8_boat_2_3 3 rfl rfl)
theorem dX8_boat_2_73 : decode cX8_boat_2 73 = .ok (.iaload, 1) := dk_46 (dk_at dksX8_boat_2_3 4 rfl rfl)
theorem dX8_boat_2_74 : decode cX8_boat_2 74 = .ok (.ireturn, 1) := dk_172 (dk_at dksX8_boat_2_3 5 rfl rfl)
abbrev cX8_water_2 : ByteArray := prog_19_method_55_code
def yX8_water_2 : MethodName := ⟨RX8, "water", "(II)Z"⟩
def dkwX8_water_2_2 : List UInt8 := [182, 1, 132, 172]
abbrev dktX8_water_2_2 : List UInt8 := dkwX8_water_2_2 ++ []
def dkwX8_water_2_1 : List UInt8 := [180, 0, 7, 162, 0, 7, 4, 167, 0, 4, 3, 4, 182, 1, 72, 154, 0, 5, 3, 172, 42, 27, 28]
abbrev dktX8_water_2_1 : List UInt8 := dkwX8_water_2_1 ++ dktX8_water_2_2
def dkwX8_water_2_0 : List UInt8 := [42, 3, 181, 0, 173, 42, 27, 155, 0, 27, 27, 42, 180, 0, 7, 162, 0, 19, 28, 155, 0, 15, 28, 42]
abbrev dktX8_water_2_0 : List UInt8 := dkwX8_water_2_0 ++ dktX8_water_2_1
theorem dksX8_water_2_0 : cX8_water_2.data.toList.drop 0 = dktX8_water_2_0 := by decide +kernel
theorem dksX8_water_2_1 : cX8_water_2.data.toList.drop 24 = dktX8_water_2_1 := dk_seg dksX8_water_2_0 24 rfl rfl
theorem dksX8_water_2_2 : cX8_water_2.data.toList.drop 47 = dktX8_water_2_2 := dk_seg dksX8_water_2_1 23 rfl rfl
theorem dX8_water_2_0 : decode cX8_water_2 0 = .ok (.aload_n 0, 1) := dk_42 (dk_at dksX8_water_2_0 0 rfl rfl)
theorem dX8_water_2_1 : decode cX8_water_2 1 = .ok (.iconst 0, 1) := dk_3 (dk_at dksX8_water_2_0 1 rfl rfl)
theorem dX8_water_2_2 : decode cX8_water_2 2 = .ok (.putfield 173, 3) := dk_181 0 173 (dk_at dksX8_water_2_0 2 rfl rfl)
theorem dX8_water_2_5 : decode cX8_water_2 5 = .ok (.aload_n 0, 1) := dk_42 (dk_at dksX8_water_2_0 5 rfl rfl)
theorem dX8_water_2_6 : decode cX8_water_2 6 = .ok (.iload_n 1, 1) := dk_27 (dk_at dksX8_water_2_0 6 rfl rfl)
theorem dX8_water_2_7 : decode cX8_water_2 7 = .ok (.ifCond .lt 27, 3) := dk_155 0 27 (dk_at dksX8_water_2_0 7 rfl rfl)
theorem dX8_water_2_10 : decode cX8_water_2 10 = .ok (.iload_n 1, 1) := dk_27 (dk_at dksX8_water_2_0 10 rfl rfl)
theorem dX8_water_2_11 : decode cX8_water_2 11 = .ok (.aload_n 0, 1) := dk_42 (dk_at dksX8_water_2_0 11 rfl rfl)
theorem dX8_water_2_12 : decode cX8_water_2 12 = .ok (.getfield 7, 3) := dk_180 0 7 (dk_at dksX8_water_2_0 12 rfl rfl)
theorem dX8_water_2_15 : decode cX8_water_2 15 = .ok (.if_icmp .ge 19, 3) := dk_162 0 19 (dk_at dksX8_water_2_0 15 rfl rfl)
theorem dX8_water_2_18 : decode cX8_water_2 18 = .ok (.iload_n 2, 1) := dk_28 (dk_at dksX8_water_2_0 18 rfl rfl)
theorem dX8_water_2_19 : decode cX8_water_2 19 = .ok (.ifCond .lt 15, 3) := dk_155 0 15 (dk_at dksX8_water_2_0 19 rfl rfl)
theorem dX8_water_2_22 : decode cX8_water_2 22 = .ok (.iload_n 2, 1) := dk_28 (dk_at dksX8_water_2_0 22 rfl rfl)
theorem dX8_water_2_23 : decode cX8_water_2 23 = .ok (.aload_n 0, 1) := dk_42 (dk_at dksX8_water_2_0 23 rfl rfl)
theorem dX8_water_2_24 : decode cX8_water_2 24 = .ok (.getfield 7, 3) := dk_180 0 7 (dk_at dksX8_water_2_1 0 rfl rfl)
theorem dX8_water_2_27 : decode cX8_water_2 27 = .ok (.if_icmp .ge 7, 3) := dk_162 0 7 (dk_at dksX8_water_2_1 3 rfl rfl)
theorem dX8_water_2_30 : decode cX8_water_2 30 = .ok (.iconst 1, 1) := dk_4 (dk_at dksX8_water_2_1 6 rfl rfl)
theorem dX8_water_2_31 : decode cX8_water_2 31 = .ok (.goto 4, 3) := dk_167 0 4 (dk_at dksX8_water_2_1 7 rfl rfl)
theorem dX8_water_2_34 : decode cX8_water_2 34 = .ok (.iconst 0, 1) := dk_3 (dk_at dksX8_water_2_1 10 rfl rfl)
theorem dX8_water_2_35 : decode cX8_water_2 35 = .ok (.iconst 1, 1) := dk_4 (dk_at dksX8_water_2_1 11 rfl rfl)
theorem dX8_water_2_36 : decode cX8_water_2 36 = .ok (.invokevirtual 328, 3) := dk_182 1 72 (dk_at dksX8_water_2_1 12 rfl rfl)
theorem dX8_water_2_39 : decode cX8_water_2 39 = .ok (.ifCond .ne 5, 3) := dk_154 0 5 (dk_at dksX8_water_2_1 15 rfl rfl)
theorem dX8_water_2_42 : decode cX8_water_2 42 = .ok (.iconst 0, 1) := dk_3 (dk_at dksX8_water_2_1 18 rfl rfl)
theorem dX8_water_2_43 : decode cX8_water_2 43 = .ok (.ireturn, 1) := dk_172 (dk_at dksX8_water_2_1 19 rfl rfl)
theorem dX8_water_2_44 : decode cX8_water_2 44 = .ok (.aload_n 0, 1) := dk_42 (dk_at dksX8_water_2_1 20 rfl rfl)
theorem dX8_water_2_45 : decode cX8_water_2 45 = .ok (.iload_n 1, 1) := dk_27 (dk_at dksX8_water_2_1 21 rfl rfl)
theorem dX8_water_2_46 : decode cX8_water_2 46 = .ok (.iload_n 2, 1) := dk_28 (dk_at dksX8_water_2_1 22 rfl rfl)
theorem dX8_water_2_47 : decode cX8_water_2 47 = .ok (.invokevirtual 388, 3) := dk_182 1 132 (dk_at dksX8_water_2_2 0 rfl rfl)
theorem dX8_water_2_50 : decode cX8_water_2 50 = .ok (.ireturn, 1) := dk_172 (dk_at dksX8_water_2_2 3 rfl rfl)
abbrev cX8_isWater : ByteArray := prog_19_method_54_code
def yX8_isWater : MethodName := ⟨RX8, "isWater", "(II)Z"⟩
def dkwX8_isWater_1 : List UInt8 := [159, 0, 7, 4, 167, 0, 4, 3, 172]
abbrev dktX8_isWater_1 : List UInt8 := dkwX8_isWater_1 ++ []
def dkwX8_isWater_0 : List UInt8 := [42, 180, 1, 91, 153, 0, 16, 42, 180, 0, 35, 7, 27, 104, 28, 96, 51, 167, 0, 13, 27, 28]
abbrev dktX8_isWater_0 : List UInt8 := dkwX8_isWater_0 ++ dktX8_isWater_1
theorem dksX8_isWater_0 : cX8_isWater.data.toList.drop 0 = dktX8_isWater_0 := by decide +kernel
theorem dksX8_isWater_1 : cX8_isWater.data.toList.drop 22 = dktX8_isWater_1 := dk_seg dksX8_isWater_0 22 rfl rfl
theorem dX8_isWater_0 : decode cX8_isWater 0 = .ok (.aload_n 0, 1) := dk_42 (dk_at dksX8_isWater_0 0 rfl rfl)
theorem dX8_isWater_1 : decode cX8_isWater 1 = .ok (.getfield 347, 3) := dk_180 1 91 (dk_at dksX8_isWater_0 1 rfl rfl)
theorem dX8_isWater_4 : decode cX8_isWater 4 = .ok (.ifCond .eq 16, 3) := dk_153 0 16 (dk_at dksX8_isWater_0 4 rfl rfl)
theorem dX8_isWater_7 : decode cX8_isWater 7 = .ok (.aload_n 0, 1) := dk_42 (dk_at dksX8_isWater_0 7 rfl rfl)
theorem dX8_isWater_8 : decode cX8_isWater 8 = .ok (.getfield 35, 3) := dk_180 0 35 (dk_at dksX8_isWater_0 8 rfl rfl)
theorem dX8_isWater_11 : decode cX8_isWater 11 = .ok (.iconst 4, 1) := dk_7 (dk_at dksX8_isWater_0 11 rfl rfl)
theorem dX8_isWater_12 : decode cX8_isWater 12 = .ok (.iload_n 1, 1) := dk_27 (dk_at dksX8_isWater_0 12 rfl rfl)
theorem dX8_isWater_13 : decode cX8_isWater 13 = .ok (.imul, 1) := dk_104 (dk_at dksX8_isWater_0 13 rfl rfl)
theorem dX8_isWater_14 : decode cX8_isWater 14 = .ok (.iload_n 2, 1) := dk_28 (dk_at dksX8_isWater_0 14 rfl rfl)
theorem dX8_isWater_15 : decode cX8_isWater 15 = .ok (.iadd, 1) := dk_96 (dk_at dksX8_isWater_0 15 rfl rfl)
theorem dX8_isWater_16 : decode cX8_isWater 16 = .ok (.baload, 1) := dk_51 (dk_at dksX8_isWater_0 16 rfl rfl)
theorem dX8_isWater_17 : decode cX8_isWater 17 = .ok (.goto 13, 3) := dk_167 0 13 (dk_at dksX8_isWater_0 17 rfl rfl)
theorem dX8_isWater_20 : decode cX8_isWater 20 = .ok (.iload_n 1, 1) := dk_27 (dk_at dksX8_isWater_0 20 rfl rfl)
theorem dX8_isWater_21 : decode cX8_isWater 21 = .ok (.iload_n 2, 1) := dk_28 (dk_at dksX8_isWater_0 21 rfl rfl)
theorem dX8_isWater_22 : decode cX8_isWater 22 = .ok (.if_icmp .eq 7, 3) := dk_159 0 7 (dk_at dksX8_isWater_1 0 rfl rfl)
theorem dX8_isWater_25 : decode cX8_isWater 25 = .ok (.iconst 1, 1) := dk_4 (dk_at dksX8_isWater_1 3 rfl rfl)
theorem dX8_isWater_26 : decode cX8_isWater 26 = .ok (.goto 4, 3) := dk_167 0 4 (dk_at dksX8_isWater_1 4 rfl rfl)
theorem dX8_isWater_29 : decode cX8_isWater 29 = .ok (.iconst 0, 1) := dk_3 (dk_at dksX8_isWater_1 7 rfl rfl)
theorem dX8_isWater_30 : decode cX8_isWater 30 = .ok (.ireturn, 1) := dk_172 (dk_at dksX8_isWater_1 8 rfl rfl)
abbrev cX8_reached : ByteArray := prog_19_method_72_code
def yX8_reached : MethodName := ⟨RX8, "reached", "(I)I"⟩
def dkwX8_reached_5 : List UInt8 := [132, 4, 1, 167, 255, 202, 27, 5, 160, 0, 7, 28, 167, 0, 4, 29, 172]
abbrev dktX8_reached_5 : List UInt8 := dkwX8_reached_5 ++ []
def dkwX8_reached_4 : List UInt8 := [180, 0, 105, 21, 4, 46, 29, 164, 0, 13, 42, 180, 0, 105, 21, 4, 46, 167, 0, 4, 29, 62]
abbrev dktX8_reached_4 : List UInt8 := dkwX8_reached_4 ++ dktX8_reached_5
def dkwX8_reached_3 : List UInt8 := [162, 0, 51, 28, 42, 180, 0, 108, 21, 4, 46, 2, 160, 0, 7, 4, 167, 0, 4, 3, 96, 61, 42]
abbrev dktX8_reached_3 : List UInt8 := dkwX8_reached_3 ++ dktX8_reached_4
def dkwX8_reached_2 : List UInt8 := [180, 1, 164, 167, 0, 7, 42, 180, 1, 170, 172, 3, 61, 3, 62, 3, 54, 4, 21, 4, 42, 180, 1, 164]
abbrev dktX8_reached_2 : List UInt8 := dkwX8_reached_2 ++ dktX8_reached_3
def dkwX8_reached_1 : List UInt8 := [154, 0, 5, 3, 172, 42, 182, 1, 196, 154, 0, 5, 2, 172, 27, 5, 162, 0, 19, 27, 154, 0, 10, 42]
abbrev dktX8_reached_1 : List UInt8 := dkwX8_reached_1 ++ dktX8_reached_2
def dkwX8_reached_0 : List UInt8 := [42, 3, 181, 0, 173, 42, 27, 155, 0, 12, 27, 6, 163, 0, 7, 4, 167, 0, 4, 3, 4, 182, 1, 72]
abbrev dktX8_reached_0 : List UInt8 := dkwX8_reached_0 ++ dktX8_reached_1
theorem dksX8_reached_0 : cX8_reached.data.toList.drop 0 = dktX8_reached_0 := by decide +kernel
theorem dksX8_reached_1 : cX8_reached.data.toList.drop 24 = dktX8_reached_1 := dk_seg dksX8_reached_0 24 rfl rfl
theorem dksX8_reached_2 : cX8_reached.data.toList.drop 48 = dktX8_reached_2 := dk_seg dksX8_reached_1 24 rfl rfl
theorem dksX8_reached_3 : cX8_reached.data.toList.drop 72 = dktX8_reached_3 := dk_seg dksX8_reached_2 24 rfl rfl
theorem dksX8_reached_4 : cX8_reached.data.toList.drop 95 = dktX8_reached_4 := dk_seg dksX8_reached_3 23 rfl rfl
theorem dksX8_reached_5 : cX8_reached.data.toList.drop 117 = dktX8_reached_5 := dk_seg dksX8_reached_4 22 rfl rfl
theorem dX8_reached_0 : decode cX8_reached 0 = .ok (.aload_n 0, 1) := dk_42 (dk_at dksX8_reached_0 0 rfl rfl)
theorem dX8_reached_1 : decode cX8_reached 1 = .ok (.iconst 0, 1) := dk_3 (dk_at dksX8_reached_0 1 rfl rfl)
theorem dX8_reached_2 : decode cX8_reached 2 = .ok (.putfield 173, 3) := dk_181 0 173 (dk_at dksX8_reached_0 2 rfl rfl)
theorem dX8_reached_5 : decode cX8_reached 5 = .ok (.aload_n 0, 1) := dk_42 (dk_at dksX8_reached_0 5 rfl rfl)
theorem dX8_reached_6 : decode cX8_reached 6 = .ok (.iload_n 1, 1) := dk_27 (dk_at dksX8_reached_0 6 rfl rfl)
theorem dX8_reached_7 : decode cX8_reached 7 = .ok (.ifCond .lt 12, 3) := dk_155 0 12 (dk_at dksX8_reached_0 7 rfl rfl)
theorem dX8_reached_10 : decode cX8_reached 10 = .ok (.iload_n 1, 1) := dk_27 (dk_at dksX8_reached_0 10 rfl rfl)
theorem dX8_reached_11 : decode cX8_reached 11 = .ok (.iconst 3, 1) := dk_6 (dk_at dksX8_reached_0 11 rfl rfl)
theorem dX8_reached_12 : decode cX8_reached 12 = .ok (.if_icmp .gt 7, 3) := dk_163 0 7 (dk_at dksX8_reached_0 12 rfl rfl)
theorem dX8_reached_15 : decode cX8_reached 15 = .ok (.iconst 1, 1) := dk_4 (dk_at dksX8_reached_0 15 rfl rfl)
theorem dX8_reached_16 : decode cX8_reached 16 = .ok (.goto 4, 3) := dk_167 0 4 (dk_at dksX8_reached_0 16 rfl rfl)
theorem dX8_reached_19 : decode cX8_reached 19 = .ok (.iconst 0, 1) := dk_3 (dk_at dksX8_reached_0 19 rfl rfl)
theorem dX8_reached_20 : decode cX8_reached 20 = .ok (.iconst 1, 1) := dk_4 (dk_at dksX8_reached_0 20 rfl rfl)
theorem dX8_reached_21 : decode cX8_reached 21 = .ok (.invokevirtual 328, 3) := dk_182 1 72 (dk_at dksX8_reached_0 21 rfl rfl)
theorem dX8_reached_24 : decode cX8_reached 24 = .ok (.ifCond .ne 5, 3) := dk_154 0 5 (dk_at dksX8_reached_1 0 rfl rfl)
theorem dX8_reached_27 : decode cX8_reached 27 = .ok (.iconst 0, 1) := dk_3 (dk_at dksX8_reached_1 3 rfl rfl)
theorem dX8_reached_28 : decode cX8_reached 28 = .ok (.ireturn, 1) := dk_172 (dk_at dksX8_reached_1 4 rfl rfl)
theorem dX8_reached_29 : decode cX8_reached 29 = .ok (.aload_n 0, 1) := dk_42 (dk_at dksX8_reached_1 5 rfl rfl)
theorem dX8_reached_30 : decode cX8_reached 30 = .ok (.invokevirtual 452, 3) := dk_182 1 196 (dk_at dksX8_reached_1 6 rfl rfl)
theorem dX8_reached_33 : decode cX8_reached 33 = .ok (.ifCond .ne 5, 3) := dk_154 0 5 (dk_at dksX8_reached_1 9 rfl rfl)
theorem dX8_reached_36 : decode cX8_reached 36 = .ok (.iconst (-1), 1) := dk_2 (dk_at dksX8_reached_1 12 rfl rfl)
theorem dX8_reached_37 : decode cX8_reached 37 = .ok (.ireturn, 1) := dk_172 (dk_at dksX8_reached_1 13 rfl rfl)
theorem dX8_reached_38 : decode cX8_reached 38 = .ok (.iload_n 1, 1) := dk_27 (dk_at dksX8_reached_1 14 rfl rfl)
theorem dX8_reached_39 : decode cX8_reached 39 = .ok (.iconst 2, 1) := dk_5 (dk_at dksX8_reached_1 15 rfl rfl)
theorem dX8_reached_40 : decode cX8_reached 40 = .ok (.if_icmp .ge 19, 3) := dk_162 0 19 (dk_at dksX8_reached_1 16 rfl rfl)
theorem dX8_reached_43 : decode cX8_reached 43 = .ok (.iload_n 1, 1) := dk_27 (dk_at dksX8_reached_1 19 rfl rfl)
theorem dX8_reached_44 : decode cX8_reached 44 = .ok (.ifCond .ne 10, 3) := dk_154 0 10 (dk_at dksX8_reached_1 20 rfl rfl)
theorem dX8_reached_47 : decode cX8_reached 47 = .ok (.aload_n 0, 1) := dk_42 (dk_at dksX8_reached_1 23 rfl rfl)
theorem dX8_reached_48 : decode cX8_reached 48 = .ok (.getfield 420, 3) := dk_180 1 164 (dk_at dksX8_reached_2 0 rfl rfl)
theorem dX8_reached_51 : decode cX8_reached 51 = .ok (.goto 7, 3) := dk_167 0 7 (dk_at dksX8_reached_2 3 rfl rfl)
theorem dX8_reached_54 : decode cX8_reached 54 = .ok (.aload_n 0, 1) := dk_42 (dk_at dksX8_reached_2 6 rfl rfl)
theorem dX8_reached_55 : decode cX8_reached 55 = .ok (.getfield 426, 3) := dk_180 1 170 (dk_at dksX8_reached_2 7 rfl rfl)
theorem dX8_reached_58 : decode cX8_reached 58 = .ok (.ireturn, 1) := dk_172 (dk_at dksX8_reached_2 10 rfl rfl)
theorem dX8_reached_59 : decode cX8_reached 59 = .ok (.iconst 0, 1) := dk_3 (dk_at dksX8_reached_2 11 rfl rfl)
theorem dX8_reached_60 : decode cX8_reached 60 = .ok (.istore_n 2, 1) := dk_61 (dk_at dksX8_reached_2 12 rfl rfl)
theorem dX8_reached_61 : decode cX8_reached 61 = .ok (.iconst 0, 1) := dk_3 (dk_at dksX8_reached_2 13 rfl rfl)
theorem dX8_reached_62 : decode cX8_reached 62 = .ok (.istore_n 3, 1) := dk_62 (dk_at dksX8_reached_2 14 rfl rfl)
theorem dX8_reached_63 : decode cX8_reached 63 = .ok (.iconst 0, 1) := dk_3 (dk_at dksX8_reached_2 15 rfl rfl)
theorem dX8_reached_64 : decode cX8_reached 64 = .ok (.istore 4, 2) := dk_54 4 (dk_at dksX8_reached_2 16 rfl rfl)
theorem dX8_reached_66 : decode cX8_reached 66 = .ok (.iload 4, 2) := dk_21 4 (dk_at dksX8_reached_2 18 rfl rfl)
theorem dX8_reached_68 : decode cX8_reached 68 = .ok (.aload_n 0, 1) := dk_42 (dk_at dksX8_reached_2 20 rfl rfl)
theorem dX8_reached_69 : decode cX8_reached 69 = .ok (.getfield 420, 3) := dk_180 1 164 (dk_at dksX8_reached_2 21 rfl rfl)
theorem dX8_reached_72 : decode cX8_reached 72 = .ok (.if_icmp .ge 51, 3) := dk_162 0 51 (dk_at dksX8_reached_3 0 rfl rfl)
theorem dX8_reached_75 : decode cX8_reached 75 = .ok (.iload_n 2, 1) := dk_28 (dk_at dksX8_reached_3 3 rfl rfl)
theorem dX8_reached_76 : decode cX8_reached 76 = .ok (.aload_n 0, 1) := dk_42 (dk_at dksX8_reached_3 4 rfl rfl)
theorem dX8_reached_77 : decode cX8_reached 77 = .ok (.getfield 108, 3) := dk_180 0 108 (dk_at dksX8_reached_3 5 rfl rfl)
theorem dX8_reached_80 : decode cX8_reached 80 = .ok (.iload 4, 2) := dk_21 4 (dk_at dksX8_reached_3 8 rfl rfl)
theorem dX8_reached_82 : decode cX8_reached 82 = .ok (.iaload, 1) := dk_46 (dk_at dksX8_reached_3 10 rfl rfl)
theorem dX8_reached_83 : decode cX8_reached 83 = .ok (.iconst (-1), 1) := dk_2 (dk_at dksX8_reached_3 11 rfl rfl)
theorem dX8_reached_84 : decode cX8_reached 84 = .ok (.if_icmp .ne 7, 3) := dk_160 0 7 (dk_at dksX8_reached_3 12 rfl rfl)
theorem dX8_reached_87 : decode cX8_reached 87 = .ok (.iconst 1, 1) := dk_4 (dk_at dksX8_reached_3 15 rfl rfl)
theorem dX8_reached_88 : decode cX8_reached 88 = .ok (.goto 4, 3) := dk_167 0 4 (dk_at dksX8_reached_3 16 rfl rfl)
theorem dX8_reached_91 : decode cX8_reached 91 = .ok (.iconst 0, 1) := dk_3 (dk_at dksX8_reached_3 19 rfl rfl)
theorem dX8_reached_92 : decode cX8_reached 92 = .ok (.iadd, 1) := dk_96 (dk_at dksX8_reached_3 20 rfl rfl)
theorem dX8_reached_93 : decode cX8_reached 93 = .ok (.istore_n 2, 1) := dk_61 (dk_at dksX8_reached_3 21 rfl rfl)
theorem dX8_reached_94 : decode cX8_reached 94 = .ok (.aload_n 0, 1) := dk_42 (dk_at dksX8_reached_3 22 rfl rfl)
theorem dX8_reached_95 : decode cX8_reached 95 = .ok (.getfield 105, 3) := dk_180 0 105 (dk_at dksX8_reached_4 0 rfl rfl)
theorem dX8_reached_98 : decode cX8_reached 98 = .ok (.iload 4, 2) := dk_21 4 (dk_at dksX8_reached_4 3 rfl rfl)
theorem dX8_reached_100 : decode cX8_reached 100 = .ok (.iaload, 1) := dk_46 (dk_at dksX8_reached_4 5 rfl rfl)
theorem dX8_reached_101 : decode cX8_reached 101 = .ok (.iload_n 3, 1) := dk_29 (dk_at dksX8_reached_4 6 rfl rfl)
theorem dX8_reached_102 : decode cX8_reached 102 = .ok (.if_icmp .le 13, 3) := dk_164 0 13 (dk_at dksX8_reached_4 7 rfl rfl)
theorem dX8_reached_105 : decode cX8_reached 105 = .ok (.aload_n 0, 1) := dk_42 (dk_at dksX8_reached_4 10 rfl rfl)
theorem dX8_reached_106 : decode cX8_reached 106 = .ok (.getfield 105, 3) := dk_180 0 105 (dk_at dksX8_reached_4 11 rfl rfl)
theorem dX8_reached_109 : decode cX8_reached 109 = .ok (.iload 4, 2) := dk_21 4 (dk_at dksX8_reached_4 14 rfl rfl)
theorem dX8_reached_111 : decode cX8_reached 111 = .ok (.iaload, 1) := dk_46 (dk_at dksX8_reached_4 16 rfl rfl)
theorem dX8_reached_112 : decode cX8_reached 112 = .ok (.goto 4, 3) := dk_167 0 4 (dk_at dksX8_reached_4 17 rfl rfl)
theorem dX8_reached_115 : decode cX8_reached 115 = .ok (.iload_n 3, 1) := dk_29 (dk_at dksX8_reached_4 20 rfl rfl)
theorem dX8_reached_116 : decode cX8_reached 116 = .ok (.istore_n 3, 1) := dk_62 (dk_at dksX8_reached_4 21 rfl rfl)
theorem dX8_reached_117 : decode cX8_reached 117 = .ok (.iinc 4 1, 3) := dk_132 4 1 (dk_at dksX8_reached_5 0 rfl rfl)
theorem dX8_reached_120 : decode cX8_reached 120 = .ok (.goto (-54), 3) := dk_167 255 202 (dk_at dksX8_reached_5 3 rfl rfl)
theorem dX8_reached_123 : decode cX8_reached 123 = .ok (.iload_n 1, 1) := dk_27 (dk_at dksX8_reached_5 6 rfl rfl)
theorem dX8_reached_124 : decode cX8_reached 124 = .ok (.iconst 2, 1) := dk_5 (dk_at dksX8_reached_5 7 rfl rfl)
theorem dX8_reached_125 : decode cX8_reached 125 = .ok (.if_icmp .ne 7, 3) := dk_160 0 7 (dk_at dksX8_reached_5 8 rfl rfl)
theorem dX8_reached_128 : decode cX8_reached 128 = .ok (.iload_n 2, 1) := dk_28 (dk_at dksX8_reached_5 11 rfl rfl)
theorem dX8_reached_129 : decode cX8_reached 129 = .ok (.goto 4, 3) := dk_167 0 4 (dk_at dksX8_reached_5 12 rfl rfl)
theorem dX8_reached_132 : decode cX8_reached 132 = .ok (.iload_n 3, 1) := dk_29 (dk_at dksX8_reached_5 15 rfl rfl)
theorem dX8_reached_133 : decode cX8_reached 133 = .ok (.ireturn, 1) := dk_172 (dk_at dksX8_reached_5 16 rfl rfl)
abbrev cX8_finds : ByteArray := prog_19_method_71_code
def yX8_finds : MethodName := ⟨RX8, "finds", "()Z"⟩
def dkwX8_finds_2 : List UInt8 := [181, 1, 167, 27, 172]
abbrev dktX8_finds_2 : List UInt8 := dkwX8_finds_2 ++ []
def dkwX8_finds_1 : List UInt8 := [181, 0, 96, 42, 42, 182, 1, 151, 182, 1, 190, 60, 27, 153, 0, 7, 42, 182, 1, 193, 42, 4]
abbrev dktX8_finds_1 : List UInt8 := dkwX8_finds_1 ++ dktX8_finds_2
def dkwX8_finds_0 : List UInt8 := [42, 180, 1, 167, 153, 0, 16, 42, 180, 1, 173, 154, 0, 7, 4, 167, 0, 4, 3, 172, 42, 2]
abbrev dktX8_finds_0 : List UInt8 := dkwX8_finds_0 ++ dktX8_finds_1
theorem dksX8_finds_0 : cX8_finds.data.toList.drop 0 = dktX8_finds_0 := by decide +kernel
theorem dksX8_finds_1 : cX8_finds.data.toList.drop 22 = dktX8_finds_1 := dk_seg dksX8_finds_0 22 rfl rfl
theorem dksX8_finds_2 : cX8_finds.data.toList.drop 44 = dktX8_finds_2 := dk_seg dksX8_finds_1 22 rfl rfl
theorem dX8_finds_0 : decode cX8_finds 0 = .ok (.aload_n 0, 1) := dk_42 (dk_at dksX8_finds_0 0 rfl rfl)
theorem dX8_finds_1 : decode cX8_finds 1 = .ok (.getfield 423, 3) := dk_180 1 167 (dk_at dksX8_finds_0 1 rfl rfl)
theorem dX8_finds_4 : decode cX8_finds 4 = .ok (.ifCond .eq 16, 3) := dk_153 0 16 (dk_at dksX8_finds_0 4 rfl rfl)
theorem dX8_finds_7 : decode cX8_finds 7 = .ok (.aload_n 0, 1) := dk_42 (dk_at dksX8_finds_0 7 rfl rfl)
theorem dX8_finds_8 : decode cX8_finds 8 = .ok (.getfield 429, 3) := dk_180 1 173 (dk_at dksX8_finds_0 8 rfl rfl)
theorem dX8_finds_11 : decode cX8_finds 11 = .ok (.ifCond .ne 7, 3) := dk_154 0 7 (dk_at dksX8_finds_0 11 rfl rfl)
theorem dX8_finds_14 : decode cX8_finds 14 = .ok (.iconst 1, 1) := dk_4 (dk_at dksX8_finds_0 14 rfl rfl)
theorem dX8_finds_15 : decode cX8_finds 15 = .ok (.goto 4, 3) := dk_167 0 4 (dk_at dksX8_finds_0 15 rfl rfl)
theorem dX8_finds_18 : decode cX8_finds 18 = .ok (.iconst 0, 1) := dk_3 (dk_at dksX8_finds_0 18 rfl rfl)
theorem dX8_finds_19 : decode cX8_finds 19 = .ok (.ireturn, 1) := dk_172 (dk_at dksX8_finds_0 19 rfl rfl)
theorem dX8_finds_20 : decode cX8_finds 20 = .ok (.aload_n 0, 1) := dk_42 (dk_at dksX8_finds_0 20 rfl rfl)
theorem dX8_finds_21 : decode cX8_finds 21 = .ok (.iconst (-1), 1) := dk_2 (dk_at dksX8_finds_0 21 rfl rfl)
theorem dX8_finds_22 : decode cX8_finds 22 = .ok (.putfield 96, 3) := dk_181 0 96 (dk_at dksX8_finds_1 0 rfl rfl)
theorem dX8_finds_25 : decode cX8_finds 25 = .ok (.aload_n 0, 1) := dk_42 (dk_at dksX8_finds_1 3 rfl rfl)
theorem dX8_finds_26 : decode cX8_finds 26 = .ok (.aload_n 0, 1) := dk_42 (dk_at dksX8_finds_1 4 rfl rfl)
theorem dX8_finds_27 : decode cX8_finds 27 = .ok (.invokevirtual 407, 3) := dk_182 1 151 (dk_at dksX8_finds_1 5 rfl rfl)
theorem dX8_finds_30 : decode cX8_finds 30 = .ok (.invokevirtual 446, 3) := dk_182 1 190 (dk_at dksX8_finds_1 8 rfl rfl)
theorem dX8_finds_33 : decode cX8_finds 33 = .ok (.istore_n 1, 1) := dk_60 (dk_at dksX8_finds_1 11 rfl rfl)
theorem dX8_finds_34 : decode cX8_finds 34 = .ok (.iload_n 1, 1) := dk_27 (dk_at dksX8_finds_1 12 rfl rfl)
theorem dX8_finds_35 : decode cX8_finds 35 = .ok (.ifCond .eq 7, 3) := dk_153 0 7 (dk_at dksX8_finds_1 13 rfl rfl)
theorem dX8_finds_38 : decode cX8_finds 38 = .ok (.aload_n 0, 1) := dk_42 (dk_at dksX8_finds_1 16 rfl rfl)
theorem dX8_finds_39 : decode cX8_finds 39 = .ok (.invokevirtual 449, 3) := dk_182 1 193 (dk_at dksX8_finds_1 17 rfl rfl)
theorem dX8_finds_42 : decode cX8_finds 42 = .ok (.aload_n 0, 1) := dk_42 (dk_at dksX8_finds_1 20 rfl rfl)
theorem dX8_finds_43 : decode cX8_finds 43 = .ok (.iconst 1, 1) := dk_4 (dk_at dksX8_finds_1 21 rfl rfl)
theorem dX8_finds_44 : decode cX8_finds 44 = .ok (.putfield 423, 3) := dk_181 1 167 (dk_at dksX8_finds_2 0 rfl rfl)
theorem dX8_finds_47 : decode cX8_finds 47 = .ok (.iload_n 1, 1) := dk_27 (dk_at dksX8_finds_2 3 rfl rfl)
theorem dX8_finds_48 : decode cX8_finds 48 = .ok (.ireturn, 1) := dk_172 (dk_at dksX8_finds_2 4 rfl rfl)
abbrev cX8_explores : ByteArray := prog_19_method_68_code
def yX8_explores : MethodName := ⟨RX8, "explores", "(I)Z"⟩
def dkwX8_explores_8 : List UInt8 := [167, 0, 4, 3, 172]
abbrev dktX8_explores_8 : List UInt8 := dkwX8_explores_8 ++ []
def dkwX8_explores_7 : List UInt8 := [167, 255, 172, 42, 180, 0, 102, 42, 180, 1, 164, 42, 180, 1, 170, 79, 42, 180, 1, 173, 154, 0, 7, 4]
abbrev dktX8_explores_7 : List UInt8 := dkwX8_explores_7 ++ dktX8_explores_8
def dkwX8_explores_6 : List UInt8 := [21, 4, 21, 5, 182, 1, 182, 132, 5, 1, 167, 255, 228, 132, 4, 1, 167, 255, 206, 132, 3, 1]
abbrev dktX8_explores_6 : List UInt8 := dkwX8_explores_6 ++ dktX8_explores_7
def dkwX8_explores_5 : List UInt8 := [154, 0, 43, 3, 54, 5, 21, 5, 42, 180, 0, 7, 162, 0, 25, 42, 180, 1, 173, 154, 0, 18, 42, 29]
abbrev dktX8_explores_5 : List UInt8 := dkwX8_explores_5 ++ dktX8_explores_6
def dkwX8_explores_4 : List UInt8 := [180, 0, 102, 29, 42, 180, 1, 170, 79, 3, 54, 4, 21, 4, 42, 180, 1, 85, 162, 0, 47, 28]
abbrev dktX8_explores_4 : List UInt8 := dkwX8_explores_4 ++ dktX8_explores_5
def dkwX8_explores_3 : List UInt8 := [4, 167, 0, 4, 3, 61, 3, 62, 29, 42, 180, 1, 164, 162, 0, 82, 42, 180, 1, 173, 154, 0, 75, 42]
abbrev dktX8_explores_3 : List UInt8 := dkwX8_explores_3 ++ dktX8_explores_4
def dkwX8_explores_2 : List UInt8 := [180, 0, 105, 42, 27, 182, 1, 179, 3, 79, 42, 42, 182, 1, 151, 3, 3, 3, 182, 1, 154, 153, 0, 7]
abbrev dktX8_explores_2 : List UInt8 := dkwX8_explores_2 ++ dktX8_explores_3
def dkwX8_explores_1 : List UInt8 := [167, 255, 239, 42, 3, 181, 1, 164, 42, 3, 181, 1, 170, 42, 3, 181, 1, 173, 42, 182, 1, 176, 42]
abbrev dktX8_explores_1 : List UInt8 := dkwX8_explores_1 ++ dktX8_explores_2
def dkwX8_explores_0 : List UInt8 := [42, 3, 181, 1, 167, 3, 61, 28, 17, 32, 0, 162, 0, 16, 42, 180, 0, 111, 28, 3, 79, 132, 2, 1]
abbrev dktX8_explores_0 : List UInt8 := dkwX8_explores_0 ++ dktX8_explores_1
theorem dksX8_explores_0 : cX8_explores.data.toList.drop 0 = dktX8_explores_0 := by decide +kernel
theorem dksX8_explores_1 : cX8_explores.data.toList.drop 24 = dktX8_explores_1 := dk_seg dksX8_explores_0 24 rfl rfl
theorem dksX8_explores_2 : cX8_explores.data.toList.drop 47 = dktX8_explores_2 := dk_seg dksX8_explores_1 23 rfl rfl
theorem dksX8_explores_3 : cX8_explores.data.toList.drop 71 = dktX8_explores_3 := dk_seg dksX8_explores_2 24 rfl rfl
theorem dksX8_explores_4 : cX8_explores.data.toList.drop 95 = dktX8_explores_4 := dk_seg dksX8_explores_3 24 rfl rfl
theorem dksX8_explores_5 : cX8_explores.data.toList.drop 117 = dktX8_explores_5 := dk_seg dksX8_explores_4 22 rfl rfl
theorem dksX8_explores_6 : cX8_explores.data.toList.drop 141 = dktX8_explores_6 := dk_seg dksX8_explores_5 24 rfl rfl
theorem dksX8_explores_7 : cX8_explores.data.toList.drop 163 = dktX8_explores_7 := dk_seg dksX8_explores_6 22 rfl rfl
theorem dksX8_explores_8 : cX8_explores.data.toList.drop 187 = dktX8_explores_8 := dk_seg dksX8_explores_7 24 rfl rfl
theorem dX8_explores_0 : decode cX8_explores 0 = .ok (.aload_n 0, 1) := dk_42 (dk_at dksX8_explores_0 0 rfl rfl)
theorem dX8_explores_1 : decode cX8_explores 1 = .ok (.iconst 0, 1) := dk_3 (dk_at dksX8_explores_0 1 rfl rfl)
theorem dX8_explores_2 : decode cX8_explores 2 = .ok (.putfield 423, 3) := dk_181 1 167 (dk_at dksX8_explores_0 2 rfl rfl)
theorem dX8_explores_5 : decode cX8_explores 5 = .ok (.iconst 0, 1) := dk_3 (dk_at dksX8_explores_0 5 rfl rfl)
theorem dX8_explores_6 : decode cX8_explores 6 = .ok (.istore_n 2, 1) := dk_61 (dk_at dksX8_explores_0 6 rfl rfl)
theorem dX8_explores_7 : decode cX8_explores 7 = .ok (.iload_n 2, 1) := dk_28 (dk_at dksX8_explores_0 7 rfl rfl)
theorem dX8_explores_8 : decode cX8_explores 8 = .ok (.sipush 8192, 3) := dk_17 32 0 (dk_at dksX8_explores_0 8 rfl rfl)
theorem dX8_explores_11 : decode cX8_explores 11 = .ok (.if_icmp .ge 16, 3) := dk_162 0 16 (dk_at dksX8_explores_0 11 rfl rfl)
theorem dX8_explores_14 : decode cX8_explores 14 = .ok (.aload_n 0, 1) := dk_42 (dk_at dksX8_explores_0 14 rfl rfl)
theorem dX8_explores_15 : decode cX8_explores 15 = .ok (.getfield 111, 3) := dk_180 0 111 (dk_at dksX8_explores_0 15 rfl rfl)
theorem dX8_explores_18 : decode cX8_explores 18 = .ok (.iload_n 2, 1) := dk_28 (dk_at dksX8_explores_0 18 rfl rfl)
theorem dX8_explores_19 : decode cX8_explores 19 = .ok (.iconst 0, 1) := dk_3 (dk_at dksX8_explores_0 19 rfl rfl)
theorem dX8_explores_20 : decode cX8_explores 20 = .ok (.iastore, 1) := dk_79 (dk_at dksX8_explores_0 20 rfl rfl)
theorem dX8_explores_21 : decode cX8_explores 21 = .ok (.iinc 2 1, 3) := dk_132 2 1 (dk_at dksX8_explores_0 21 rfl rfl)
theorem dX8_explores_24 : decode cX8_explores 24 = .ok (.goto (-17), 3) := dk_167 255 239 (dk_at dksX8_explores_1 0 rfl rfl)
theorem dX8_explores_27 : decode cX8_explores 27 = .ok (.aload_n 0, 1) := dk_42 (dk_at dksX8_explores_1 3 rfl rfl)
theorem dX8_explores_28 : decode cX8_explores 28 = .ok (.iconst 0, 1) := dk_3 (dk_at dksX8_explores_1 4 rfl rfl)
theorem dX8_explores_29 : decode cX8_explores 29 = .ok (.putfield 420, 3) := dk_181 1 164 (dk_at dksX8_explores_1 5 rfl rfl)
theorem dX8_explores_32 : decode cX8_explores 32 = .ok (.aload_n 0, 1) := dk_42 (dk_at dksX8_explores_1 8 rfl rfl)
theorem dX8_explores_33 : decode cX8_explores 33 = .ok (.iconst 0, 1) := dk_3 (dk_at dksX8_explores_1 9 rfl rfl)
theorem dX8_explores_34 : decode cX8_explores 34 = .ok (.putfield 426, 3) := dk_181 1 170 (dk_at dksX8_explores_1 10 rfl rfl)
theorem dX8_explores_37 : decode cX8_explores 37 = .ok (.aload_n 0, 1) := dk_42 (dk_at dksX8_explores_1 13 rfl rfl)
theorem dX8_explores_38 : decode cX8_explores 38 = .ok (.iconst 0, 1) := dk_3 (dk_at dksX8_explores_1 14 rfl rfl)
theorem dX8_explores_39 : decode cX8_explores 39 = .ok (.putfield 429, 3) := dk_181 1 173 (dk_at dksX8_explores_1 15 rfl rfl)
theorem dX8_explores_42 : decode cX8_explores 42 = .ok (.aload_n 0, 1) := dk_42 (dk_at dksX8_explores_1 18 rfl rfl)
theorem dX8_explores_43 : decode cX8_explores 43 = .ok (.invokevirtual 432, 3) := dk_182 1 176 (dk_at dksX8_explores_1 19 rfl rfl)
theorem dX8_explores_46 : decode cX8_explores 46 = .ok (.aload_n 0, 1) := dk_42 (dk_at dksX8_explores_1 22 rfl rfl)
theorem dX8_explores_47 : decode cX8_explores 47 = .ok (.getfield 105, 3) := dk_180 0 105 (dk_at dksX8_explores_2 0 rfl rfl)
theorem dX8_explores_50 : decode cX8_explores 50 = .ok (.aload_n 0, 1) := dk_42 (dk_at dksX8_explores_2 3 rfl rfl)
theorem dX8_explores_51 : decode cX8_explores 51 = .ok (.iload_n 1, 1) := dk_27 (dk_at dksX8_explores_2 4 rfl rfl)
theorem dX8_explores_52 : decode cX8_explores 52 = .ok (.invokevirtual 435, 3) := dk_182 1 179 (dk_at dksX8_explores_2 5 rfl rfl)
theorem dX8_explores_55 : decode cX8_explores 55 = .ok (.iconst 0, 1) := dk_3 (dk_at dksX8_explores_2 8 rfl rfl)
theorem dX8_explores_56 : decode cX8_explores 56 = .ok (.iastore, 1) := dk_79 (dk_at dksX8_explores_2 9 rfl rfl)
theorem dX8_explores_57 : decode cX8_explores 57 = .ok (.aload_n 0, 1) := dk_42 (dk_at dksX8_explores_2 10 rfl rfl)
theorem dX8_explores_58 : decode cX8_explores 58 = .ok (.aload_n 0, 1) := dk_42 (dk_at dksX8_explores_2 11 rfl rfl)
theorem dX8_explores_59 : decode cX8_explores 59 = .ok (.invokevirtual 407, 3) := dk_182 1 151 (dk_at dksX8_explores_2 12 rfl rfl)
theorem dX8_explores_62 : decode cX8_explores 62 = .ok (.iconst 0, 1) := dk_3 (dk_at dksX8_explores_2 15 rfl rfl)
theorem dX8_explores_63 : decode cX8_explores 63 = .ok (.iconst 0, 1) := dk_3 (dk_at dksX8_explores_2 16 rfl rfl)
theorem dX8_explores_64 : decode cX8_explores 64 = .ok (.iconst 0, 1) := dk_3 (dk_at dksX8_explores_2 17 rfl rfl)
theorem dX8_explores_65 : decode cX8_explores 65 = .ok (.invokevirtual 410, 3) := dk_182 1 154 (dk_at dksX8_explores_2 18 rfl rfl)
theorem dX8_explores_68 : decode cX8_explores 68 = .ok (.ifCond .eq 7, 3) := dk_153 0 7 (dk_at dksX8_explores_2 21 rfl rfl)
theorem dX8_explores_71 : decode cX8_explores 71 = .ok (.iconst 1, 1) := dk_4 (dk_at dksX8_explores_3 0 rfl rfl)
theorem dX8_explores_72 : decode cX8_explores 72 = .ok (.goto 4, 3) := dk_167 0 4 (dk_at dksX8_explores_3 1 rfl rfl)
theorem dX8_explores_75 : decode cX8_explores 75 = .ok (.iconst 0, 1) := dk_3 (dk_at dksX8_explores_3 4 rfl rfl)
theorem dX8_explores_76 : decode cX8_explores 76 = .ok (.istore_n 2, 1) := dk_61 (dk_at dksX8_explores_3 5 rfl rfl)
theorem dX8_explores_77 : decode cX8_explores 77 = .ok (.iconst 0, 1) := dk_3 (dk_at dksX8_explores_3 6 rfl rfl)
theorem dX8_explores_78 : decode cX8_explores 78 = .ok (.istore_n 3, 1) := dk_62 (dk_at dksX8_explores_3 7 rfl rfl)
theorem dX8_explores_79 : decode cX8_explores 79 = .ok (.iload_n 3, 1) := dk_29 (dk_at dksX8_explores_3 8 rfl rfl)
theorem dX8_explores_80 : decode cX8_explores 80 = .ok (.aload_n 0, 1) := dk_42 (dk_at dksX8_explores_3 9 rfl rfl)
theorem dX8_explores_81 : decode cX8_explores 81 = .ok (.getfield 420, 3) := dk_180 1 164 (dk_at dksX8_explores_3 10 rfl rfl)
theorem dX8_explores_84 : decode cX8_explores 84 = .ok (.if_icmp .ge 82, 3) := dk_162 0 82 (dk_at dksX8_explores_3 13 rfl rfl)
theorem dX8_explores_87 : decode cX8_explores 87 = .ok (.aload_n 0, 1) := dk_42 (dk_at dksX8_explores_3 16 rfl rfl)
theorem dX8_explores_88 : decode cX8_explores 88 = .ok (.getfield 429, 3) := dk_180 1 173 (dk_at dksX8_explores_3 17 rfl rfl)
theorem dX8_explores_91 : decode cX8_explores 91 = .ok (.ifCond .ne 75, 3) := dk_154 0 75 (dk_at dksX8_explores_3 20 rfl rfl)
theorem dX8_explores_94 : decode cX8_explores 94 = .ok (.aload_n 0, 1) := dk_42 (dk_at dksX8_explores_3 23 rfl rfl)
theorem dX8_explores_95 : decode cX8_explores 95 = .ok (.getfield 102, 3) := dk_180 0 102 (dk_at dksX8_explores_4 0 rfl rfl)
theorem dX8_explores_98 : decode cX8_explores 98 = .ok (.iload_n 3, 1) := dk_29 (dk_at dksX8_explores_4 3 rfl rfl)
theorem dX8_explores_99 : decode cX8_explores 99 = .ok (.aload_n 0, 1) := dk_42 (dk_at dksX8_explores_4 4 rfl rfl)
theorem dX8_explores_100 : decode cX8_explores 100 = .ok (.getfield 426, 3) := dk_180 1 170 (dk_at dksX8_explores_4 5 rfl rfl)
theorem dX8_explores_103 : decode cX8_explores 103 = .ok (.iastore, 1) := dk_79 (dk_at dksX8_explores_4 8 rfl rfl)
theorem dX8_explores_104 : decode cX8_explores 104 = .ok (.iconst 0, 1) := dk_3 (dk_at dksX8_explores_4 9 rfl rfl)
theorem dX8_explores_105 : decode cX8_explores 105 = .ok (.istore 4, 2) := dk_54 4 (dk_at dksX8_explores_4 10 rfl rfl)
theorem dX8_explores_107 : decode cX8_explores 107 = .ok (.iload 4, 2) := dk_21 4 (dk_at dksX8_explores_4 12 rfl rfl)
theorem dX8_explores_109 : decode cX8_explores 109 = .ok (.aload_n 0, 1) := dk_42 (dk_at dksX8_explores_4 14 rfl rfl)
theorem dX8_explores_110 : decode cX8_explores 110 = .ok (.getfield 341, 3) := dk_180 1 85 (dk_at dksX8_explores_4 15 rfl rfl)
theorem dX8_explores_113 : decode cX8_explores 113 = .ok (.if_icmp .ge 47, 3) := dk_162 0 47 (dk_at dksX8_explores_4 18 rfl rfl)
theorem dX8_explores_116 : decode cX8_explores 116 = .ok (.iload_n 2, 1) := dk_28 (dk_at dksX8_explores_4 21 rfl rfl)
theorem dX8_explores_117 : decode cX8_explores 117 = .ok (.ifCond .ne 43, 3) := dk_154 0 43 (dk_at dksX8_explores_5 0 rfl rfl)
theorem dX8_explores_120 : decode cX8_explores 120 = .ok (.iconst 0, 1) := dk_3 (dk_at dksX8_explores_5 3 rfl rfl)
theorem dX8_explores_121 : decode cX8_explores 121 = .ok (.istore 5, 2) := dk_54 5 (dk_at dksX8_explores_5 4 rfl rfl)
theorem dX8_explores_123 : decode cX8_explores 123 = .ok (.iload 5, 2) := dk_21 5 (dk_at dksX8_explores_5 6 rfl rfl)
theorem dX8_explores_125 : decode cX8_explores 125 = .ok (.aload_n 0, 1) := dk_42 (dk_at dksX8_explores_5 8 rfl rfl)
theorem dX8_explores_126 : decode cX8_explores 126 = .ok (.getfield 7, 3) := dk_180 0 7 (dk_at dksX8_explores_5 9 rfl rfl)
theorem dX8_explores_129 : decode cX8_explores 129 = .ok (.if_icmp .ge 25, 3) := dk_162 0 25 (dk_at dksX8_explores_5 12 rfl rfl)
theorem dX8_explores_132 : decode cX8_explores 132 = .ok (.aload_n 0, 1) := dk_42 (dk_at dksX8_explores_5 15 rfl rfl)
theorem dX8_explores_133 : decode cX8_explores 133 = .ok (.getfield 429, 3) := dk_180 1 173 (dk_at dksX8_explores_5 16 rfl rfl)
theorem dX8_explores_136 : decode cX8_explores 136 = .ok (.ifCond .ne 18, 3) := dk_154 0 18 (dk_at dksX8_explores_5 19 rfl rfl)
theorem dX8_explores_139 : decode cX8_explores 139 = .ok (.aload_n 0, 1) := dk_42 (dk_at dksX8_explores_5 22 rfl rfl)
theorem dX8_explores_140 : decode cX8_explores 140 = .ok (.iload_n 3, 1) := dk_29 (dk_at dksX8_explores_5 23 rfl rfl)
theorem dX8_explores_141 : decode cX8_explores 141 = .ok (.iload 4, 2) := dk_21 4 (dk_at dksX8_explores_6 0 rfl rfl)
theorem dX8_explores_143 : decode cX8_explores 143 = .ok (.iload 5, 2) := dk_21 5 (dk_at dksX8_explores_6 2 rfl rfl)
theorem dX8_explores_145 : decode cX8_explores 145 = .ok (.invokevirtual 438, 3) := dk_182 1 182 (dk_at dksX8_explores_6 4 rfl rfl)
theorem dX8_explores_148 : decode cX8_explores 148 = .ok (.iinc 5 1, 3) := dk_132 5 1 (dk_at dksX8_explores_6 7 rfl rfl)
theorem dX8_explores_151 : decode cX8_explores 151 = .ok (.goto (-28), 3) := dk_167 255 228 (dk_at dksX8_explores_6 10 rfl rfl)
theorem dX8_explores_154 : decode cX8_explores 154 = .ok (.iinc 4 1, 3) := dk_132 4 1 (dk_at dksX8_explores_6 13 rfl rfl)
theorem dX8_explores_157 : decode cX8_explores 157 = .ok (.goto (-50), 3) := dk_167 255 206 (dk_at dksX8_explores_6 16 rfl rfl)
theorem dX8_explores_160 : decode cX8_explores 160 = .ok (.iinc 3 1, 3) := dk_132 3 1 (dk_at dksX8_explores_6 19 rfl rfl)
theorem dX8_explores_163 : decode cX8_explores 163 = .ok (.goto (-84), 3) := dk_167 255 172 (dk_at dksX8_explores_7 0 rfl rfl)
theorem dX8_explores_166 : decode cX8_explores 166 = .ok (.aload_n 0, 1) := dk_42 (dk_at dksX8_explores_7 3 rfl rfl)
theorem dX8_explores_167 : decode cX8_explores 167 = .ok (.getfield 102, 3) := dk_180 0 102 (dk_at dksX8_explores_7 4 rfl rfl)
theorem dX8_explores_170 : decode cX8_explores 170 = .ok (.aload_n 0, 1) := dk_42 (dk_at dksX8_explores_7 7 rfl rfl)
theorem dX8_explores_171 : decode cX8_explores 171 = .ok (.getfield 420, 3) := dk_180 1 164 (dk_at dksX8_explores_7 8 rfl rfl)
theorem dX8_explores_174 : decode cX8_explores 174 = .ok (.aload_n 0, 1) := dk_42 (dk_at dksX8_explores_7 11 rfl rfl)
theorem dX8_explores_175 : decode cX8_explores 175 = .ok (.getfield 426, 3) := dk_180 1 170 (dk_at dksX8_explores_7 12 rfl rfl)
theorem dX8_explores_178 : decode cX8_explores 178 = .ok (.iastore, 1) := dk_79 (dk_at dksX8_explores_7 15 rfl rfl)
theorem dX8_explores_179 : decode cX8_explores 179 = .ok (.aload_n 0, 1) := dk_42 (dk_at dksX8_explores_7 16 rfl rfl)
theorem dX8_explores_180 : decode cX8_explores 180 = .ok (.getfield 429, 3) := dk_180 1 173 (dk_at dksX8_explores_7 17 rfl rfl)
theorem dX8_explores_183 : decode cX8_explores 183 = .ok (.ifCond .ne 7, 3) := dk_154 0 7 (dk_at dksX8_explores_7 20 rfl rfl)
theorem dX8_explores_186 : decode cX8_explores 186 = .ok (.iconst 1, 1) := dk_4 (dk_at dksX8_explores_7 23 rfl rfl)
theorem dX8_explores_187 : decode cX8_explores 187 = .ok (.goto 4, 3) := dk_167 0 4 (dk_at dksX8_explores_8 0 rfl rfl)
theorem dX8_explores_190 : decode cX8_explores 190 = .ok (.iconst 0, 1) := dk_3 (dk_at dksX8_explores_8 3 rfl rfl)
theorem dX8_explores_191 : decode cX8_explores 191 = .ok (.ireturn, 1) := dk_172 (dk_at dksX8_explores_8 4 rfl rfl)
abbrev cX8_sets : ByteArray := prog_19_method_67_code
def yX8_sets : MethodName := ⟨RX8, "sets", "()V"⟩
def dkwX8_sets_4 : List UInt8 := [4, 96, 79, 132, 2, 1, 167, 255, 175, 132, 1, 1, 167, 255, 152, 177]
abbrev dktX8_sets_4 : List UInt8 := dkwX8_sets_4 ++ []
def dkwX8_sets_3 : List UInt8 := [180, 0, 134, 17, 1, 0, 27, 104, 42, 180, 0, 131, 27, 46, 96, 28, 79, 42, 180, 0, 131, 27, 92, 46]
abbrev dktX8_sets_3 : List UInt8 := dkwX8_sets_3 ++ dktX8_sets_4
def dkwX8_sets_2 : List UInt8 := [42, 28, 42, 180, 0, 16, 182, 1, 97, 42, 180, 0, 29, 27, 46, 164, 0, 6, 167, 0, 31, 42]
abbrev dktX8_sets_2 : List UInt8 := dkwX8_sets_2 ++ dktX8_sets_3
def dkwX8_sets_1 : List UInt8 := [163, 0, 79, 42, 28, 182, 1, 101, 153, 0, 65, 28, 184, 1, 94, 42, 180, 0, 26, 27, 46, 163, 0, 52]
abbrev dktX8_sets_1 : List UInt8 := dkwX8_sets_1 ++ dktX8_sets_2
def dkwX8_sets_0 : List UInt8 := [3, 60, 27, 42, 180, 1, 85, 162, 0, 102, 42, 180, 0, 131, 27, 3, 79, 4, 61, 28, 42, 182, 1, 119]
abbrev dktX8_sets_0 : List UInt8 := dkwX8_sets_0 ++ dktX8_sets_1
theorem dksX8_sets_0 : cX8_sets.data.toList.drop 0 = dktX8_sets_0 := by decide +kernel
theorem dksX8_sets_1 : cX8_sets.data.toList.drop 24 = dktX8_sets_1 := dk_seg dksX8_sets_0 24 rfl rfl
theorem dksX8_sets_2 : cX8_sets.data.toList.drop 48 = dktX8_sets_2 := dk_seg dksX8_sets_1 24 rfl rfl
theorem dksX8_sets_3 : cX8_sets.data.toList.drop 70 = dktX8_sets_3 := dk_seg dksX8_sets_2 22 rfl rfl
theorem dksX8_sets_4 : cX8_sets.data.toList.drop 94 = dktX8_sets_4 := dk_seg dksX8_sets_3 24 rfl rfl
theorem dX8_sets_0 : decode cX8_sets 0 = .ok (.iconst 0, 1) := dk_3 (dk_at dksX8_sets_0 0 rfl rfl)
theorem dX8_sets_1 : decode cX8_sets 1 = .ok (.istore_n 1, 1) := dk_60 (dk_at dksX8_sets_0 1 rfl rfl)
theorem dX8_sets_2 : decode cX8_sets 2 = .ok (.iload_n 1, 1) := dk_27 (dk_at dksX8_sets_0 2 rfl rfl)
theorem dX8_sets_3 : decode cX8_sets 3 = .ok (.aload_n 0, 1) := dk_42 (dk_at dksX8_sets_0 3 rfl rfl)
theorem dX8_sets_4 : decode cX8_sets 4 = .ok (.getfield 341, 3) := dk_180 1 85 (dk_at dksX8_sets_0 4 rfl rfl)
theorem dX8_sets_7 : decode cX8_sets 7 = .ok (.if_icmp .ge 102, 3) := dk_162 0 102 (dk_at dksX8_sets_0 7 rfl rfl)
theorem dX8_sets_10 : decode cX8_sets 10 = .ok (.aload_n 0, 1) := dk_42 (dk_at dksX8_sets_0 10 rfl rfl)
theorem dX8_sets_11 : decode cX8_sets 11 = .ok (.getfield 131, 3) := dk_180 0 131 (dk_at dksX8_sets_0 11 rfl rfl)
theorem dX8_sets_14 : decode cX8_sets 14 = .ok (.iload_n 1, 1) := dk_27 (dk_at dksX8_sets_0 14 rfl rfl)
theorem dX8_sets_15 : decode cX8_sets 15 = .ok (.iconst 0, 1) := dk_3 (dk_at dksX8_sets_0 15 rfl rfl)
theorem dX8_sets_16 : decode cX8_sets 16 = .ok (.iastore, 1) := dk_79 (dk_at dksX8_sets_0 16 rfl rfl)
theorem dX8_sets_17 : decode cX8_sets 17 = .ok (.iconst 1, 1) := dk_4 (dk_at dksX8_sets_0 17 rfl rfl)
theorem dX8_sets_18 : decode cX8_sets 18 = .ok (.istore_n 2, 1) := dk_61 (dk_at dksX8_sets_0 18 rfl rfl)
theorem dX8_sets_19 : decode cX8_sets 19 = .ok (.iload_n 2, 1) := dk_28 (dk_at dksX8_sets_0 19 rfl rfl)
theorem dX8_sets_20 : decode cX8_sets 20 = .ok (.aload_n 0, 1) := dk_42 (dk_at dksX8_sets_0 20 rfl rfl)
theorem dX8_sets_21 : decode cX8_sets 21 = .ok (.invokevirtual 375, 3) := dk_182 1 119 (dk_at dksX8_sets_0 21 rfl rfl)
theorem dX8_sets_24 : decode cX8_sets 24 = .ok (.if_icmp .gt 79, 3) := dk_163 0 79 (dk_at dksX8_sets_1 0 rfl rfl)
theorem dX8_sets_27 : decode cX8_sets 27 = .ok (.aload_n 0, 1) := dk_42 (dk_at dksX8_sets_1 3 rfl rfl)
theorem dX8_sets_28 : decode cX8_sets 28 = .ok (.iload_n 2, 1) := dk_28 (dk_at dksX8_sets_1 4 rfl rfl)
theorem dX8_sets_29 : decode cX8_sets 29 = .ok (.invokevirtual 357, 3) := dk_182 1 101 (dk_at dksX8_sets_1 5 rfl rfl)
theorem dX8_sets_32 : decode cX8_sets 32 = .ok (.ifCond .eq 65, 3) := dk_153 0 65 (dk_at dksX8_sets_1 8 rfl rfl)
theorem dX8_sets_35 : decode cX8_sets 35 = .ok (.iload_n 2, 1) := dk_28 (dk_at dksX8_sets_1 11 rfl rfl)
theorem dX8_sets_36 : decode cX8_sets 36 = .ok (.invokestatic 350, 3) := dk_184 1 94 (dk_at dksX8_sets_1 12 rfl rfl)
theorem dX8_sets_39 : decode cX8_sets 39 = .ok (.aload_n 0, 1) := dk_42 (dk_at dksX8_sets_1 15 rfl rfl)
theorem dX8_sets_40 : decode cX8_sets 40 = .ok (.getfield 26, 3) := dk_180 0 26 (dk_at dksX8_sets_1 16 rfl rfl)
theorem dX8_sets_43 : decode cX8_sets 43 = .ok (.iload_n 1, 1) := dk_27 (dk_at dksX8_sets_1 19 rfl rfl)
theorem dX8_sets_44 : decode cX8_sets 44 = .ok (.iaload, 1) := dk_46 (dk_at dksX8_sets_1 20 rfl rfl)
theorem dX8_sets_45 : decode cX8_sets 45 = .ok (.if_icmp .gt 52, 3) := dk_163 0 52 (dk_at dksX8_sets_1 21 rfl rfl)
theorem dX8_sets_48 : decode cX8_sets 48 = .ok (.aload_n 0, 1) := dk_42 (dk_at dksX8_sets_2 0 rfl rfl)
theorem dX8_sets_49 : decode cX8_sets 49 = .ok (.iload_n 2, 1) := dk_28 (dk_at dksX8_sets_2 1 rfl rfl)
theorem dX8_sets_50 : decode cX8_sets 50 = .ok (.aload_n 0, 1) := dk_42 (dk_at dksX8_sets_2 2 rfl rfl)
theorem dX8_sets_51 : decode cX8_sets 51 = .ok (.getfield 16, 3) := dk_180 0 16 (dk_at dksX8_sets_2 3 rfl rfl)
theorem dX8_sets_54 : decode cX8_sets 54 = .ok (.invokevirtual 353, 3) := dk_182 1 97 (dk_at dksX8_sets_2 6 rfl rfl)
theorem dX8_sets_57 : decode cX8_sets 57 = .ok (.aload_n 0, 1) := dk_42 (dk_at dksX8_sets_2 9 rfl rfl)
theorem dX8_sets_58 : decode cX8_sets 58 = .ok (.getfield 29, 3) := dk_180 0 29 (dk_at dksX8_sets_2 10 rfl rfl)
theorem dX8_sets_61 : decode cX8_sets 61 = .ok (.iload_n 1, 1) := dk_27 (dk_at dksX8_sets_2 13 rfl rfl)
theorem dX8_sets_62 : decode cX8_sets 62 = .ok (.iaload, 1) := dk_46 (dk_at dksX8_sets_2 14 rfl rfl)
theorem dX8_sets_63 : decode cX8_sets 63 = .ok (.if_icmp .le 6, 3) := dk_164 0 6 (dk_at dksX8_sets_2 15 rfl rfl)
theorem dX8_sets_66 : decode cX8_sets 66 = .ok (.goto 31, 3) := dk_167 0 31 (dk_at dksX8_sets_2 18 rfl rfl)
theorem dX8_sets_69 : decode cX8_sets 69 = .ok (.aload_n 0, 1) := dk_42 (dk_at dksX8_sets_2 21 rfl rfl)
theorem dX8_sets_70 : decode cX8_sets 70 = .ok (.getfield 134, 3) := dk_180 0 134 (dk_at dksX8_sets_3 0 rfl rfl)
theorem dX8_sets_73 : decode cX8_sets 73 = .ok (.sipush 256, 3) := dk_17 1 0 (dk_at dksX8_sets_3 3 rfl rfl)
theorem dX8_sets_76 : decode cX8_sets 76 = .ok (.iload_n 1, 1) := dk_27 (dk_at dksX8_sets_3 6 rfl rfl)
theorem dX8_sets_77 : decode cX8_sets 77 = .ok (.imul, 1) := dk_104 (dk_at dksX8_sets_3 7 rfl rfl)
theorem dX8_sets_78 : decode cX8_sets 78 = .ok (.aload_n 0, 1) := dk_42 (dk_at dksX8_sets_3 8 rfl rfl)
theorem dX8_sets_79 : decode cX8_sets 79 = .ok (.getfield 131, 3) := dk_180 0 131 (dk_at dksX8_sets_3 9 rfl rfl)
theorem dX8_sets_82 : decode cX8_sets 82 = .ok (.iload_n 1, 1) := dk_27 (dk_at dksX8_sets_3 12 rfl rfl)
theorem dX8_sets_83 : decode cX8_sets 83 = .ok (.iaload, 1) := dk_46 (dk_at dksX8_sets_3 13 rfl rfl)
theorem dX8_sets_84 : decode cX8_sets 84 = .ok (.iadd, 1) := dk_96 (dk_at dksX8_sets_3 14 rfl rfl)
theorem dX8_sets_85 : decode cX8_sets 85 = .ok (.iload_n 2, 1) := dk_28 (dk_at dksX8_sets_3 15 rfl rfl)
theorem dX8_sets_86 : decode cX8_sets 86 = .ok (.iastore, 1) := dk_79 (dk_at dksX8_sets_3 16 rfl rfl)
theorem dX8_sets_87 : decode cX8_sets 87 = .ok (.aload_n 0, 1) := dk_42 (dk_at dksX8_sets_3 17 rfl rfl)
theorem dX8_sets_88 : decode cX8_sets 88 = .ok (.getfield 131, 3) := dk_180 0 131 (dk_at dksX8_sets_3 18 rfl rfl)
theorem dX8_sets_91 : decode cX8_sets 91 = .ok (.iload_n 1, 1) := dk_27 (dk_at dksX8_sets_3 21 rfl rfl)
theorem dX8_sets_92 : decode cX8_sets 92 = .ok (.dup2, 1) := dk_92 (dk_at dksX8_sets_3 22 rfl rfl)
theorem dX8_sets_93 : decode cX8_sets 93 = .ok (.iaload, 1) := dk_46 (dk_at dksX8_sets_3 23 rfl rfl)
theorem dX8_sets_94 : decode cX8_sets 94 = .ok (.iconst 1, 1) := dk_4 (dk_at dksX8_sets_4 0 rfl rfl)
theorem dX8_sets_95 : decode cX8_sets 95 = .ok (.iadd, 1) := dk_96 (dk_at dksX8_sets_4 1 rfl rfl)
theorem dX8_sets_96 : decode cX8_sets 96 = .ok (.iastore, 1) := dk_79 (dk_at dksX8_sets_4 2 rfl rfl)
theorem dX8_sets_97 : decode cX8_sets 97 = .ok (.iinc 2 1, 3) := dk_132 2 1 (dk_at dksX8_sets_4 3 rfl rfl)
theorem dX8_sets_100 : decode cX8_sets 100 = .ok (.goto (-81), 3) := dk_167 255 175 (dk_at dksX8_sets_4 6 rfl rfl)
theorem dX8_sets_103 : decode cX8_sets 103 = .ok (.iinc 1 1, 3) := dk_132 1 1 (dk_at dksX8_sets_4 9 rfl rfl)
theorem dX8_sets_106 : decode cX8_sets 106 = .ok (.goto (-104), 3) := dk_167 255 152 (dk_at dksX8_sets_4 12 rfl rfl)
theorem dX8_sets_109 : decode cX8_sets 109 = .ok (.return_, 1) := dk_177 (dk_at dksX8_sets_4 15 rfl rfl)
abbrev cX8_numberOf : ByteArray := prog_19_method_66_code
def yX8_numberOf : MethodName := ⟨RX8, "numberOf", "(I)I"⟩
def dkwX8_numberOf_5 : List UInt8 := [180, 1, 164, 4, 100, 172]
abbrev dktX8_numberOf_5 : List UInt8 := dkwX8_numberOf_5 ++ []
def dkwX8_numberOf_4 : List UInt8 := [180, 0, 111, 28, 42, 180, 1, 164, 4, 96, 79, 42, 89, 180, 1, 164, 4, 96, 181, 1, 164, 42]
abbrev dktX8_numberOf_4 : List UInt8 := dkwX8_numberOf_4 ++ dktX8_numberOf_5
def dkwX8_numberOf_3 : List UInt8 := [180, 1, 164, 17, 7, 208, 160, 0, 5, 2, 172, 42, 180, 0, 99, 42, 180, 1, 164, 27, 79, 42]
abbrev dktX8_numberOf_3 : List UInt8 := dkwX8_numberOf_3 ++ dktX8_numberOf_4
def dkwX8_numberOf_2 : List UInt8 := [167, 255, 222, 42, 180, 0, 111, 28, 46, 153, 0, 12, 42, 180, 0, 111, 28, 46, 4, 100, 172, 42]
abbrev dktX8_numberOf_2 : List UInt8 := dkwX8_numberOf_2 ++ dktX8_numberOf_3
def dkwX8_numberOf_1 : List UInt8 := [180, 0, 99, 42, 180, 0, 111, 28, 46, 4, 100, 46, 27, 159, 0, 14, 28, 4, 96, 17, 31, 255, 126, 61]
abbrev dktX8_numberOf_1 : List UInt8 := dkwX8_numberOf_1 ++ dktX8_numberOf_2
def dkwX8_numberOf_0 : List UInt8 := [27, 27, 16, 9, 122, 130, 16, 31, 104, 17, 31, 255, 126, 61, 42, 180, 0, 111, 28, 46, 153, 0, 31, 42]
abbrev dktX8_numberOf_0 : List UInt8 := dkwX8_numberOf_0 ++ dktX8_numberOf_1
theorem dksX8_numberOf_0 : cX8_numberOf.data.toList.drop 0 = dktX8_numberOf_0 := by decide +kernel
theorem dksX8_numberOf_1 : cX8_numberOf.data.toList.drop 24 = dktX8_numberOf_1 := dk_seg dksX8_numberOf_0 24 rfl rfl
theorem dksX8_numberOf_2 : cX8_numberOf.data.toList.drop 48 = dktX8_numberOf_2 := dk_seg dksX8_numberOf_1 24 rfl rfl
theorem dksX8_numberOf_3 : cX8_numberOf.data.toList.drop 70 = dktX8_numberOf_3 := dk_seg dksX8_numberOf_2 22 rfl rfl
theorem dksX8_numberOf_4 : cX8_numberOf.data.toList.drop 92 = dktX8_numberOf_4 := dk_seg dksX8_numberOf_3 22 rfl rfl
theorem dksX8_numberOf_5 : cX8_numberOf.data.toList.drop 114 = dktX8_numberOf_5 := dk_seg dksX8_numberOf_4 22 rfl rfl
theorem dX8_numberOf_0 : decode cX8_numberOf 0 = .ok (.iload_n 1, 1) := dk_27 (dk_at dksX8_numberOf_0 0 rfl rfl)
theorem dX8_numberOf_1 : decode cX8_numberOf 1 = .ok (.iload_n 1, 1) := dk_27 (dk_at dksX8_numberOf_0 1 rfl rfl)
theorem dX8_numberOf_2 : decode cX8_numberOf 2 = .ok (.bipush 9, 2) := dk_16 9 (dk_at dksX8_numberOf_0 2 rfl rfl)
theorem dX8_numberOf_4 : decode cX8_numberOf 4 = .ok (.ishr, 1) := dk_122 (dk_at dksX8_numberOf_0 4 rfl rfl)
theorem dX8_numberOf_5 : decode cX8_numberOf 5 = .ok (.ixor, 1) := dk_130 (dk_at dksX8_numberOf_0 5 rfl rfl)
theorem dX8_numberOf_6 : decode cX8_numberOf 6 = .ok (.bipush 31, 2) := dk_16 31 (dk_at dksX8_numberOf_0 6 rfl rfl)
theorem dX8_numberOf_8 : decode cX8_numberOf 8 = .ok (.imul, 1) := dk_104 (dk_at dksX8_numberOf_0 8 rfl rfl)
theorem dX8_numberOf_9 : decode cX8_numberOf 9 = .ok (.sipush 8191, 3) := dk_17 31 255 (dk_at dksX8_numberOf_0 9 rfl rfl)
theorem dX8_numberOf_12 : decode cX8_numberOf 12 = .ok (.iand, 1) := dk_126 (dk_at dksX8_numberOf_0 12 rfl rfl)
theorem dX8_numberOf_13 : decode cX8_numberOf 13 = .ok (.istore_n 2, 1) := dk_61 (dk_at dksX8_numberOf_0 13 rfl rfl)
theorem dX8_numberOf_14 : decode cX8_numberOf 14 = .ok (.aload_n 0, 1) := dk_42 (dk_at dksX8_numberOf_0 14 rfl rfl)
theorem dX8_numberOf_15 : decode cX8_numberOf 15 = .ok (.getfield 111, 3) := dk_180 0 111 (dk_at dksX8_numberOf_0 15 rfl rfl)
theorem dX8_numberOf_18 : decode cX8_numberOf 18 = .ok (.iload_n 2, 1) := dk_28 (dk_at dksX8_numberOf_0 18 rfl rfl)
theorem dX8_numberOf_19 : decode cX8_numberOf 19 = .ok (.iaload, 1) := dk_46 (dk_at dksX8_numberOf_0 19 rfl rfl)
theorem dX8_numberOf_20 : decode cX8_numberOf 20 = .ok (.ifCond .eq 31, 3) := dk_153 0 31 (dk_at dksX8_numberOf_0 20 rfl rfl)
theorem dX8_numberOf_23 : decode cX8_numberOf 23 = .ok (.aload_n 0, 1) := dk_42 (dk_at dksX8_numberOf_0 23 rfl rfl)
theorem dX8_numberOf_24 : decode cX8_numberOf 24 = .ok (.getfield 99, 3) := dk_180 0 99 (dk_at dksX8_numberOf_1 0 rfl rfl)
theorem dX8_numberOf_27 : decode cX8_numberOf 27 = .ok (.aload_n 0, 1) := dk_42 (dk_at dksX8_numberOf_1 3 rfl rfl)
theorem dX8_numberOf_28 : decode cX8_numberOf 28 = .ok (.getfield 111, 3) := dk_180 0 111 (dk_at dksX8_numberOf_1 4 rfl rfl)
theorem dX8_numberOf_31 : decode cX8_numberOf 31 = .ok (.iload_n 2, 1) := dk_28 (dk_at dksX8_numberOf_1 7 rfl rfl)
theorem dX8_numberOf_32 : decode cX8_numberOf 32 = .ok (.iaload, 1) := dk_46 (dk_at dksX8_numberOf_1 8 rfl rfl)
theorem dX8_numberOf_33 : decode cX8_numberOf 33 = .ok (.iconst 1, 1) := dk_4 (dk_at dksX8_numberOf_1 9 rfl rfl)
theorem dX8_numberOf_34 : decode cX8_numberOf 34 = .ok (.isub, 1) := dk_100 (dk_at dksX8_numberOf_1 10 rfl rfl)
theorem dX8_numberOf_35 : decode cX8_numberOf 35 = .ok (.iaload, 1) := dk_46 (dk_at dksX8_numberOf_1 11 rfl rfl)
theorem dX8_numberOf_36 : decode cX8_numberOf 36 = .ok (.iload_n 1, 1) := dk_27 (dk_at dksX8_numberOf_1 12 rfl rfl)
theorem dX8_numberOf_37 : decode cX8_numberOf 37 = .ok (.if_icmp .eq 14, 3) := dk_159 0 14 (dk_at dksX8_numberOf_1 13 rfl rfl)
theorem dX8_numberOf_40 : decode cX8_numberOf 40 = .ok (.iload_n 2, 1) := dk_28 (dk_at dksX8_numberOf_1 16 rfl rfl)
theorem dX8_numberOf_41 : decode cX8_numberOf 41 = .ok (.iconst 1, 1) := dk_4 (dk_at dksX8_numberOf_1 17 rfl rfl)
theorem dX8_numberOf_42 : decode cX8_numberOf 42 = .ok (.iadd, 1) := dk_96 (dk_at dksX8_numberOf_1 18 rfl rfl)
theorem dX8_numberOf_43 : decode cX8_numberOf 43 = .ok (.sipush 8191, 3) := dk_17 31 255 (dk_at dksX8_numberOf_1 19 rfl rfl)
theorem dX8_numberOf_46 : decode cX8_numberOf 46 = .ok (.iand, 1) := dk_126 (dk_at dksX8_numberOf_1 22 rfl rfl)
theorem dX8_numberOf_47 : decode cX8_numberOf 47 = .ok (.istore_n 2, 1) := dk_61 (dk_at dksX8_numberOf_1 23 rfl rfl)
theorem dX8_numberOf_48 : decode cX8_numberOf 48 = .ok (.goto (-34), 3) := dk_167 255 222 (dk_at dksX8_numberOf_2 0 rfl rfl)
theorem dX8_numberOf_51 : decode cX8_numberOf 51 = .ok (.aload_n 0, 1) := dk_42 (dk_at dksX8_numberOf_2 3 rfl rfl)
theorem dX8_numberOf_52 : decode cX8_numberOf 52 = .ok (.getfield 111, 3) := dk_180 0 111 (dk_at dksX8_numberOf_2 4 rfl rfl)
theorem dX8_numberOf_55 : decode cX8_numberOf 55 = .ok (.iload_n 2, 1) := dk_28 (dk_at dksX8_numberOf_2 7 rfl rfl)
theorem dX8_numberOf_56 : decode cX8_numberOf 56 = .ok (.iaload, 1) := dk_46 (dk_at dksX8_numberOf_2 8 rfl rfl)
theorem dX8_numberOf_57 : decode cX8_numberOf 57 = .ok (.ifCond .eq 12, 3) := dk_153 0 12 (dk_at dksX8_numberOf_2 9 rfl rfl)
theorem dX8_numberOf_60 : decode cX8_numberOf 60 = .ok (.aload_n 0, 1) := dk_42 (dk_at dksX8_numberOf_2 12 rfl rfl)
theorem dX8_numberOf_61 : decode cX8_numberOf 61 = .ok (.getfield 111, 3) := dk_180 0 111 (dk_at dksX8_numberOf_2 13 rfl rfl)
theorem dX8_numberOf_64 : decode cX8_numberOf 64 = .ok (.iload_n 2, 1) := dk_28 (dk_at dksX8_numberOf_2 16 rfl rfl)
theorem dX8_numberOf_65 : decode cX8_numberOf 65 = .ok (.iaload, 1) := dk_46 (dk_at dksX8_numberOf_2 17 rfl rfl)
theorem dX8_numberOf_66 : decode cX8_numberOf 66 = .ok (.iconst 1, 1) := dk_4 (dk_at dksX8_numberOf_2 18 rfl rfl)
theorem dX8_numberOf_67 : decode cX8_numberOf 67 = .ok (.isub, 1) := dk_100 (dk_at dksX8_numberOf_2 19 rfl rfl)
theorem dX8_numberOf_68 : decode cX8_numberOf 68 = .ok (.ireturn, 1) := dk_172 (dk_at dksX8_numberOf_2 20 rfl rfl)
theorem dX8_numberOf_69 : decode cX8_numberOf 69 = .ok (.aload_n 0, 1) := dk_42 (dk_at dksX8_numberOf_2 21 rfl rfl)
theorem dX8_numberOf_70 : decode cX8_numberOf 70 = .ok (.getfield 420, 3) := dk_180 1 164 (dk_at dksX8_numberOf_3 0 rfl rfl)
theorem dX8_numberOf_73 : decode cX8_numberOf 73 = .ok (.sipush 2000, 3) := dk_17 7 208 (dk_at dksX8_numberOf_3 3 rfl rfl)
theorem dX8_numberOf_76 : decode cX8_numberOf 76 = .ok (.if_icmp .ne 5, 3) := dk_160 0 5 (dk_at dksX8_numberOf_3 6 rfl rfl)
theorem dX8_numberOf_79 : decode cX8_numberOf 79 = .ok (.iconst (-1), 1) := dk_2 (dk_at dksX8_numberOf_3 9 rfl rfl)
theorem dX8_numberOf_80 : decode cX8_numberOf 80 = .ok (.ireturn, 1) := dk_172 (dk_at dksX8_numberOf_3 10 rfl rfl)
theorem dX8_numberOf_81 : decode cX8_numberOf 81 = .ok (.aload_n 0, 1) := dk_42 (dk_at dksX8_numberOf_3 11 rfl rfl)
theorem dX8_numberOf_82 : decode cX8_numberOf 82 = .ok (.getfield 99, 3) := dk_180 0 99 (dk_at dksX8_numberOf_3 12 rfl rfl)
theorem dX8_numberOf_85 : decode cX8_numberOf 85 = .ok (.aload_n 0, 1) := dk_42 (dk_at dksX8_numberOf_3 15 rfl rfl)
theorem dX8_numberOf_86 : decode cX8_numberOf 86 = .ok (.getfield 420, 3) := dk_180 1 164 (dk_at dksX8_numberOf_3 16 rfl rfl)
theorem dX8_numberOf_89 : decode cX8_numberOf 89 = .ok (.iload_n 1, 1) := dk_27 (dk_at dksX8_numberOf_3 19 rfl rfl)
theorem dX8_numberOf_90 : decode cX8_numberOf 90 = .ok (.iastore, 1) := dk_79 (dk_at dksX8_numberOf_3 20 rfl rfl)
theorem dX8_numberOf_91 : decode cX8_numberOf 91 = .ok (.aload_n 0, 1) := dk_42 (dk_at dksX8_numberOf_3 21 rfl rfl)
theorem dX8_numberOf_92 : decode cX8_numberOf 92 = .ok (.getfield 111, 3) := dk_180 0 111 (dk_at dksX8_numberOf_4 0 rfl rfl)
theorem dX8_numberOf_95 : decode cX8_numberOf 95 = .ok (.iload_n 2, 1) := dk_28 (dk_at dksX8_numberOf_4 3 rfl rfl)
theorem dX8_numberOf_96 : decode cX8_numberOf 96 = .ok (.aload_n 0, 1) := dk_42 (dk_at dksX8_numberOf_4 4 rfl rfl)
theorem dX8_numberOf_97 : decode cX8_numberOf 97 = .ok (.getfield 420, 3) := dk_180 1 164 (dk_at dksX8_numberOf_4 5 rfl rfl)
theorem dX8_numberOf_100 : decode cX8_numberOf 100 = .ok (.iconst 1, 1) := dk_4 (dk_at dksX8_numberOf_4 8 rfl rfl)
theorem dX8_numberOf_101 : decode cX8_numberOf 101 = .ok (.iadd, 1) := dk_96 (dk_at dksX8_numberOf_4 9 rfl rfl)
theorem dX8_numberOf_102 : decode cX8_numberOf 102 = .ok (.iastore, 1) := dk_79 (dk_at dksX8_numberOf_4 10 rfl rfl)
theorem dX8_numberOf_103 : decode cX8_numberOf 103 = .ok (.aload_n 0, 1) := dk_42 (dk_at dksX8_numberOf_4 11 rfl rfl)
theorem dX8_numberOf_104 : decode cX8_numberOf 104 = .ok (.dup, 1) := dk_89 (dk_at dksX8_numberOf_4 12 rfl rfl)
theorem dX8_numberOf_105 : decode cX8_numberOf 105 = .ok (.getfield 420, 3) := dk_180 1 164 (dk_at dksX8_numberOf_4 13 rfl rfl)
theorem dX8_numberOf_108 : decode cX8_numberOf 108 = .ok (.iconst 1, 1) := dk_4 (dk_at dksX8_numberOf_4 16 rfl rfl)
theorem dX8_numberOf_109 : decode cX8_numberOf 109 = .ok (.iadd, 1) := dk_96 (dk_at dksX8_numberOf_4 17 rfl rfl)
theorem dX8_numberOf_110 : decode cX8_numberOf 110 = .ok (.putfield 420, 3) := dk_181 1 164 (dk_at dksX8_numberOf_4 18 rfl rfl)
theorem dX8_numberOf_113 : decode cX8_numberOf 113 = .ok (.aload_n 0, 1) := dk_42 (dk_at dksX8_numberOf_4 21 rfl rfl)
theorem dX8_numberOf_114 : decode cX8_numberOf 114 = .ok (.getfield 420, 3) := dk_180 1 164 (dk_at dksX8_numberOf_5 0 rfl rfl)
theorem dX8_numberOf_117 : decode cX8_numberOf 117 = .ok (.iconst 1, 1) := dk_4 (dk_at dksX8_numberOf_5 3 rfl rfl)
theorem dX8_numberOf_118 : decode cX8_numberOf 118 = .ok (.isub, 1) := dk_100 (dk_at dksX8_numberOf_5 4 rfl rfl)
theorem dX8_numberOf_119 : decode cX8_numberOf 119 = .ok (.ireturn, 1) := dk_172 (dk_at dksX8_numberOf_5 5 rfl rfl)
abbrev cX8_barsShores : ByteArray := prog_19_method_61_code
def yX8_barsShores : MethodName := ⟨RX8, "barsShores", "(IIIZ)I"⟩
def dkwX8_barsShores_5 : List UInt8 := [3, 182, 1, 122, 128, 54, 5, 132, 6, 1, 167, 255, 135, 42, 21, 5, 182, 1, 141, 172]
abbrev dktX8_barsShores_5 : List UInt8 := dkwX8_barsShores_5 ++ []
def dkwX8_barsShores_4 : List UInt8 := [42, 27, 21, 6, 182, 1, 135, 28, 2, 130, 126, 21, 6, 21, 7, 21, 8, 153, 0, 7, 4, 167, 0, 4]
abbrev dktX8_barsShores_4 : List UInt8 := dkwX8_barsShores_4 ++ dktX8_barsShores_5
def dkwX8_barsShores_3 : List UInt8 := [154, 0, 18, 27, 16, 20, 122, 6, 126, 21, 6, 160, 0, 7, 4, 167, 0, 4, 3, 54, 8, 21, 5, 42]
abbrev dktX8_barsShores_3 : List UInt8 := dkwX8_barsShores_3 ++ dktX8_barsShores_4
def dkwX8_barsShores_2 : List UInt8 := [160, 0, 6, 132, 7, 1, 132, 8, 1, 167, 255, 221, 42, 180, 0, 13, 2, 159, 0, 23, 21, 4]
abbrev dktX8_barsShores_2 : List UInt8 := dkwX8_barsShores_2 ++ dktX8_barsShores_3
def dkwX8_barsShores_1 : List UInt8 := [180, 1, 85, 162, 0, 32, 29, 21, 8, 122, 4, 126, 154, 0, 17, 27, 21, 8, 184, 1, 138, 21, 6]
abbrev dktX8_barsShores_1 : List UInt8 := dkwX8_barsShores_1 ++ dktX8_barsShores_2
def dkwX8_barsShores_0 : List UInt8 := [3, 54, 5, 3, 54, 6, 21, 6, 42, 180, 0, 7, 162, 0, 118, 3, 54, 7, 3, 54, 8, 21, 8, 42]
abbrev dktX8_barsShores_0 : List UInt8 := dkwX8_barsShores_0 ++ dktX8_barsShores_1
theorem dksX8_barsShores_0 : cX8_barsShores.data.toList.drop 0 = dktX8_barsShores_0 := by decide +kernel
theorem dksX8_barsShores_1 : cX8_barsShores.data.toList.drop 24 = dktX8_barsShores_1 := dk_seg dksX8_barsShores_0 24 rfl rfl
theorem dksX8_barsShores_2 : cX8_barsShores.data.toList.drop 47 = dktX8_barsShores_2 := dk_seg dksX8_barsShores_1 23 rfl rfl
theorem dksX8_barsShores_3 : cX8_barsShores.data.toList.drop 69 = dktX8_barsShores_3 := dk_seg dksX8_barsShores_2 22 rfl rfl
theorem dksX8_barsShores_4 : cX8_barsShores.data.toList.drop 93 = dktX8_barsShores_4 := dk_seg dksX8_barsShores_3 24 rfl rfl
theorem dksX8_barsShores_5 : cX8_barsShores.data.toList.drop 117 = dktX8_barsShores_5 := dk_seg dksX8_barsShores_4 24 rfl rfl
theorem dX8_barsShores_0 : decode cX8_barsShores 0 = .ok (.iconst 0, 1) := dk_3 (dk_at dksX8_barsShores_0 0 rfl rfl)
theorem dX8_barsShores_1 : decode cX8_barsShores 1 = .ok (.istore 5, 2) := dk_54 5 (dk_at dksX8_barsShores_0 1 rfl rfl)
theorem dX8_barsShores_3 : decode cX8_barsShores 3 = .ok (.iconst 0, 1) := dk_3 (dk_at dksX8_barsShores_0 3 rfl rfl)
theorem dX8_barsShores_4 : decode cX8_barsShores 4 = .ok (.istore 6, 2) := dk_54 6 (dk_at dksX8_barsShores_0 4 rfl rfl)
theorem dX8_barsShores_6 : decode cX8_barsShores 6 = .ok (.iload 6, 2) := dk_21 6 (dk_at dksX8_barsShores_0 6 rfl rfl)
theorem dX8_barsShores_8 : decode cX8_barsShores 8 = .ok (.aload_n 0, 1) := dk_42 (dk_at dksX8_barsShores_0 8 rfl rfl)
theorem dX8_barsShores_9 : decode cX8_barsShores 9 = .ok (.getfield 7, 3) := dk_180 0 7 (dk_at dksX8_barsShores_0 9 rfl rfl)
theorem dX8_barsShores_12 : decode cX8_barsShores 12 = .ok (.if_icmp .ge 118, 3) := dk_162 0 118 (dk_at dksX8_barsShores_0 12 rfl rfl)
theorem dX8_barsShores_15 : decode cX8_barsShores 15 = .ok (.iconst 0, 1) := dk_3 (dk_at dksX8_barsShores_0 15 rfl rfl)
theorem dX8_barsShores_16 : decode cX8_barsShores 16 = .ok (.istore 7, 2) := dk_54 7 (dk_at dksX8_barsShores_0 16 rfl rfl)
theorem dX8_barsShores_18 : decode cX8_barsShores 18 = .ok (.iconst 0, 1) := dk_3 (dk_at dksX8_barsShores_0 18 rfl rfl)
theorem dX8_barsShores_19 : decode cX8_barsShores 19 = .ok (.istore 8, 2) := dk_54 8 (dk_at dksX8_barsShores_0 19 rfl rfl)
theorem dX8_barsShores_21 : decode cX8_barsShores 21 = .ok (.iload 8, 2) := dk_21 8 (dk_at dksX8_barsShores_0 21 rfl rfl)
theorem dX8_barsShores_23 : decode cX8_barsShores 23 = .ok (.aload_n 0, 1) := dk_42 (dk_at dksX8_barsShores_0 23 rfl rfl)
theorem dX8_barsShores_24 : decode cX8_barsShores 24 = .ok (.getfield 341, 3) := dk_180 1 85 (dk_at dksX8_barsShores_1 0 rfl rfl)
theorem dX8_barsShores_27 : decode cX8_barsShores 27 = .ok (.if_icmp .ge 32, 3) := dk_162 0 32 (dk_at dksX8_barsShores_1 3 rfl rfl)
theorem dX8_barsShores_30 : decode cX8_barsShores 30 = .ok (.iload_n 3, 1) := dk_29 (dk_at dksX8_barsShores_1 6 rfl rfl)
theorem dX8_barsShores_31 : decode cX8_barsShores 31 = .ok (.iload 8, 2) := dk_21 8 (dk_at dksX8_barsShores_1 7 rfl rfl)
theorem dX8_barsShores_33 : decode cX8_barsShores 33 = .ok (.ishr, 1) := dk_122 (dk_at dksX8_barsShores_1 9 rfl rfl)
theorem dX8_barsShores_34 : decode cX8_barsShores 34 = .ok (.iconst 1, 1) := dk_4 (dk_at dksX8_barsShores_1 10 rfl rfl)
theorem dX8_barsShores_35 : decode cX8_barsShores 35 = .ok (.iand, 1) := dk_126 (dk_at dksX8_barsShores_1 11 rfl rfl)
theorem dX8_barsShores_36 : decode cX8_barsShores 36 = .ok (.ifCond .ne 17, 3) := dk_154 0 17 (dk_at dksX8_barsShores_1 12 rfl rfl)
theorem dX8_barsShores_39 : decode cX8_barsShores 39 = .ok (.iload_n 1, 1) := dk_27 (dk_at dksX8_barsShores_1 15 rfl rfl)
theorem dX8_barsShores_40 : decode cX8_barsShores 40 = .ok (.iload 8, 2) := dk_21 8 (dk_at dksX8_barsShores_1 16 rfl rfl)
theorem dX8_barsShores_42 : decode cX8_barsShores 42 = .ok (.invokestatic 394, 3) := dk_184 1 138 (dk_at dksX8_barsShores_1 18 rfl rfl)
theorem dX8_barsShores_45 : decode cX8_barsShores 45 = .ok (.iload 6, 2) := dk_21 6 (dk_at dksX8_barsShores_1 21 rfl rfl)
theorem dX8_barsShores_47 : decode cX8_barsShores 47 = .ok (.if_icmp .ne 6, 3) := dk_160 0 6 (dk_at dksX8_barsShores_2 0 rfl rfl)
theorem dX8_barsShores_50 : decode cX8_barsShores 50 = .ok (.iinc 7 1, 3) := dk_132 7 1 (dk_at dksX8_barsShores_2 3 rfl rfl)
theorem dX8_barsShores_53 : decode cX8_barsShores 53 = .ok (.iinc 8 1, 3) := dk_132 8 1 (dk_at dksX8_barsShores_2 6 rfl rfl)
theorem dX8_barsShores_56 : decode cX8_barsShores 56 = .ok (.goto (-35), 3) := dk_167 255 221 (dk_at dksX8_barsShores_2 9 rfl rfl)
theorem dX8_barsShores_59 : decode cX8_barsShores 59 = .ok (.aload_n 0, 1) := dk_42 (dk_at dksX8_barsShores_2 12 rfl rfl)
theorem dX8_barsShores_60 : decode cX8_barsShores 60 = .ok (.getfield 13, 3) := dk_180 0 13 (dk_at dksX8_barsShores_2 13 rfl rfl)
theorem dX8_barsShores_63 : decode cX8_barsShores 63 = .ok (.iconst (-1), 1) := dk_2 (dk_at dksX8_barsShores_2 16 rfl rfl)
theorem dX8_barsShores_64 : decode cX8_barsShores 64 = .ok (.if_icmp .eq 23, 3) := dk_159 0 23 (dk_at dksX8_barsShores_2 17 rfl rfl)
theorem dX8_barsShores_67 : decode cX8_barsShores 67 = .ok (.iload 4, 2) := dk_21 4 (dk_at dksX8_barsShores_2 20 rfl rfl)
theorem dX8_barsShores_69 : decode cX8_barsShores 69 = .ok (.ifCond .ne 18, 3) := dk_154 0 18 (dk_at dksX8_barsShores_3 0 rfl rfl)
theorem dX8_barsShores_72 : decode cX8_barsShores 72 = .ok (.iload_n 1, 1) := dk_27 (dk_at dksX8_barsShores_3 3 rfl rfl)
theorem dX8_barsShores_73 : decode cX8_barsShores 73 = .ok (.bipush 20, 2) := dk_16 20 (dk_at dksX8_barsShores_3 4 rfl rfl)
theorem dX8_barsShores_75 : decode cX8_barsShores 75 = .ok (.ishr, 1) := dk_122 (dk_at dksX8_barsShores_3 6 rfl rfl)
theorem dX8_barsShores_76 : decode cX8_barsShores 76 = .ok (.iconst 3, 1) := dk_6 (dk_at dksX8_barsShores_3 7 rfl rfl)
theorem dX8_barsShores_77 : decode cX8_barsShores 77 = .ok (.iand, 1) := dk_126 (dk_at dksX8_barsShores_3 8 rfl rfl)
theorem dX8_barsShores_78 : decode cX8_barsShores 78 = .ok (.iload 6, 2) := dk_21 6 (dk_at dksX8_barsShores_3 9 rfl rfl)
theorem dX8_barsShores_80 : decode cX8_barsShores 80 = .ok (.if_icmp .ne 7, 3) := dk_160 0 7 (dk_at dksX8_barsShores_3 11 rfl rfl)
theorem dX8_barsShores_83 : decode cX8_barsShores 83 = .ok (.iconst 1, 1) := dk_4 (dk_at dksX8_barsShores_3 14 rfl rfl)
theorem dX8_barsShores_84 : decode cX8_barsShores 84 = .ok (.goto 4, 3) := dk_167 0 4 (dk_at dksX8_barsShores_3 15 rfl rfl)
theorem dX8_barsShores_87 : decode cX8_barsShores 87 = .ok (.iconst 0, 1) := dk_3 (dk_at dksX8_barsShores_3 18 rfl rfl)
theorem dX8_barsShores_88 : decode cX8_barsShores 88 = .ok (.istore 8, 2) := dk_54 8 (dk_at dksX8_barsShores_3 19 rfl rfl)
theorem dX8_barsShores_90 : decode cX8_barsShores 90 = .ok (.iload 5, 2) := dk_21 5 (dk_at dksX8_barsShores_3 21 rfl rfl)
theorem dX8_barsShores_92 : decode cX8_barsShores 92 = .ok (.aload_n 0, 1) := dk_42 (dk_at dksX8_barsShores_3 23 rfl rfl)
theorem dX8_barsShores_93 : decode cX8_barsShores 93 = .ok (.aload_n 0, 1) := dk_42 (dk_at dksX8_barsShores_4 0 rfl rfl)
theorem dX8_barsShores_94 : decode cX8_barsShores 94 = .ok (.iload_n 1, 1) := dk_27 (dk_at dksX8_barsShores_4 1 rfl rfl)
theorem dX8_barsShores_95 : decode cX8_barsShores 95 = .ok (.iload 6, 2) := dk_21 6 (dk_at dksX8_barsShores_4 2 rfl rfl)
theorem dX8_barsShores_97 : decode cX8_barsShores 97 = .ok (.invokevirtual 391, 3) := dk_182 1 135 (dk_at dksX8_barsShores_4 4 rfl rfl)
theorem dX8_barsShores_100 : decode cX8_barsShores 100 = .ok (.iload_n 2, 1) := dk_28 (dk_at dksX8_barsShores_4 7 rfl rfl)
theorem dX8_barsShores_101 : decode cX8_barsShores 101 = .ok (.iconst (-1), 1) := dk_2 (dk_at dksX8_barsShores_4 8 rfl rfl)
theorem dX8_barsShores_102 : decode cX8_barsShores 102 = .ok (.ixor, 1) := dk_130 (dk_at dksX8_barsShores_4 9 rfl rfl)
theorem dX8_barsShores_103 : decode cX8_barsShores 103 = .ok (.iand, 1) := dk_126 (dk_at dksX8_barsShores_4 10 rfl rfl)
theorem dX8_barsShores_104 : decode cX8_barsShores 104 = .ok (.iload 6, 2) := dk_21 6 (dk_at dksX8_barsShores_4 11 rfl rfl)
theorem dX8_barsShores_106 : decode cX8_barsShores 106 = .ok (.iload 7, 2) := dk_21 7 (dk_at dksX8_barsShores_4 13 rfl rfl)
theorem dX8_barsShores_108 : decode cX8_barsShores 108 = .ok (.iload 8, 2) := dk_21 8 (dk_at dksX8_barsShores_4 15 rfl rfl)
theorem dX8_barsShores_110 : decode cX8_barsShores 110 = .ok (.ifCond .eq 7, 3) := dk_153 0 7 (dk_at dksX8_barsShores_4 17 rfl rfl)
theorem dX8_barsShores_113 : decode cX8_barsShores 113 = .ok (.iconst 1, 1) := dk_4 (dk_at dksX8_barsShores_4 20 rfl rfl)
theorem dX8_barsShores_114 : decode cX8_barsShores 114 = .ok (.goto 4, 3) := dk_167 0 4 (dk_at dksX8_barsShores_4 21 rfl rfl)
theorem dX8_barsShores_117 : decode cX8_barsShores 117 = .ok (.iconst 0, 1) := dk_3 (dk_at dksX8_barsShores_5 0 rfl rfl)
theorem dX8_barsShores_118 : decode cX8_barsShores 118 = .ok (.invokevirtual 378, 3) := dk_182 1 122 (dk_at dksX8_barsShores_5 1 rfl rfl)
theorem dX8_barsShores_121 : decode cX8_barsShores 121 = .ok (.ior, 1) := dk_128 (dk_at dksX8_barsShores_5 4 rfl rfl)
theorem dX8_barsShores_122 : decode cX8_barsShores 122 = .ok (.istore 5, 2) := dk_54 5 (dk_at dksX8_barsShores_5 5 rfl rfl)
theorem dX8_barsShores_124 : decode cX8_barsShores 124 = .ok (.iinc 6 1, 3) := dk_132 6 1 (dk_at dksX8_barsShores_5 7 rfl rfl)
theorem dX8_barsShores_127 : decode cX8_barsShores 127 = .ok (.goto (-121), 3) := dk_167 255 135 (dk_at dksX8_barsShores_5 10 rfl rfl)
theorem dX8_barsShores_130 : decode cX8_barsShores 130 = .ok (.aload_n 0, 1) := dk_42 (dk_at dksX8_barsShores_5 13 rfl rfl)
theorem dX8_barsShores_131 : decode cX8_barsShores 131 = .ok (.iload 5, 2) := dk_21 5 (dk_at dksX8_barsShores_5 14 rfl rfl)
theorem dX8_barsShores_133 : decode cX8_barsShores 133 = .ok (.invokevirtual 397, 3) := dk_182 1 141 (dk_at dksX8_barsShores_5 16 rfl rfl)
theorem dX8_barsShores_136 : decode cX8_barsShores 136 = .ok (.ireturn, 1) := dk_172 (dk_at dksX8_barsShores_5 19 rfl rfl)
abbrev cX8_boatIn : ByteArray := prog_19_method_58_code
def yX8_boatIn : MethodName := ⟨RX8, "boatIn", "(II)I"⟩
def dkwX8_boatIn_0 : List UInt8 := [26, 16, 16, 5, 27, 104, 96, 122, 6, 126, 172]
abbrev dktX8_boatIn_0 : List UInt8 := dkwX8_boatIn_0 ++ []
theorem dksX8_boatIn_0 : cX8_boatIn.data.toList.drop 0 = dktX8_boatIn_0 := by decide +kernel
theorem dX8_boatIn_0 : decode cX8_boatIn 0 = .ok (.iload_n 0, 1) := dk_26 (dk_at dksX8_boatIn_0 0 rfl rfl)
theorem dX8_boatIn_1 : decode cX8_boatIn 1 = .ok (.bipush 16, 2) := dk_16 16 (dk_at dksX8_boatIn_0 1 rfl rfl)
theorem dX8_boatIn_3 : decode cX8_boatIn 3 = .ok (.iconst 2, 1) := dk_5 (dk_at dksX8_boatIn_0 3 rfl rfl)
theorem dX8_boatIn_4 : decode cX8_boatIn 4 = .ok (.iload_n 1, 1) := dk_27 (dk_at dksX8_boatIn_0 4 rfl rfl)
theorem dX8_boatIn_5 : decode cX8_boatIn 5 = .ok (.imul, 1) := dk_104 (dk_at dksX8_boatIn_0 5 rfl rfl)
theorem dX8_boatIn_6 : decode cX8_boatIn 6 = .ok (.iadd, 1) := dk_96 (dk_at dksX8_boatIn_0 6 rfl rfl)
theorem dX8_boatIn_7 : decode cX8_boatIn 7 = .ok (.ishr, 1) := dk_122 (dk_at dksX8_boatIn_0 7 rfl rfl)
theorem dX8_boatIn_8 : decode cX8_boatIn 8 = .ok (.iconst 3, 1) := dk_6 (dk_at dksX8_boatIn_0 8 rfl rfl)
theorem dX8_boatIn_9 : decode cX8_boatIn 9 = .ok (.iand, 1) := dk_126 (dk_at dksX8_boatIn_0 9 rfl rfl)
theorem dX8_boatIn_10 : decode cX8_boatIn 10 = .ok (.ireturn, 1) := dk_172 (dk_at dksX8_boatIn_0 10 rfl rfl)
abbrev cX8_setAt : ByteArray := prog_19_method_57_code
def yX8_setAt : MethodName := ⟨RX8, "setAt", "(II)I"⟩
def dkwX8_setAt_1 : List UInt8 := [160, 0, 10, 29, 4, 21, 4, 120, 128, 62, 132, 4, 1, 167, 255, 225, 29, 172]
abbrev dktX8_setAt_1 : List UInt8 := dkwX8_setAt_1 ++ []
def dkwX8_setAt_0 : List UInt8 := [3, 62, 3, 54, 4, 21, 4, 42, 180, 1, 82, 162, 0, 28, 27, 5, 21, 4, 104, 122, 6, 126, 28]
abbrev dktX8_setAt_0 : List UInt8 := dkwX8_setAt_0 ++ dktX8_setAt_1
theorem dksX8_setAt_0 : cX8_setAt.data.toList.drop 0 = dktX8_setAt_0 := by decide +kernel
theorem dksX8_setAt_1 : cX8_setAt.data.toList.drop 23 = dktX8_setAt_1 := dk_seg dksX8_setAt_0 23 rfl rfl
theorem dX8_setAt_0 : decode cX8_setAt 0 = .ok (.iconst 0, 1) := dk_3 (dk_at dksX8_setAt_0 0 rfl rfl)
theorem dX8_setAt_1 : decode cX8_setAt 1 = .ok (.istore_n 3, 1) := dk_62 (dk_at dksX8_setAt_0 1 rfl rfl)
theorem dX8_setAt_2 : decode cX8_setAt 2 = .ok (.iconst 0, 1) := dk_3 (dk_at dksX8_setAt_0 2 rfl rfl)
theorem dX8_setAt_3 : decode cX8_setAt 3 = .ok (.istore 4, 2) := dk_54 4 (dk_at dksX8_setAt_0 3 rfl rfl)
theorem dX8_setAt_5 : decode cX8_setAt 5 = .ok (.iload 4, 2) := dk_21 4 (dk_at dksX8_setAt_0 5 rfl rfl)
theorem dX8_setAt_7 : decode cX8_setAt 7 = .ok (.aload_n 0, 1) := dk_42 (dk_at dksX8_setAt_0 7 rfl rfl)
theorem dX8_setAt_8 : decode cX8_setAt 8 = .ok (.getfield 338, 3) := dk_180 1 82 (dk_at dksX8_setAt_0 8 rfl rfl)
theorem dX8_setAt_11 : decode cX8_setAt 11 = .ok (.if_icmp .ge 28, 3) := dk_162 0 28 (dk_at dksX8_setAt_0 11 rfl rfl)
theorem dX8_setAt_14 : decode cX8_setAt 14 = .ok (.iload_n 1, 1) := dk_27 (dk_at dksX8_setAt_0 14 rfl rfl)
theorem dX8_setAt_15 : decode cX8_setAt 15 = .ok (.iconst 2, 1) := dk_5 (dk_at dksX8_setAt_0 15 rfl rfl)
theorem dX8_setAt_16 : decode cX8_setAt 16 = .ok (.iload 4, 2) := dk_21 4 (dk_at dksX8_setAt_0 16 rfl rfl)
theorem dX8_setAt_18 : decode cX8_setAt 18 = .ok (.imul, 1) := dk_104 (dk_at dksX8_setAt_0 18 rfl rfl)
theorem dX8_setAt_19 : decode cX8_setAt 19 = .ok (.ishr, 1) := dk_122 (dk_at dksX8_setAt_0 19 rfl rfl)
theorem dX8_setAt_20 : decode cX8_setAt 20 = .ok (.iconst 3, 1) := dk_6 (dk_at dksX8_setAt_0 20 rfl rfl)
theorem dX8_setAt_21 : decode cX8_setAt 21 = .ok (.iand, 1) := dk_126 (dk_at dksX8_setAt_0 21 rfl rfl)
theorem dX8_setAt_22 : decode cX8_setAt 22 = .ok (.iload_n 2, 1) := dk_28 (dk_at dksX8_setAt_0 22 rfl rfl)
theorem dX8_setAt_23 : decode cX8_setAt 23 = .ok (.if_icmp .ne 10, 3) := dk_160 0 10 (dk_at dksX8_setAt_1 0 rfl rfl)
theorem dX8_setAt_26 : decode cX8_setAt 26 = .ok (.iload_n 3, 1) := dk_29 (dk_at dksX8_setAt_1 3 rfl rfl)
theorem dX8_setAt_27 : decode cX8_setAt 27 = .ok (.iconst 1, 1) := dk_4 (dk_at dksX8_setAt_1 4 rfl rfl)
theorem dX8_setAt_28 : decode cX8_setAt 28 = .ok (.iload 4, 2) := dk_21 4 (dk_at dksX8_setAt_1 5 rfl rfl)
theorem dX8_setAt_30 : decode cX8_setAt 30 = .ok (.ishl, 1) := dk_120 (dk_at dksX8_setAt_1 7 rfl rfl)
theorem dX8_setAt_31 : decode cX8_setAt 31 = .ok (.ior, 1) := dk_128 (dk_at dksX8_setAt_1 8 rfl rfl)
theorem dX8_setAt_32 : decode cX8_setAt 32 = .ok (.istore_n 3, 1) := dk_62 (dk_at dksX8_setAt_1 9 rfl rfl)
theorem dX8_setAt_33 : decode cX8_setAt 33 = .ok (.iinc 4 1, 3) := dk_132 4 1 (dk_at dksX8_setAt_1 10 rfl rfl)
theorem dX8_setAt_36 : decode cX8_setAt 36 = .ok (.goto (-31), 3) := dk_167 255 225 (dk_at dksX8_setAt_1 13 rfl rfl)
theorem dX8_setAt_39 : decode cX8_setAt 39 = .ok (.iload_n 3, 1) := dk_29 (dk_at dksX8_setAt_1 16 rfl rfl)
theorem dX8_setAt_40 : decode cX8_setAt 40 = .ok (.ireturn, 1) := dk_172 (dk_at dksX8_setAt_1 17 rfl rfl)
abbrev cX8_keeps : ByteArray := prog_19_method_60_code
def yX8_keeps : MethodName := ⟨RX8, "keeps", "(I)I"⟩
def dkwX8_keeps_0 : List UInt8 := [42, 180, 0, 96, 2, 160, 0, 7, 27, 167, 0, 13, 27, 4, 42, 180, 0, 96, 120, 2, 130, 126, 172]
abbrev dktX8_keeps_0 : List UInt8 := dkwX8_keeps_0 ++ []
theorem dksX8_keeps_0 : cX8_keeps.data.toList.drop 0 = dktX8_keeps_0 := by decide +kernel
theorem dX8_keeps_0 : decode cX8_keeps 0 = .ok (.aload_n 0, 1) := dk_42 (dk_at dksX8_keeps_0 0 rfl rfl)
theorem dX8_keeps_1 : decode cX8_keeps 1 = .ok (.getfield 96, 3) := dk_180 0 96 (dk_at dksX8_keeps_0 1 rfl rfl)
theorem dX8_keeps_4 : decode cX8_keeps 4 = .ok (.iconst (-1), 1) := dk_2 (dk_at dksX8_keeps_0 4 rfl rfl)
theorem dX8_keeps_5 : decode cX8_keeps 5 = .ok (.if_icmp .ne 7, 3) := dk_160 0 7 (dk_at dksX8_keeps_0 5 rfl rfl)
theorem dX8_keeps_8 : decode cX8_keeps 8 = .ok (.iload_n 1, 1) := dk_27 (dk_at dksX8_keeps_0 8 rfl rfl)
theorem dX8_keeps_9 : decode cX8_keeps 9 = .ok (.goto 13, 3) := dk_167 0 13 (dk_at dksX8_keeps_0 9 rfl rfl)
theorem dX8_keeps_12 : decode cX8_keeps 12 = .ok (.iload_n 1, 1) := dk_27 (dk_at dksX8_keeps_0 12 rfl rfl)
theorem dX8_keeps_13 : decode cX8_keeps 13 = .ok (.iconst 1, 1) := dk_4 (dk_at dksX8_keeps_0 13 rfl rfl)
theorem dX8_keeps_14 : decode cX8_keeps 14 = .ok (.aload_n 0, 1) := dk_42 (dk_at dksX8_keeps_0 14 rfl rfl)
theorem dX8_keeps_15 : decode cX8_keeps 15 = .ok (.getfield 96, 3) := dk_180 0 96 (dk_at dksX8_keeps_0 15 rfl rfl)
theorem dX8_keeps_18 : decode cX8_keeps 18 = .ok (.ishl, 1) := dk_120 (dk_at dksX8_keeps_0 18 rfl rfl)
theorem dX8_keeps_19 : decode cX8_keeps 19 = .ok (.iconst (-1), 1) := dk_2 (dk_at dksX8_keeps_0 19 rfl rfl)
theorem dX8_keeps_20 : decode cX8_keeps 20 = .ok (.ixor, 1) := dk_130 (dk_at dksX8_keeps_0 20 rfl rfl)
theorem dX8_keeps_21 : decode cX8_keeps 21 = .ok (.iand, 1) := dk_126 (dk_at dksX8_keeps_0 21 rfl rfl)
theorem dX8_keeps_22 : decode cX8_keeps 22 = .ok (.ireturn, 1) := dk_172 (dk_at dksX8_keeps_0 22 rfl rfl)
abbrev cX8_goesBy : ByteArray := prog_19_method_69_code
def yX8_goesBy : MethodName := ⟨RX8, "goesBy", "(III)V"⟩
def dkwX8_goesBy_12 : List UInt8 := [167, 255, 35, 177]
abbrev dktX8_goesBy_12 : List UInt8 := dkwX8_goesBy_12 ++ []
def dkwX8_goesBy_11 : List UInt8 := [180, 0, 124, 42, 180, 1, 170, 21, 11, 79, 42, 89, 180, 1, 170, 4, 96, 181, 1, 170, 132, 7, 1]
abbrev dktX8_goesBy_11 : List UInt8 := dkwX8_goesBy_11 ++ dktX8_goesBy_12
def dkwX8_goesBy_10 : List UInt8 := [42, 180, 0, 118, 42, 180, 1, 170, 29, 79, 42, 180, 0, 121, 42, 180, 1, 170, 21, 8, 79, 42]
abbrev dktX8_goesBy_10 : List UInt8 := dkwX8_goesBy_10 ++ dktX8_goesBy_11
def dkwX8_goesBy_9 : List UInt8 := [180, 0, 105, 21, 11, 42, 180, 0, 105, 27, 46, 4, 96, 79, 42, 180, 0, 115, 42, 180, 1, 170, 28, 79]
abbrev dktX8_goesBy_9 : List UInt8 := dkwX8_goesBy_9 ++ dktX8_goesBy_10
def dkwX8_goesBy_8 : List UInt8 := [167, 0, 4, 3, 181, 1, 173, 42, 180, 1, 173, 153, 0, 4, 177, 21, 11, 21, 10, 160, 0, 18, 42]
abbrev dktX8_goesBy_8 : List UInt8 := dkwX8_goesBy_8 ++ dktX8_goesBy_9
def dkwX8_goesBy_7 : List UInt8 := [182, 1, 179, 54, 11, 42, 21, 11, 2, 159, 0, 13, 42, 180, 1, 170, 19, 1, 186, 160, 0, 7, 4]
abbrev dktX8_goesBy_7 : List UInt8 := dkwX8_goesBy_7 ++ dktX8_goesBy_8
def dkwX8_goesBy_6 : List UInt8 := [21, 9, 3, 3, 3, 182, 1, 154, 153, 0, 6, 167, 0, 124, 42, 180, 1, 164, 54, 10, 42, 21, 9]
abbrev dktX8_goesBy_6 : List UInt8 := dkwX8_goesBy_6 ++ dktX8_goesBy_7
def dkwX8_goesBy_5 : List UInt8 := [120, 4, 182, 1, 154, 153, 0, 6, 167, 0, 151, 42, 21, 4, 28, 29, 21, 8, 182, 1, 161, 54, 9, 42]
abbrev dktX8_goesBy_5 : List UInt8 := dkwX8_goesBy_5 ++ dktX8_goesBy_6
def dkwX8_goesBy_4 : List UInt8 := [21, 6, 2, 130, 126, 154, 0, 178, 42, 21, 8, 182, 1, 158, 154, 0, 169, 42, 21, 4, 21, 8, 4, 28]
abbrev dktX8_goesBy_4 : List UInt8 := dkwX8_goesBy_4 ++ dktX8_goesBy_5
def dkwX8_goesBy_3 : List UInt8 := [42, 180, 1, 173, 154, 0, 209, 42, 180, 0, 134, 17, 1, 0, 28, 104, 21, 7, 96, 46, 54, 8, 21, 8]
abbrev dktX8_goesBy_3 : List UInt8 := dkwX8_goesBy_3 ++ dktX8_goesBy_4
def dkwX8_goesBy_2 : List UInt8 := [42, 21, 4, 21, 5, 182, 1, 135, 54, 6, 3, 54, 7, 21, 7, 42, 180, 0, 131, 28, 46, 162, 0, 216]
abbrev dktX8_goesBy_2 : List UInt8 := dkwX8_goesBy_2 ++ dktX8_goesBy_3
def dkwX8_goesBy_1 : List UInt8 := [153, 0, 23, 42, 180, 0, 13, 2, 159, 0, 16, 21, 4, 16, 20, 122, 6, 126, 21, 5, 159, 0, 4, 177]
abbrev dktX8_goesBy_1 : List UInt8 := dkwX8_goesBy_1 ++ dktX8_goesBy_2
def dkwX8_goesBy_0 : List UInt8 := [42, 180, 0, 99, 27, 46, 54, 4, 21, 4, 28, 184, 1, 138, 54, 5, 42, 21, 5, 29, 182, 1, 132]
abbrev dktX8_goesBy_0 : List UInt8 := dkwX8_goesBy_0 ++ dktX8_goesBy_1
theorem dksX8_goesBy_0 : cX8_goesBy.data.toList.drop 0 = dktX8_goesBy_0 := by decide +kernel
theorem dksX8_goesBy_1 : cX8_goesBy.data.toList.drop 23 = dktX8_goesBy_1 := dk_seg dksX8_goesBy_0 23 rfl rfl
theorem dksX8_goesBy_2 : cX8_goesBy.data.toList.drop 47 = dktX8_goesBy_2 := dk_seg dksX8_goesBy_1 24 rfl rfl
theorem dksX8_goesBy_3 : cX8_goesBy.data.toList.drop 71 = dktX8_goesBy_3 := dk_seg dksX8_goesBy_2 24 rfl rfl
theorem dksX8_goesBy_4 : cX8_goesBy.data.toList.drop 95 = dktX8_goesBy_4 := dk_seg dksX8_goesBy_3 24 rfl rfl
theorem dksX8_goesBy_5 : cX8_goesBy.data.toList.drop 119 = dktX8_goesBy_5 := dk_seg dksX8_goesBy_4 24 rfl rfl
theorem dksX8_goesBy_6 : cX8_goesBy.data.toList.drop 143 = dktX8_goesBy_6 := dk_seg dksX8_goesBy_5 24 rfl rfl
theorem dksX8_goesBy_7 : cX8_goesBy.data.toList.drop 166 = dktX8_goesBy_7 := dk_seg dksX8_goesBy_6 23 rfl rfl
theorem dksX8_goesBy_8 : cX8_goesBy.data.toList.drop 189 = dktX8_goesBy_8 := dk_seg dksX8_goesBy_7 23 rfl rfl
theorem dksX8_goesBy_9 : cX8_goesBy.data.toList.drop 212 = dktX8_goesBy_9 := dk_seg dksX8_goesBy_8 23 rfl rfl
theorem dksX8_goesBy_10 : cX8_goesBy.data.toList.drop 236 = dktX8_goesBy_10 := dk_seg dksX8_goesBy_9 24 rfl rfl
theorem dksX8_goesBy_11 : cX8_goesBy.data.toList.drop 258 = dktX8_goesBy_11 := dk_seg dksX8_goesBy_10 22 rfl rfl
theorem dksX8_goesBy_12 : cX8_goesBy.data.toList.drop 281 = dktX8_goesBy_12 := dk_seg dksX8_goesBy_11 23 rfl rfl
theorem dX8_goesBy_0 : decode cX8_goesBy 0 = .ok (.aload_n 0, 1) := dk_42 (dk_at dksX8_goesBy_0 0 rfl rfl)
theorem dX8_goesBy_1 : decode cX8_goesBy 1 = .ok (.getfield 99, 3) := dk_180 0 99 (dk_at dksX8_goesBy_0 1 rfl rfl)
theorem dX8_goesBy_4 : decode cX8_goesBy 4 = .ok (.iload_n 1, 1) := dk_27 (dk_at dksX8_goesBy_0 4 rfl rfl)
theorem dX8_goesBy_5 : decode cX8_goesBy 5 = .ok (.iaload, 1) := dk_46 (dk_at dksX8_goesBy_0 5 rfl rfl)
theorem dX8_goesBy_6 : decode cX8_goesBy 6 = .ok (.istore 4, 2) := dk_54 4 (dk_at dksX8_goesBy_0 6 rfl rfl)
theorem dX8_goesBy_8 : decode cX8_goesBy 8 = .ok (.iload 4, 2) := dk_21 4 (dk_at dksX8_goesBy_0 8 rfl rfl)
theorem dX8_goesBy_10 : decode cX8_goesBy 10 = .ok (.iload_n 2, 1) := dk_28 (dk_at dksX8_goesBy_0 10 rfl rfl)
theorem dX8_goesBy_11 : decode cX8_goesBy 11 = .ok (.invokestatic 394, 3) := dk_184 1 138 (dk_at dksX8_goesBy_0 11 rfl rfl)
theorem dX8_goesBy_14 : decode cX8_goesBy 14 = .ok (.istore 5, 2) := dk_54 5 (dk_at dksX8_goesBy_0 14 rfl rfl)
theorem dX8_goesBy_16 : decode cX8_goesBy 16 = .ok (.aload_n 0, 1) := dk_42 (dk_at dksX8_goesBy_0 16 rfl rfl)
theorem dX8_goesBy_17 : decode cX8_goesBy 17 = .ok (.iload 5, 2) := dk_21 5 (dk_at dksX8_goesBy_0 17 rfl rfl)
theorem dX8_goesBy_19 : decode cX8_goesBy 19 = .ok (.iload_n 3, 1) := dk_29 (dk_at dksX8_goesBy_0 19 rfl rfl)
theorem dX8_goesBy_20 : decode cX8_goesBy 20 = .ok (.invokevirtual 388, 3) := dk_182 1 132 (dk_at dksX8_goesBy_0 20 rfl rfl)
theorem dX8_goesBy_23 : decode cX8_goesBy 23 = .ok (.ifCond .eq 23, 3) := dk_153 0 23 (dk_at dksX8_goesBy_1 0 rfl rfl)
theorem dX8_goesBy_26 : decode cX8_goesBy 26 = .ok (.aload_n 0, 1) := dk_42 (dk_at dksX8_goesBy_1 3 rfl rfl)
theorem dX8_goesBy_27 : decode cX8_goesBy 27 = .ok (.getfield 13, 3) := dk_180 0 13 (dk_at dksX8_goesBy_1 4 rfl rfl)
theorem dX8_goesBy_30 : decode cX8_goesBy 30 = .ok (.iconst (-1), 1) := dk_2 (dk_at dksX8_goesBy_1 7 rfl rfl)
theorem dX8_goesBy_31 : decode cX8_goesBy 31 = .ok (.if_icmp .eq 16, 3) := dk_159 0 16 (dk_at dksX8_goesBy_1 8 rfl rfl)
theorem dX8_goesBy_34 : decode cX8_goesBy 34 = .ok (.iload 4, 2) := dk_21 4 (dk_at dksX8_goesBy_1 11 rfl rfl)
theorem dX8_goesBy_36 : decode cX8_goesBy 36 = .ok (.bipush 20, 2) := dk_16 20 (dk_at dksX8_goesBy_1 13 rfl rfl)
theorem dX8_goesBy_38 : decode cX8_goesBy 38 = .ok (.ishr, 1) := dk_122 (dk_at dksX8_goesBy_1 15 rfl rfl)
theorem dX8_goesBy_39 : decode cX8_goesBy 39 = .ok (.iconst 3, 1) := dk_6 (dk_at dksX8_goesBy_1 16 rfl rfl)
theorem dX8_goesBy_40 : decode cX8_goesBy 40 = .ok (.iand, 1) := dk_126 (dk_at dksX8_goesBy_1 17 rfl rfl)
theorem dX8_goesBy_41 : decode cX8_goesBy 41 = .ok (.iload 5, 2) := dk_21 5 (dk_at dksX8_goesBy_1 18 rfl rfl)
theorem dX8_goesBy_43 : decode cX8_goesBy 43 = .ok (.if_icmp .eq 4, 3) := dk_159 0 4 (dk_at dksX8_goesBy_1 20 rfl rfl)
theorem dX8_goesBy_46 : decode cX8_goesBy 46 = .ok (.return_, 1) := dk_177 (dk_at dksX8_goesBy_1 23 rfl rfl)
theorem dX8_goesBy_47 : decode cX8_goesBy 47 = .ok (.aload_n 0, 1) := dk_42 (dk_at dksX8_goesBy_2 0 rfl rfl)
theorem dX8_goesBy_48 : decode cX8_goesBy 48 = .ok (.iload 4, 2) := dk_21 4 (dk_at dksX8_goesBy_2 1 rfl rfl)
theorem dX8_goesBy_50 : decode cX8_goesBy 50 = .ok (.iload 5, 2) := dk_21 5 (dk_at dksX8_goesBy_2 3 rfl rfl)
theorem dX8_goesBy_52 : decode cX8_goesBy 52 = .ok (.invokevirtual 391, 3) := dk_182 1 135 (dk_at dksX8_goesBy_2 5 rfl rfl)
theorem dX8_goesBy_55 : decode cX8_goesBy 55 = .ok (.istore 6, 2) := dk_54 6 (dk_at dksX8_goesBy_2 8 rfl rfl)
theorem dX8_goesBy_57 : decode cX8_goesBy 57 = .ok (.iconst 0, 1) := dk_3 (dk_at dksX8_goesBy_2 10 rfl rfl)
theorem dX8_goesBy_58 : decode cX8_goesBy 58 = .ok (.istore 7, 2) := dk_54 7 (dk_at dksX8_goesBy_2 11 rfl rfl)
theorem dX8_goesBy_60 : decode cX8_goesBy 60 = .ok (.iload 7, 2) := dk_21 7 (dk_at dksX8_goesBy_2 13 rfl rfl)
theorem dX8_goesBy_62 : decode cX8_goesBy 62 = .ok (.aload_n 0, 1) := dk_42 (dk_at dksX8_goesBy_2 15 rfl rfl)
theorem dX8_goesBy_63 : decode cX8_goesBy 63 = .ok (.getfield 131, 3) := dk_180 0 131 (dk_at dksX8_goesBy_2 16 rfl rfl)
theorem dX8_goesBy_66 : decode cX8_goesBy 66 = .ok (.iload_n 2, 1) := dk_28 (dk_at dksX8_goesBy_2 19 rfl rfl)
theorem dX8_goesBy_67 : decode cX8_goesBy 67 = .ok (.iaload, 1) := dk_46 (dk_at dksX8_goesBy_2 20 rfl rfl)
theorem dX8_goesBy_68 : decode cX8_goesBy 68 = .ok (.if_icmp .ge 216, 3) := dk_162 0 216 (dk_at dksX8_goesBy_2 21 rfl rfl)
theorem dX8_goesBy_71 : decode cX8_goesBy 71 = .ok (.aload_n 0, 1) := dk_42 (dk_at dksX8_goesBy_3 0 rfl rfl)
theorem dX8_goesBy_72 : decode cX8_goesBy 72 = .ok (.getfield 429, 3) := dk_180 1 173 (dk_at dksX8_goesBy_3 1 rfl rfl)
theorem dX8_goesBy_75 : decode cX8_goesBy 75 = .ok (.ifCond .ne 209, 3) := dk_154 0 209 (dk_at dksX8_goesBy_3 4 rfl rfl)
theorem dX8_goesBy_78 : decode cX8_goesBy 78 = .ok (.aload_n 0, 1) := dk_42 (dk_at dksX8_goesBy_3 7 rfl rfl)
theorem dX8_goesBy_79 : decode cX8_goesBy 79 = .ok (.getfield 134, 3) := dk_180 0 134 (dk_at dksX8_goesBy_3 8 rfl rfl)
theorem dX8_goesBy_82 : decode cX8_goesBy 82 = .ok (.sipush 256, 3) := dk_17 1 0 (dk_at dksX8_goesBy_3 11 rfl rfl)
theorem dX8_goesBy_85 : decode cX8_goesBy 85 = .ok (.iload_n 2, 1) := dk_28 (dk_at dksX8_goesBy_3 14 rfl rfl)
theorem dX8_goesBy_86 : decode cX8_goesBy 86 = .ok (.imul, 1) := dk_104 (dk_at dksX8_goesBy_3 15 rfl rfl)
theorem dX8_goesBy_87 : decode cX8_goesBy 87 = .ok (.iload 7, 2) := dk_21 7 (dk_at dksX8_goesBy_3 16 rfl rfl)
theorem dX8_goesBy_89 : decode cX8_goesBy 89 = .ok (.iadd, 1) := dk_96 (dk_at dksX8_goesBy_3 18 rfl rfl)
theorem dX8_goesBy_90 : decode cX8_goesBy 90 = .ok (.iaload, 1) := dk_46 (dk_at dksX8_goesBy_3 19 rfl rfl)
theorem dX8_goesBy_91 : decode cX8_goesBy 91 = .ok (.istore 8, 2) := dk_54 8 (dk_at dksX8_goesBy_3 20 rfl rfl)
theorem dX8_goesBy_93 : decode cX8_goesBy 93 = .ok (.iload 8, 2) := dk_21 8 (dk_at dksX8_goesBy_3 22 rfl rfl)
theorem dX8_goesBy_95 : decode cX8_goesBy 95 = .ok (.iload 6, 2) := dk_21 6 (dk_at dksX8_goesBy_4 0 rfl rfl)
theorem dX8_goesBy_97 : decode cX8_goesBy 97 = .ok (.iconst (-1), 1) := dk_2 (dk_at dksX8_goesBy_4 2 rfl rfl)
theorem dX8_goesBy_98 : decode cX8_goesBy 98 = .ok (.ixor, 1) := dk_130 (dk_at dksX8_goesBy_4 3 rfl rfl)
theorem dX8_goesBy_99 : decode cX8_goesBy 99 = .ok (.iand, 1) := dk_126 (dk_at dksX8_goesBy_4 4 rfl rfl)
theorem dX8_goesBy_100 : decode cX8_goesBy 100 = .ok (.ifCond .ne 178, 3) := dk_154 0 178 (dk_at dksX8_goesBy_4 5 rfl rfl)
theorem dX8_goesBy_103 : decode cX8_goesBy 103 = .ok (.aload_n 0, 1) := dk_42 (dk_at dksX8_goesBy_4 8 rfl rfl)
theorem dX8_goesBy_104 : decode cX8_goesBy 104 = .ok (.iload 8, 2) := dk_21 8 (dk_at dksX8_goesBy_4 9 rfl rfl)
theorem dX8_goesBy_106 : decode cX8_goesBy 106 = .ok (.invokevirtual 414, 3) := dk_182 1 158 (dk_at dksX8_goesBy_4 11 rfl rfl)
theorem dX8_goesBy_109 : decode cX8_goesBy 109 = .ok (.ifCond .ne 169, 3) := dk_154 0 169 (dk_at dksX8_goesBy_4 14 rfl rfl)
theorem dX8_goesBy_112 : decode cX8_goesBy 112 = .ok (.aload_n 0, 1) := dk_42 (dk_at dksX8_goesBy_4 17 rfl rfl)
theorem dX8_goesBy_113 : decode cX8_goesBy 113 = .ok (.iload 4, 2) := dk_21 4 (dk_at dksX8_goesBy_4 18 rfl rfl)
theorem dX8_goesBy_115 : decode cX8_goesBy 115 = .ok (.iload 8, 2) := dk_21 8 (dk_at dksX8_goesBy_4 20 rfl rfl)
theorem dX8_goesBy_117 : decode cX8_goesBy 117 = .ok (.iconst 1, 1) := dk_4 (dk_at dksX8_goesBy_4 22 rfl rfl)
theorem dX8_goesBy_118 : decode cX8_goesBy 118 = .ok (.iload_n 2, 1) := dk_28 (dk_at dksX8_goesBy_4 23 rfl rfl)
theorem dX8_goesBy_119 : decode cX8_goesBy 119 = .ok (.ishl, 1) := dk_120 (dk_at dksX8_goesBy_5 0 rfl rfl)
theorem dX8_goesBy_120 : decode cX8_goesBy 120 = .ok (.iconst 1, 1) := dk_4 (dk_at dksX8_goesBy_5 1 rfl rfl)
theorem dX8_goesBy_121 : decode cX8_goesBy 121 = .ok (.invokevirtual 410, 3) := dk_182 1 154 (dk_at dksX8_goesBy_5 2 rfl rfl)
theorem dX8_goesBy_124 : decode cX8_goesBy 124 = .ok (.ifCond .eq 6, 3) := dk_153 0 6 (dk_at dksX8_goesBy_5 5 rfl rfl)
theorem dX8_goesBy_127 : decode cX8_goesBy 127 = .ok (.goto 151, 3) := dk_167 0 151 (dk_at dksX8_goesBy_5 8 rfl rfl)
theorem dX8_goesBy_130 : decode cX8_goesBy 130 = .ok (.aload_n 0, 1) := dk_42 (dk_at dksX8_goesBy_5 11 rfl rfl)
theorem dX8_goesBy_131 : decode cX8_goesBy 131 = .ok (.iload 4, 2) := dk_21 4 (dk_at dksX8_goesBy_5 12 rfl rfl)
theorem dX8_goesBy_133 : decode cX8_goesBy 133 = .ok (.iload_n 2, 1) := dk_28 (dk_at dksX8_goesBy_5 14 rfl rfl)
theorem dX8_goesBy_134 : decode cX8_goesBy 134 = .ok (.iload_n 3, 1) := dk_29 (dk_at dksX8_goesBy_5 15 rfl rfl)
theorem dX8_goesBy_135 : decode cX8_goesBy 135 = .ok (.iload 8, 2) := dk_21 8 (dk_at dksX8_goesBy_5 16 rfl rfl)
theorem dX8_goesBy_137 : decode cX8_goesBy 137 = .ok (.invokevirtual 417, 3) := dk_182 1 161 (dk_at dksX8_goesBy_5 18 rfl rfl)
theorem dX8_goesBy_140 : decode cX8_goesBy 140 = .ok (.istore 9, 2) := dk_54 9 (dk_at dksX8_goesBy_5 21 rfl rfl)
theorem dX8_goesBy_142 : decode cX8_goesBy 142 = .ok (.aload_n 0, 1) := dk_42 (dk_at dksX8_goesBy_5 23 rfl rfl)
theorem dX8_goesBy_143 : decode cX8_goesBy 143 = .ok (.iload 9, 2) := dk_21 9 (dk_at dksX8_goesBy_6 0 rfl rfl)
theorem dX8_goesBy_145 : decode cX8_goesBy 145 = .ok (.iconst 0, 1) := dk_3 (dk_at dksX8_goesBy_6 2 rfl rfl)
theorem dX8_goesBy_146 : decode cX8_goesBy 146 = .ok (.iconst 0, 1) := dk_3 (dk_at dksX8_goesBy_6 3 rfl rfl)
theorem dX8_goesBy_147 : decode cX8_goesBy 147 = .ok (.iconst 0, 1) := dk_3 (dk_at dksX8_goesBy_6 4 rfl rfl)
theorem dX8_goesBy_148 : decode cX8_goesBy 148 = .ok (.invokevirtual 410, 3) := dk_182 1 154 (dk_at dksX8_goesBy_6 5 rfl rfl)
theorem dX8_goesBy_151 : decode cX8_goesBy 151 = .ok (.ifCond .eq 6, 3) := dk_153 0 6 (dk_at dksX8_goesBy_6 8 rfl rfl)
theorem dX8_goesBy_154 : decode cX8_goesBy 154 = .ok (.goto 124, 3) := dk_167 0 124 (dk_at dksX8_goesBy_6 11 rfl rfl)
theorem dX8_goesBy_157 : decode cX8_goesBy 157 = .ok (.aload_n 0, 1) := dk_42 (dk_at dksX8_goesBy_6 14 rfl rfl)
theorem dX8_goesBy_158 : decode cX8_goesBy 158 = .ok (.getfield 420, 3) := dk_180 1 164 (dk_at dksX8_goesBy_6 15 rfl rfl)
theorem dX8_goesBy_161 : decode cX8_goesBy 161 = .ok (.istore 10, 2) := dk_54 10 (dk_at dksX8_goesBy_6 18 rfl rfl)
theorem dX8_goesBy_163 : decode cX8_goesBy 163 = .ok (.aload_n 0, 1) := dk_42 (dk_at dksX8_goesBy_6 20 rfl rfl)
theorem dX8_goesBy_164 : decode cX8_goesBy 164 = .ok (.iload 9, 2) := dk_21 9 (dk_at dksX8_goesBy_6 21 rfl rfl)
theorem dX8_goesBy_166 : decode cX8_goesBy 166 = .ok (.invokevirtual 435, 3) := dk_182 1 179 (dk_at dksX8_goesBy_7 0 rfl rfl)
theorem dX8_goesBy_169 : decode cX8_goesBy 169 = .ok (.istore 11, 2) := dk_54 11 (dk_at dksX8_goesBy_7 3 rfl rfl)
theorem dX8_goesBy_171 : decode cX8_goesBy 171 = .ok (.aload_n 0, 1) := dk_42 (dk_at dksX8_goesBy_7 5 rfl rfl)
theorem dX8_goesBy_172 : decode cX8_goesBy 172 = .ok (.iload 11, 2) := dk_21 11 (dk_at dksX8_goesBy_7 6 rfl rfl)
theorem dX8_goesBy_174 : decode cX8_goesBy 174 = .ok (.iconst (-1), 1) := dk_2 (dk_at dksX8_goesBy_7 8 rfl rfl)
theorem dX8_goesBy_175 : decode cX8_goesBy 175 = .ok (.if_icmp .eq 13, 3) := dk_159 0 13 (dk_at dksX8_goesBy_7 9 rfl rfl)
theorem dX8_goesBy_178 : decode cX8_goesBy 178 = .ok (.aload_n 0, 1) := dk_42 (dk_at dksX8_goesBy_7 12 rfl rfl)
theorem dX8_goesBy_179 : decode cX8_goesBy 179 = .ok (.getfield 426, 3) := dk_180 1 170 (dk_at dksX8_goesBy_7 13 rfl rfl)
theorem dX8_goesBy_182 : decode cX8_goesBy 182 = .ok (.ldc_w 442, 3) := dk_19 1 186 (dk_at dksX8_goesBy_7 16 rfl rfl)
theorem dX8_goesBy_185 : decode cX8_goesBy 185 = .ok (.if_icmp .ne 7, 3) := dk_160 0 7 (dk_at dksX8_goesBy_7 19 rfl rfl)
theorem dX8_goesBy_188 : decode cX8_goesBy 188 = .ok (.iconst 1, 1) := dk_4 (dk_at dksX8_goesBy_7 22 rfl rfl)
theorem dX8_goesBy_189 : decode cX8_goesBy 189 = .ok (.goto 4, 3) := dk_167 0 4 (dk_at dksX8_goesBy_8 0 rfl rfl)
theorem dX8_goesBy_192 : decode cX8_goesBy 192 = .ok (.iconst 0, 1) := dk_3 (dk_at dksX8_goesBy_8 3 rfl rfl)
theorem dX8_goesBy_193 : decode cX8_goesBy 193 = .ok (.putfield 429, 3) := dk_181 1 173 (dk_at dksX8_goesBy_8 4 rfl rfl)
theorem dX8_goesBy_196 : decode cX8_goesBy 196 = .ok (.aload_n 0, 1) := dk_42 (dk_at dksX8_goesBy_8 7 rfl rfl)
theorem dX8_goesBy_197 : decode cX8_goesBy 197 = .ok (.getfield 429, 3) := dk_180 1 173 (dk_at dksX8_goesBy_8 8 rfl rfl)
theorem dX8_goesBy_200 : decode cX8_goesBy 200 = .ok (.ifCond .eq 4, 3) := dk_153 0 4 (dk_at dksX8_goesBy_8 11 rfl rfl)
theorem dX8_goesBy_203 : decode cX8_goesBy 203 = .ok (.return_, 1) := dk_177 (dk_at dksX8_goesBy_8 14 rfl rfl)
theorem dX8_goesBy_204 : decode cX8_goesBy 204 = .ok (.iload 11, 2) := dk_21 11 (dk_at dksX8_goesBy_8 15 rfl rfl)
theorem dX8_goesBy_206 : decode cX8_goesBy 206 = .ok (.iload 10, 2) := dk_21 10 (dk_at dksX8_goesBy_8 17 rfl rfl)
theorem dX8_goesBy_208 : decode cX8_goesBy 208 = .ok (.if_icmp .ne 18, 3) := dk_160 0 18 (dk_at dksX8_goesBy_8 19 rfl rfl)
theorem dX8_goesBy_211 : decode cX8_goesBy 211 = .ok (.aload_n 0, 1) := dk_42 (dk_at dksX8_goesBy_8 22 rfl rfl)
theorem dX8_goesBy_212 : decode cX8_goesBy 212 = .ok (.getfield 105, 3) := dk_180 0 105 (dk_at dksX8_goesBy_9 0 rfl rfl)
theorem dX8_goesBy_215 : decode cX8_goesBy 215 = .ok (.iload 11, 2) := dk_21 11 (dk_at dksX8_goesBy_9 3 rfl rfl)
theorem dX8_goesBy_217 : decode cX8_goesBy 217 = .ok (.aload_n 0, 1) := dk_42 (dk_at dksX8_goesBy_9 5 rfl rfl)
theorem dX8_goesBy_218 : decode cX8_goesBy 218 = .ok (.getfield 105, 3) := dk_180 0 105 (dk_at dksX8_goesBy_9 6 rfl rfl)
theorem dX8_goesBy_221 : decode cX8_goesBy 221 = .ok (.iload_n 1, 1) := dk_27 (dk_at dksX8_goesBy_9 9 rfl rfl)
theorem dX8_goesBy_222 : decode cX8_goesBy 222 = .ok (.iaload, 1) := dk_46 (dk_at dksX8_goesBy_9 10 rfl rfl)
theorem dX8_goesBy_223 : decode cX8_goesBy 223 = .ok (.iconst 1, 1) := dk_4 (dk_at dksX8_goesBy_9 11 rfl rfl)
theorem dX8_goesBy_224 : decode cX8_goesBy 224 = .ok (.iadd, 1) := dk_96 (dk_at dksX8_goesBy_9 12 rfl rfl)
theorem dX8_goesBy_225 : decode cX8_goesBy 225 = .ok (.iastore, 1) := dk_79 (dk_at dksX8_goesBy_9 13 rfl rfl)
theorem dX8_goesBy_226 : decode cX8_goesBy 226 = .ok (.aload_n 0, 1) := dk_42 (dk_at dksX8_goesBy_9 14 rfl rfl)
theorem dX8_goesBy_227 : decode cX8_goesBy 227 = .ok (.getfield 115, 3) := dk_180 0 115 (dk_at dksX8_goesBy_9 15 rfl rfl)
theorem dX8_goesBy_230 : decode cX8_goesBy 230 = .ok (.aload_n 0, 1) := dk_42 (dk_at dksX8_goesBy_9 18 rfl rfl)
theorem dX8_goesBy_231 : decode cX8_goesBy 231 = .ok (.getfield 426, 3) := dk_180 1 170 (dk_at dksX8_goesBy_9 19 rfl rfl)
theorem dX8_goesBy_234 : decode cX8_goesBy 234 = .ok (.iload_n 2, 1) := dk_28 (dk_at dksX8_goesBy_9 22 rfl rfl)
theorem dX8_goesBy_235 : decode cX8_goesBy 235 = .ok (.iastore, 1) := dk_79 (dk_at dksX8_goesBy_9 23 rfl rfl)
theorem dX8_goesBy_236 : decode cX8_goesBy 236 = .ok (.aload_n 0, 1) := dk_42 (dk_at dksX8_goesBy_10 0 rfl rfl)
theorem dX8_goesBy_237 : decode cX8_goesBy 237 = .ok (.getfield 118, 3) := dk_180 0 118 (dk_at dksX8_goesBy_10 1 rfl rfl)
theorem dX8_goesBy_240 : decode cX8_goesBy 240 = .ok (.aload_n 0, 1) := dk_42 (dk_at dksX8_goesBy_10 4 rfl rfl)
theorem dX8_goesBy_241 : decode cX8_goesBy 241 = .ok (.getfield 426, 3) := dk_180 1 170 (dk_at dksX8_goesBy_10 5 rfl rfl)
theorem dX8_goesBy_244 : decode cX8_goesBy 244 = .ok (.iload_n 3, 1) := dk_29 (dk_at dksX8_goesBy_10 8 rfl rfl)
theorem dX8_goesBy_245 : decode cX8_goesBy 245 = .ok (.iastore, 1) := dk_79 (dk_at dksX8_goesBy_10 9 rfl rfl)
theorem dX8_goesBy_246 : decode cX8_goesBy 246 = .ok (.aload_n 0, 1) := dk_42 (dk_at dksX8_goesBy_10 10 rfl rfl)
theorem dX8_goesBy_247 : decode cX8_goesBy 247 = .ok (.getfield 121, 3) := dk_180 0 121 (dk_at dksX8_goesBy_10 11 rfl rfl)
theorem dX8_goesBy_250 : decode cX8_goesBy 250 = .ok (.aload_n 0, 1) := dk_42 (dk_at dksX8_goesBy_10 14 rfl rfl)
theorem dX8_goesBy_251 : decode cX8_goesBy 251 = .ok (.getfield 426, 3) := dk_180 1 170 (dk_at dksX8_goesBy_10 15 rfl rfl)
theorem dX8_goesBy_254 : decode cX8_goesBy 254 = .ok (.iload 8, 2) := dk_21 8 (dk_at dksX8_goesBy_10 18 rfl rfl)
theorem dX8_goesBy_256 : decode cX8_goesBy 256 = .ok (.iastore, 1) := dk_79 (dk_at dksX8_goesBy_10 20 rfl rfl)
theorem dX8_goesBy_257 : decode cX8_goesBy 257 = .ok (.aload_n 0, 1) := dk_42 (dk_at dksX8_goesBy_10 21 rfl rfl)
theorem dX8_goesBy_258 : decode cX8_goesBy 258 = .ok (.getfield 124, 3) := dk_180 0 124 (dk_at dksX8_goesBy_11 0 rfl rfl)
theorem dX8_goesBy_261 : decode cX8_goesBy 261 = .ok (.aload_n 0, 1) := dk_42 (dk_at dksX8_goesBy_11 3 rfl rfl)
theorem dX8_goesBy_262 : decode cX8_goesBy 262 = .ok (.getfield 426, 3) := dk_180 1 170 (dk_at dksX8_goesBy_11 4 rfl rfl)
theorem dX8_goesBy_265 : decode cX8_goesBy 265 = .ok (.iload 11, 2) := dk_21 11 (dk_at dksX8_goesBy_11 7 rfl rfl)
theorem dX8_goesBy_267 : decode cX8_goesBy 267 = .ok (.iastore, 1) := dk_79 (dk_at dksX8_goesBy_11 9 rfl rfl)
theorem dX8_goesBy_268 : decode cX8_goesBy 268 = .ok (.aload_n 0, 1) := dk_42 (dk_at dksX8_goesBy_11 10 rfl rfl)
theorem dX8_goesBy_269 : decode cX8_goesBy 269 = .ok (.dup, 1) := dk_89 (dk_at dksX8_goesBy_11 11 rfl rfl)
theorem dX8_goesBy_270 : decode cX8_goesBy 270 = .ok (.getfield 426, 3) := dk_180 1 170 (dk_at dksX8_goesBy_11 12 rfl rfl)
theorem dX8_goesBy_273 : decode cX8_goesBy 273 = .ok (.iconst 1, 1) := dk_4 (dk_at dksX8_goesBy_11 15 rfl rfl)
theorem dX8_goesBy_274 : decode cX8_goesBy 274 = .ok (.iadd, 1) := dk_96 (dk_at dksX8_goesBy_11 16 rfl rfl)
theorem dX8_goesBy_275 : decode cX8_goesBy 275 = .ok (.putfield 426, 3) := dk_181 1 170 (dk_at dksX8_goesBy_11 17 rfl rfl)
theorem dX8_goesBy_278 : decode cX8_goesBy 278 = .ok (.iinc 7 1, 3) := dk_132 7 1 (dk_at dksX8_goesBy_11 20 rfl rfl)
theorem dX8_goesBy_281 : decode cX8_goesBy 281 = .ok (.goto (-221), 3) := dk_167 255 35 (dk_at dksX8_goesBy_12 0 rfl rfl)
theorem dX8_goesBy_284 : decode cX8_goesBy 284 = .ok (.return_, 1) := dk_177 (dk_at dksX8_goesBy_12 3 rfl rfl)
abbrev cX8_aboard : ByteArray := prog_19_method_64_code
def yX8_aboard : MethodName := ⟨RX8, "aboard", "(I)I"⟩
def dkwX8_aboard_1 : List UInt8 := [182, 1, 141, 172]
abbrev dktX8_aboard_1 : List UInt8 := dkwX8_aboard_1 ++ []
def dkwX8_aboard_0 : List UInt8 := [42, 42, 27, 42, 180, 0, 7, 4, 42, 180, 0, 13, 2, 160, 0, 7, 3, 167, 0, 4, 4, 182, 1, 122]
abbrev dktX8_aboard_0 : List UInt8 := dkwX8_aboard_0 ++ dktX8_aboard_1
theorem dksX8_aboard_0 : cX8_aboard.data.toList.drop 0 = dktX8_aboard_0 := by decide +kernel
theorem dksX8_aboard_1 : cX8_aboard.data.toList.drop 24 = dktX8_aboard_1 := dk_seg dksX8_aboard_0 24 rfl rfl
theorem dX8_aboard_0 : decode cX8_aboard 0 = .ok (.aload_n 0, 1) := dk_42 (dk_at dksX8_aboard_0 0 rfl rfl)
theorem dX8_aboard_1 : decode cX8_aboard 1 = .ok (.aload_n 0, 1) := dk_42 (dk_at dksX8_aboard_0 1 rfl rfl)
theorem dX8_aboard_2 : decode cX8_aboard 2 = .ok (.iload_n 1, 1) := dk_27 (dk_at dksX8_aboard_0 2 rfl rfl)
theorem dX8_aboard_3 : decode cX8_aboard 3 = .ok (.aload_n 0, 1) := dk_42 (dk_at dksX8_aboard_0 3 rfl rfl)
theorem dX8_aboard_4 : decode cX8_aboard 4 = .ok (.getfield 7, 3) := dk_180 0 7 (dk_at dksX8_aboard_0 4 rfl rfl)
theorem dX8_aboard_7 : decode cX8_aboard 7 = .ok (.iconst 1, 1) := dk_4 (dk_at dksX8_aboard_0 7 rfl rfl)
theorem dX8_aboard_8 : decode cX8_aboard 8 = .ok (.aload_n 0, 1) := dk_42 (dk_at dksX8_aboard_0 8 rfl rfl)
theorem dX8_aboard_9 : decode cX8_aboard 9 = .ok (.getfield 13, 3) := dk_180 0 13 (dk_at dksX8_aboard_0 9 rfl rfl)
theorem dX8_aboard_12 : decode cX8_aboard 12 = .ok (.iconst (-1), 1) := dk_2 (dk_at dksX8_aboard_0 12 rfl rfl)
theorem dX8_aboard_13 : decode cX8_aboard 13 = .ok (.if_icmp .ne 7, 3) := dk_160 0 7 (dk_at dksX8_aboard_0 13 rfl rfl)
theorem dX8_aboard_16 : decode cX8_aboard 16 = .ok (.iconst 0, 1) := dk_3 (dk_at dksX8_aboard_0 16 rfl rfl)
theorem dX8_aboard_17 : decode cX8_aboard 17 = .ok (.goto 4, 3) := dk_167 0 4 (dk_at dksX8_aboard_0 17 rfl rfl)
theorem dX8_aboard_20 : decode cX8_aboard 20 = .ok (.iconst 1, 1) := dk_4 (dk_at dksX8_aboard_0 20 rfl rfl)
theorem dX8_aboard_21 : decode cX8_aboard 21 = .ok (.invokevirtual 378, 3) := dk_182 1 122 (dk_at dksX8_aboard_0 21 rfl rfl)
theorem dX8_aboard_24 : decode cX8_aboard 24 = .ok (.invokevirtual 397, 3) := dk_182 1 141 (dk_at dksX8_aboard_1 0 rfl rfl)
theorem dX8_aboard_27 : decode cX8_aboard 27 = .ok (.ireturn, 1) := dk_172 (dk_at dksX8_aboard_1 3 rfl rfl)
abbrev cX8_behind : ByteArray := prog_19_method_62_code
def yX8_behind : MethodName := ⟨RX8, "behind", "(IIII)I"⟩
def dkwX8_behind_4 : List UInt8 := [172]
abbrev dktX8_behind_4 : List UInt8 := dkwX8_behind_4 ++ []
def dkwX8_behind_3 : List UInt8 := [42, 180, 0, 13, 2, 160, 0, 8, 21, 5, 167, 0, 14, 21, 5, 19, 1, 144, 126, 29, 16, 20, 120, 128]
abbrev dktX8_behind_3 : List UInt8 := dkwX8_behind_3 ++ dktX8_behind_4
def dkwX8_behind_2 : List UInt8 := [6, 5, 21, 6, 104, 120, 2, 130, 126, 29, 5, 21, 6, 104, 120, 128, 54, 5, 132, 6, 1, 167, 255, 213]
abbrev dktX8_behind_2 : List UInt8 := dkwX8_behind_2 ++ dktX8_behind_3
def dkwX8_behind_1 : List UInt8 := [54, 6, 21, 6, 42, 180, 1, 82, 162, 0, 40, 21, 4, 21, 6, 122, 4, 126, 4, 160, 0, 23, 21, 5]
abbrev dktX8_behind_1 : List UInt8 := dkwX8_behind_1 ++ dktX8_behind_2
def dkwX8_behind_0 : List UInt8 := [27, 6, 16, 16, 5, 28, 104, 96, 120, 2, 130, 126, 29, 16, 16, 5, 28, 104, 96, 120, 128, 54, 5, 3]
abbrev dktX8_behind_0 : List UInt8 := dkwX8_behind_0 ++ dktX8_behind_1
theorem dksX8_behind_0 : cX8_behind.data.toList.drop 0 = dktX8_behind_0 := by decide +kernel
theorem dksX8_behind_1 : cX8_behind.data.toList.drop 24 = dktX8_behind_1 := dk_seg dksX8_behind_0 24 rfl rfl
theorem dksX8_behind_2 : cX8_behind.data.toList.drop 48 = dktX8_behind_2 := dk_seg dksX8_behind_1 24 rfl rfl
theorem dksX8_behind_3 : cX8_behind.data.toList.drop 72 = dktX8_behind_3 := dk_seg dksX8_behind_2 24 rfl rfl
theorem dksX8_behind_4 : cX8_behind.data.toList.drop 96 = dktX8_behind_4 := dk_seg dksX8_behind_3 24 rfl rfl
theorem dX8_behind_0 : decode cX8_behind 0 = .ok (.iload_n 1, 1) := dk_27 (dk_at dksX8_behind_0 0 rfl rfl)
theorem dX8_behind_1 : decode cX8_behind 1 = .ok (.iconst 3, 1) := dk_6 (dk_at dksX8_behind_0 1 rfl rfl)
theorem dX8_behind_2 : decode cX8_behind 2 = .ok (.bipush 16, 2) := dk_16 16 (dk_at dksX8_behind_0 2 rfl rfl)
theorem dX8_behind_4 : decode cX8_behind 4 = .ok (.iconst 2, 1) := dk_5 (dk_at dksX8_behind_0 4 rfl rfl)
theorem dX8_behind_5 : decode cX8_behind 5 = .ok (.iload_n 2, 1) := dk_28 (dk_at dksX8_behind_0 5 rfl rfl)
theorem dX8_behind_6 : decode cX8_behind 6 = .ok (.imul, 1) := dk_104 (dk_at dksX8_behind_0 6 rfl rfl)
theorem dX8_behind_7 : decode cX8_behind 7 = .ok (.iadd, 1) := dk_96 (dk_at dksX8_behind_0 7 rfl rfl)
theorem dX8_behind_8 : decode cX8_behind 8 = .ok (.ishl, 1) := dk_120 (dk_at dksX8_behind_0 8 rfl rfl)
theorem dX8_behind_9 : decode cX8_behind 9 = .ok (.iconst (-1), 1) := dk_2 (dk_at dksX8_behind_0 9 rfl rfl)
theorem dX8_behind_10 : decode cX8_behind 10 = .ok (.ixor, 1) := dk_130 (dk_at dksX8_behind_0 10 rfl rfl)
theorem dX8_behind_11 : decode cX8_behind 11 = .ok (.iand, 1) := dk_126 (dk_at dksX8_behind_0 11 rfl rfl)
theorem dX8_behind_12 : decode cX8_behind 12 = .ok (.iload_n 3, 1) := dk_29 (dk_at dksX8_behind_0 12 rfl rfl)
theorem dX8_behind_13 : decode cX8_behind 13 = .ok (.bipush 16, 2) := dk_16 16 (dk_at dksX8_behind_0 13 rfl rfl)
theorem dX8_behind_15 : decode cX8_behind 15 = .ok (.iconst 2, 1) := dk_5 (dk_at dksX8_behind_0 15 rfl rfl)
theorem dX8_behind_16 : decode cX8_behind 16 = .ok (.iload_n 2, 1) := dk_28 (dk_at dksX8_behind_0 16 rfl rfl)
theorem dX8_behind_17 : decode cX8_behind 17 = .ok (.imul, 1) := dk_104 (dk_at dksX8_behind_0 17 rfl rfl)
theorem dX8_behind_18 : decode cX8_behind 18 = .ok (.iadd, 1) := dk_96 (dk_at dksX8_behind_0 18 rfl rfl)
theorem dX8_behind_19 : decode cX8_behind 19 = .ok (.ishl, 1) := dk_120 (dk_at dksX8_behind_0 19 rfl rfl)
theorem dX8_behind_20 : decode cX8_behind 20 = .ok (.ior, 1) := dk_128 (dk_at dksX8_behind_0 20 rfl rfl)
theorem dX8_behind_21 : decode cX8_behind 21 = .ok (.istore 5, 2) := dk_54 5 (dk_at dksX8_behind_0 21 rfl rfl)
theorem dX8_behind_23 : decode cX8_behind 23 = .ok (.iconst 0, 1) := dk_3 (dk_at dksX8_behind_0 23 rfl rfl)
theorem dX8_behind_24 : decode cX8_behind 24 = .ok (.istore 6, 2) := dk_54 6 (dk_at dksX8_behind_1 0 rfl rfl)
theorem dX8_behind_26 : decode cX8_behind 26 = .ok (.iload 6, 2) := dk_21 6 (dk_at dksX8_behind_1 2 rfl rfl)
theorem dX8_behind_28 : decode cX8_behind 28 = .ok (.aload_n 0, 1) := dk_42 (dk_at dksX8_behind_1 4 rfl rfl)
theorem dX8_behind_29 : decode cX8_behind 29 = .ok (.getfield 338, 3) := dk_180 1 82 (dk_at dksX8_behind_1 5 rfl rfl)
theorem dX8_behind_32 : decode cX8_behind 32 = .ok (.if_icmp .ge 40, 3) := dk_162 0 40 (dk_at dksX8_behind_1 8 rfl rfl)
theorem dX8_behind_35 : decode cX8_behind 35 = .ok (.iload 4, 2) := dk_21 4 (dk_at dksX8_behind_1 11 rfl rfl)
theorem dX8_behind_37 : decode cX8_behind 37 = .ok (.iload 6, 2) := dk_21 6 (dk_at dksX8_behind_1 13 rfl rfl)
theorem dX8_behind_39 : decode cX8_behind 39 = .ok (.ishr, 1) := dk_122 (dk_at dksX8_behind_1 15 rfl rfl)
theorem dX8_behind_40 : decode cX8_behind 40 = .ok (.iconst 1, 1) := dk_4 (dk_at dksX8_behind_1 16 rfl rfl)
theorem dX8_behind_41 : decode cX8_behind 41 = .ok (.iand, 1) := dk_126 (dk_at dksX8_behind_1 17 rfl rfl)
theorem dX8_behind_42 : decode cX8_behind 42 = .ok (.iconst 1, 1) := dk_4 (dk_at dksX8_behind_1 18 rfl rfl)
theorem dX8_behind_43 : decode cX8_behind 43 = .ok (.if_icmp .ne 23, 3) := dk_160 0 23 (dk_at dksX8_behind_1 19 rfl rfl)
theorem dX8_behind_46 : decode cX8_behind 46 = .ok (.iload 5, 2) := dk_21 5 (dk_at dksX8_behind_1 22 rfl rfl)
theorem dX8_behind_48 : decode cX8_behind 48 = .ok (.iconst 3, 1) := dk_6 (dk_at dksX8_behind_2 0 rfl rfl)
theorem dX8_behind_49 : decode cX8_behind 49 = .ok (.iconst 2, 1) := dk_5 (dk_at dksX8_behind_2 1 rfl rfl)
theorem dX8_behind_50 : decode cX8_behind 50 = .ok (.iload 6, 2) := dk_21 6 (dk_at dksX8_behind_2 2 rfl rfl)
theorem dX8_behind_52 : decode cX8_behind 52 = .ok (.imul, 1) := dk_104 (dk_at dksX8_behind_2 4 rfl rfl)
theorem dX8_behind_53 : decode cX8_behind 53 = .ok (.ishl, 1) := dk_120 (dk_at dksX8_behind_2 5 rfl rfl)
theorem dX8_behind_54 : decode cX8_behind 54 = .ok (.iconst (-1), 1) := dk_2 (dk_at dksX8_behind_2 6 rfl rfl)
theorem dX8_behind_55 : decode cX8_behind 55 = .ok (.ixor, 1) := dk_130 (dk_at dksX8_behind_2 7 rfl rfl)
theorem dX8_behind_56 : decode cX8_behind 56 = .ok (.iand, 1) := dk_126 (dk_at dksX8_behind_2 8 rfl rfl)
theorem dX8_behind_57 : decode cX8_behind 57 = .ok (.iload_n 3, 1) := dk_29 (dk_at dksX8_behind_2 9 rfl rfl)
theorem dX8_behind_58 : decode cX8_behind 58 = .ok (.iconst 2, 1) := dk_5 (dk_at dksX8_behind_2 10 rfl rfl)
theorem dX8_behind_59 : decode cX8_behind 59 = .ok (.iload 6, 2) := dk_21 6 (dk_at dksX8_behind_2 11 rfl rfl)
theorem dX8_behind_61 : decode cX8_behind 61 = .ok (.imul, 1) := dk_104 (dk_at dksX8_behind_2 13 rfl rfl)
theorem dX8_behind_62 : decode cX8_behind 62 = .ok (.ishl, 1) := dk_120 (dk_at dksX8_behind_2 14 rfl rfl)
theorem dX8_behind_63 : decode cX8_behind 63 = .ok (.ior, 1) := dk_128 (dk_at dksX8_behind_2 15 rfl rfl)
theorem dX8_behind_64 : decode cX8_behind 64 = .ok (.istore 5, 2) := dk_54 5 (dk_at dksX8_behind_2 16 rfl rfl)
theorem dX8_behind_66 : decode cX8_behind 66 = .ok (.iinc 6 1, 3) := dk_132 6 1 (dk_at dksX8_behind_2 18 rfl rfl)
theorem dX8_behind_69 : decode cX8_behind 69 = .ok (.goto (-43), 3) := dk_167 255 213 (dk_at dksX8_behind_2 21 rfl rfl)
theorem dX8_behind_72 : decode cX8_behind 72 = .ok (.aload_n 0, 1) := dk_42 (dk_at dksX8_behind_3 0 rfl rfl)
theorem dX8_behind_73 : decode cX8_behind 73 = .ok (.getfield 13, 3) := dk_180 0 13 (dk_at dksX8_behind_3 1 rfl rfl)
theorem dX8_behind_76 : decode cX8_behind 76 = .ok (.iconst (-1), 1) := dk_2 (dk_at dksX8_behind_3 4 rfl rfl)
theorem dX8_behind_77 : decode cX8_behind 77 = .ok (.if_icmp .ne 8, 3) := dk_160 0 8 (dk_at dksX8_behind_3 5 rfl rfl)
theorem dX8_behind_80 : decode cX8_behind 80 = .ok (.iload 5, 2) := dk_21 5 (dk_at dksX8_behind_3 8 rfl rfl)
theorem dX8_behind_82 : decode cX8_behind 82 = .ok (.goto 14, 3) := dk_167 0 14 (dk_at dksX8_behind_3 10 rfl rfl)
theorem dX8_behind_85 : decode cX8_behind 85 = .ok (.iload 5, 2) := dk_21 5 (dk_at dksX8_behind_3 13 rfl rfl)
theorem dX8_behind_87 : decode cX8_behind 87 = .ok (.ldc_w 400, 3) := dk_19 1 144 (dk_at dksX8_behind_3 15 rfl rfl)
theorem dX8_behind_90 : decode cX8_behind 90 = .ok (.iand, 1) := dk_126 (dk_at dksX8_behind_3 18 rfl rfl)
theorem dX8_behind_91 : decode cX8_behind 91 = .ok (.iload_n 3, 1) := dk_29 (dk_at dksX8_behind_3 19 rfl rfl)
theorem dX8_behind_92 : decode cX8_behind 92 = .ok (.bipush 20, 2) := dk_16 20 (dk_at dksX8_behind_3 20 rfl rfl)
theorem dX8_behind_94 : decode cX8_behind 94 = .ok (.ishl, 1) := dk_120 (dk_at dksX8_behind_3 22 rfl rfl)
theorem dX8_behind_95 : decode cX8_behind 95 = .ok (.ior, 1) := dk_128 (dk_at dksX8_behind_3 23 rfl rfl)
theorem dX8_behind_96 : decode cX8_behind 96 = .ok (.ireturn, 1) := dk_172 (dk_at dksX8_behind_4 0 rfl rfl)
abbrev cX8_measures : ByteArray := prog_19_method_70_code
def yX8_measures : MethodName := ⟨RX8, "measures", "()V"⟩
def dkwX8_measures_7 : List UInt8 := [29, 28, 79, 4, 60, 132, 3, 1, 167, 255, 155, 132, 2, 1, 167, 255, 141, 177]
abbrev dktX8_measures_7 : List UInt8 := dkwX8_measures_7 ++ []
def dkwX8_measures_6 : List UInt8 := [167, 0, 4, 3, 54, 4, 132, 5, 1, 167, 255, 210, 21, 4, 154, 0, 6, 167, 0, 12, 42, 180, 0, 108]
abbrev dktX8_measures_6 : List UInt8 := dkwX8_measures_6 ++ dktX8_measures_7
def dkwX8_measures_5 : List UInt8 := [21, 4, 154, 0, 34, 42, 180, 0, 108, 42, 180, 0, 124, 21, 5, 46, 46, 28, 4, 100, 160, 0, 7, 4]
abbrev dktX8_measures_5 : List UInt8 := dkwX8_measures_5 ++ dktX8_measures_6
def dkwX8_measures_4 : List UInt8 := [54, 4, 42, 180, 0, 102, 29, 46, 54, 5, 21, 5, 42, 180, 0, 102, 29, 4, 96, 46, 162, 0, 39]
abbrev dktX8_measures_4 : List UInt8 := dkwX8_measures_4 ++ dktX8_measures_5
def dkwX8_measures_3 : List UInt8 := [62, 29, 42, 180, 1, 164, 162, 0, 99, 42, 180, 0, 108, 29, 46, 2, 159, 0, 6, 167, 0, 80, 3]
abbrev dktX8_measures_3 : List UInt8 := dkwX8_measures_3 ++ dktX8_measures_4
def dkwX8_measures_2 : List UInt8 := [154, 0, 7, 4, 167, 0, 4, 3, 60, 132, 2, 1, 167, 255, 202, 4, 61, 27, 153, 0, 117, 3, 60, 3]
abbrev dktX8_measures_2 : List UInt8 := dkwX8_measures_2 ++ dktX8_measures_3
def dkwX8_measures_1 : List UInt8 := [182, 1, 187, 153, 0, 7, 3, 167, 0, 4, 2, 79, 27, 154, 0, 12, 42, 180, 0, 108, 28, 46]
abbrev dktX8_measures_1 : List UInt8 := dkwX8_measures_1 ++ dktX8_measures_2
def dkwX8_measures_0 : List UInt8 := [3, 60, 3, 61, 28, 42, 180, 1, 164, 162, 0, 52, 42, 180, 0, 108, 28, 42, 42, 180, 0, 99, 28, 46]
abbrev dktX8_measures_0 : List UInt8 := dkwX8_measures_0 ++ dktX8_measures_1
theorem dksX8_measures_0 : cX8_measures.data.toList.drop 0 = dktX8_measures_0 := by decide +kernel
theorem dksX8_measures_1 : cX8_measures.data.toList.drop 24 = dktX8_measures_1 := dk_seg dksX8_measures_0 24 rfl rfl
theorem dksX8_measures_2 : cX8_measures.data.toList.drop 46 = dktX8_measures_2 := dk_seg dksX8_measures_1 22 rfl rfl
theorem dksX8_measures_3 : cX8_measures.data.toList.drop 70 = dktX8_measures_3 := dk_seg dksX8_measures_2 24 rfl rfl
theorem dksX8_measures_4 : cX8_measures.data.toList.drop 93 = dktX8_measures_4 := dk_seg dksX8_measures_3 23 rfl rfl
theorem dksX8_measures_5 : cX8_measures.data.toList.drop 116 = dktX8_measures_5 := dk_seg dksX8_measures_4 23 rfl rfl
theorem dksX8_measures_6 : cX8_measures.data.toList.drop 140 = dktX8_measures_6 := dk_seg dksX8_measures_5 24 rfl rfl
theorem dksX8_measures_7 : cX8_measures.data.toList.drop 164 = dktX8_measures_7 := dk_seg dksX8_measures_6 24 rfl rfl
theorem dX8_measures_0 : decode cX8_measures 0 = .ok (.iconst 0, 1) := dk_3 (dk_at dksX8_measures_0 0 rfl rfl)
theorem dX8_measures_1 : decode cX8_measures 1 = .ok (.istore_n 1, 1) := dk_60 (dk_at dksX8_measures_0 1 rfl rfl)
theorem dX8_measures_2 : decode cX8_measures 2 = .ok (.iconst 0, 1) := dk_3 (dk_at dksX8_measures_0 2 rfl rfl)
theorem dX8_measures_3 : decode cX8_measures 3 = .ok (.istore_n 2, 1) := dk_61 (dk_at dksX8_measures_0 3 rfl rfl)
theorem dX8_measures_4 : decode cX8_measures 4 = .ok (.iload_n 2, 1) := dk_28 (dk_at dksX8_measures_0 4 rfl rfl)
theorem dX8_measures_5 : decode cX8_measures 5 = .ok (.aload_n 0, 1) := dk_42 (dk_at dksX8_measures_0 5 rfl rfl)
theorem dX8_measures_6 : decode cX8_measures 6 = .ok (.getfield 420, 3) := dk_180 1 164 (dk_at dksX8_measures_0 6 rfl rfl)
theorem dX8_measures_9 : decode cX8_measures 9 = .ok (.if_icmp .ge 52, 3) := dk_162 0 52 (dk_at dksX8_measures_0 9 rfl rfl)
theorem dX8_measures_12 : decode cX8_measures 12 = .ok (.aload_n 0, 1) := dk_42 (dk_at dksX8_measures_0 12 rfl rfl)
theorem dX8_measures_13 : decode cX8_measures 13 = .ok (.getfield 108, 3) := dk_180 0 108 (dk_at dksX8_measures_0 13 rfl rfl)
theorem dX8_measures_16 : decode cX8_measures 16 = .ok (.iload_n 2, 1) := dk_28 (dk_at dksX8_measures_0 16 rfl rfl)
theorem dX8_measures_17 : decode cX8_measures 17 = .ok (.aload_n 0, 1) := dk_42 (dk_at dksX8_measures_0 17 rfl rfl)
theorem dX8_measures_18 : decode cX8_measures 18 = .ok (.aload_n 0, 1) := dk_42 (dk_at dksX8_measures_0 18 rfl rfl)
theorem dX8_measures_19 : decode cX8_measures 19 = .ok (.getfield 99, 3) := dk_180 0 99 (dk_at dksX8_measures_0 19 rfl rfl)
theorem dX8_measures_22 : decode cX8_measures 22 = .ok (.iload_n 2, 1) := dk_28 (dk_at dksX8_measures_0 22 rfl rfl)
theorem dX8_measures_23 : decode cX8_measures 23 = .ok (.iaload, 1) := dk_46 (dk_at dksX8_measures_0 23 rfl rfl)
theorem dX8_measures_24 : decode cX8_measures 24 = .ok (.invokevirtual 443, 3) := dk_182 1 187 (dk_at dksX8_measures_1 0 rfl rfl)
theorem dX8_measures_27 : decode cX8_measures 27 = .ok (.ifCond .eq 7, 3) := dk_153 0 7 (dk_at dksX8_measures_1 3 rfl rfl)
theorem dX8_measures_30 : decode cX8_measures 30 = .ok (.iconst 0, 1) := dk_3 (dk_at dksX8_measures_1 6 rfl rfl)
theorem dX8_measures_31 : decode cX8_measures 31 = .ok (.goto 4, 3) := dk_167 0 4 (dk_at dksX8_measures_1 7 rfl rfl)
theorem dX8_measures_34 : decode cX8_measures 34 = .ok (.iconst (-1), 1) := dk_2 (dk_at dksX8_measures_1 10 rfl rfl)
theorem dX8_measures_35 : decode cX8_measures 35 = .ok (.iastore, 1) := dk_79 (dk_at dksX8_measures_1 11 rfl rfl)
theorem dX8_measures_36 : decode cX8_measures 36 = .ok (.iload_n 1, 1) := dk_27 (dk_at dksX8_measures_1 12 rfl rfl)
theorem dX8_measures_37 : decode cX8_measures 37 = .ok (.ifCond .ne 12, 3) := dk_154 0 12 (dk_at dksX8_measures_1 13 rfl rfl)
theorem dX8_measures_40 : decode cX8_measures 40 = .ok (.aload_n 0, 1) := dk_42 (dk_at dksX8_measures_1 16 rfl rfl)
theorem dX8_measures_41 : decode cX8_measures 41 = .ok (.getfield 108, 3) := dk_180 0 108 (dk_at dksX8_measures_1 17 rfl rfl)
theorem dX8_measures_44 : decode cX8_measures 44 = .ok (.iload_n 2, 1) := dk_28 (dk_at dksX8_measures_1 20 rfl rfl)
theorem dX8_measures_45 : decode cX8_measures 45 = .ok (.iaload, 1) := dk_46 (dk_at dksX8_measures_1 21 rfl rfl)
theorem dX8_measures_46 : decode cX8_measures 46 = .ok (.ifCond .ne 7, 3) := dk_154 0 7 (dk_at dksX8_measures_2 0 rfl rfl)
theorem dX8_measures_49 : decode cX8_measures 49 = .ok (.iconst 1, 1) := dk_4 (dk_at dksX8_measures_2 3 rfl rfl)
theorem dX8_measures_50 : decode cX8_measures 50 = .ok (.goto 4, 3) := dk_167 0 4 (dk_at dksX8_measures_2 4 rfl rfl)
theorem dX8_measures_53 : decode cX8_measures 53 = .ok (.iconst 0, 1) := dk_3 (dk_at dksX8_measures_2 7 rfl rfl)
theorem dX8_measures_54 : decode cX8_measures 54 = .ok (.istore_n 1, 1) := dk_60 (dk_at dksX8_measures_2 8 rfl rfl)
theorem dX8_measures_55 : decode cX8_measures 55 = .ok (.iinc 2 1, 3) := dk_132 2 1 (dk_at dksX8_measures_2 9 rfl rfl)
theorem dX8_measures_58 : decode cX8_measures 58 = .ok (.goto (-54), 3) := dk_167 255 202 (dk_at dksX8_measures_2 12 rfl rfl)
theorem dX8_measures_61 : decode cX8_measures 61 = .ok (.iconst 1, 1) := dk_4 (dk_at dksX8_measures_2 15 rfl rfl)
theorem dX8_measures_62 : decode cX8_measures 62 = .ok (.istore_n 2, 1) := dk_61 (dk_at dksX8_measures_2 16 rfl rfl)
theorem dX8_measures_63 : decode cX8_measures 63 = .ok (.iload_n 1, 1) := dk_27 (dk_at dksX8_measures_2 17 rfl rfl)
theorem dX8_measures_64 : decode cX8_measures 64 = .ok (.ifCond .eq 117, 3) := dk_153 0 117 (dk_at dksX8_measures_2 18 rfl rfl)
theorem dX8_measures_67 : decode cX8_measures 67 = .ok (.iconst 0, 1) := dk_3 (dk_at dksX8_measures_2 21 rfl rfl)
theorem dX8_measures_68 : decode cX8_measures 68 = .ok (.istore_n 1, 1) := dk_60 (dk_at dksX8_measures_2 22 rfl rfl)
theorem dX8_measures_69 : decode cX8_measures 69 = .ok (.iconst 0, 1) := dk_3 (dk_at dksX8_measures_2 23 rfl rfl)
theorem dX8_measures_70 : decode cX8_measures 70 = .ok (.istore_n 3, 1) := dk_62 (dk_at dksX8_measures_3 0 rfl rfl)
theorem dX8_measures_71 : decode cX8_measures 71 = .ok (.iload_n 3, 1) := dk_29 (dk_at dksX8_measures_3 1 rfl rfl)
theorem dX8_measures_72 : decode cX8_measures 72 = .ok (.aload_n 0, 1) := dk_42 (dk_at dksX8_measures_3 2 rfl rfl)
theorem dX8_measures_73 : decode cX8_measures 73 = .ok (.getfield 420, 3) := dk_180 1 164 (dk_at dksX8_measures_3 3 rfl rfl)
theorem dX8_measures_76 : decode cX8_measures 76 = .ok (.if_icmp .ge 99, 3) := dk_162 0 99 (dk_at dksX8_measures_3 6 rfl rfl)
theorem dX8_measures_79 : decode cX8_measures 79 = .ok (.aload_n 0, 1) := dk_42 (dk_at dksX8_measures_3 9 rfl rfl)
theorem dX8_measures_80 : decode cX8_measures 80 = .ok (.getfield 108, 3) := dk_180 0 108 (dk_at dksX8_measures_3 10 rfl rfl)
theorem dX8_measures_83 : decode cX8_measures 83 = .ok (.iload_n 3, 1) := dk_29 (dk_at dksX8_measures_3 13 rfl rfl)
theorem dX8_measures_84 : decode cX8_measures 84 = .ok (.iaload, 1) := dk_46 (dk_at dksX8_measures_3 14 rfl rfl)
theorem dX8_measures_85 : decode cX8_measures 85 = .ok (.iconst (-1), 1) := dk_2 (dk_at dksX8_measures_3 15 rfl rfl)
theorem dX8_measures_86 : decode cX8_measures 86 = .ok (.if_icmp .eq 6, 3) := dk_159 0 6 (dk_at dksX8_measures_3 16 rfl rfl)
theorem dX8_measures_89 : decode cX8_measures 89 = .ok (.goto 80, 3) := dk_167 0 80 (dk_at dksX8_measures_3 19 rfl rfl)
theorem dX8_measures_92 : decode cX8_measures 92 = .ok (.iconst 0, 1) := dk_3 (dk_at dksX8_measures_3 22 rfl rfl)
theorem dX8_measures_93 : decode cX8_measures 93 = .ok (.istore 4, 2) := dk_54 4 (dk_at dksX8_measures_4 0 rfl rfl)
theorem dX8_measures_95 : decode cX8_measures 95 = .ok (.aload_n 0, 1) := dk_42 (dk_at dksX8_measures_4 2 rfl rfl)
theorem dX8_measures_96 : decode cX8_measures 96 = .ok (.getfield 102, 3) := dk_180 0 102 (dk_at dksX8_measures_4 3 rfl rfl)
theorem dX8_measures_99 : decode cX8_measures 99 = .ok (.iload_n 3, 1) := dk_29 (dk_at dksX8_measures_4 6 rfl rfl)
theorem dX8_measures_100 : decode cX8_measures 100 = .ok (.iaload, 1) := dk_46 (dk_at dksX8_measures_4 7 rfl rfl)
theorem dX8_measures_101 : decode cX8_measures 101 = .ok (.istore 5, 2) := dk_54 5 (dk_at dksX8_measures_4 8 rfl rfl)
theorem dX8_measures_103 : decode cX8_measures 103 = .ok (.iload 5, 2) := dk_21 5 (dk_at dksX8_measures_4 10 rfl rfl)
theorem dX8_measures_105 : decode cX8_measures 105 = .ok (.aload_n 0, 1) := dk_42 (dk_at dksX8_measures_4 12 rfl rfl)
theorem dX8_measures_106 : decode cX8_measures 106 = .ok (.getfield 102, 3) := dk_180 0 102 (dk_at dksX8_measures_4 13 rfl rfl)
theorem dX8_measures_109 : decode cX8_measures 109 = .ok (.iload_n 3, 1) := dk_29 (dk_at dksX8_measures_4 16 rfl rfl)
theorem dX8_measures_110 : decode cX8_measures 110 = .ok (.iconst 1, 1) := dk_4 (dk_at dksX8_measures_4 17 rfl rfl)
theorem dX8_measures_111 : decode cX8_measures 111 = .ok (.iadd, 1) := dk_96 (dk_at dksX8_measures_4 18 rfl rfl)
theorem dX8_measures_112 : decode cX8_measures 112 = .ok (.iaload, 1) := dk_46 (dk_at dksX8_measures_4 19 rfl rfl)
theorem dX8_measures_113 : decode cX8_measures 113 = .ok (.if_icmp .ge 39, 3) := dk_162 0 39 (dk_at dksX8_measures_4 20 rfl rfl)
theorem dX8_measures_116 : decode cX8_measures 116 = .ok (.iload 4, 2) := dk_21 4 (dk_at dksX8_measures_5 0 rfl rfl)
theorem dX8_measures_118 : decode cX8_measures 118 = .ok (.ifCond .ne 34, 3) := dk_154 0 34 (dk_at dksX8_measures_5 2 rfl rfl)
theorem dX8_measures_121 : decode cX8_measures 121 = .ok (.aload_n 0, 1) := dk_42 (dk_at dksX8_measures_5 5 rfl rfl)
theorem dX8_measures_122 : decode cX8_measures 122 = .ok (.getfield 108, 3) := dk_180 0 108 (dk_at dksX8_measures_5 6 rfl rfl)
theorem dX8_measures_125 : decode cX8_measures 125 = .ok (.aload_n 0, 1) := dk_42 (dk_at dksX8_measures_5 9 rfl rfl)
theorem dX8_measures_126 : decode cX8_measures 126 = .ok (.getfield 124, 3) := dk_180 0 124 (dk_at dksX8_measures_5 10 rfl rfl)
theorem dX8_measures_129 : decode cX8_measures 129 = .ok (.iload 5, 2) := dk_21 5 (dk_at dksX8_measures_5 13 rfl rfl)
theorem dX8_measures_131 : decode cX8_measures 131 = .ok (.iaload, 1) := dk_46 (dk_at dksX8_measures_5 15 rfl rfl)
theorem dX8_measures_132 : decode cX8_measures 132 = .ok (.iaload, 1) := dk_46 (dk_at dksX8_measures_5 16 rfl rfl)
theorem dX8_measures_133 : decode cX8_measures 133 = .ok (.iload_n 2, 1) := dk_28 (dk_at dksX8_measures_5 17 rfl rfl)
theorem dX8_measures_134 : decode cX8_measures 134 = .ok (.iconst 1, 1) := dk_4 (dk_at dksX8_measures_5 18 rfl rfl)
theorem dX8_measures_135 : decode cX8_measures 135 = .ok (.isub, 1) := dk_100 (dk_at dksX8_measures_5 19 rfl rfl)
theorem dX8_measures_136 : decode cX8_measures 136 = .ok (.if_icmp .ne 7, 3) := dk_160 0 7 (dk_at dksX8_measures_5 20 rfl rfl)
theorem dX8_measures_139 : decode cX8_measures 139 = .ok (.iconst 1, 1) := dk_4 (dk_at dksX8_measures_5 23 rfl rfl)
theorem dX8_measures_140 : decode cX8_measures 140 = .ok (.goto 4, 3) := dk_167 0 4 (dk_at dksX8_measures_6 0 rfl rfl)
theorem dX8_measures_143 : decode cX8_measures 143 = .ok (.iconst 0, 1) := dk_3 (dk_at dksX8_measures_6 3 rfl rfl)
theorem dX8_measures_144 : decode cX8_measures 144 = .ok (.istore 4, 2) := dk_54 4 (dk_at dksX8_measures_6 4 rfl rfl)
theorem dX8_measures_146 : decode cX8_measures 146 = .ok (.iinc 5 1, 3) := dk_132 5 1 (dk_at dksX8_measures_6 6 rfl rfl)
theorem dX8_measures_149 : decode cX8_measures 149 = .ok (.goto (-46), 3) := dk_167 255 210 (dk_at dksX8_measures_6 9 rfl rfl)
theorem dX8_measures_152 : decode cX8_measures 152 = .ok (.iload 4, 2) := dk_21 4 (dk_at dksX8_measures_6 12 rfl rfl)
theorem dX8_measures_154 : decode cX8_measures 154 = .ok (.ifCond .ne 6, 3) := dk_154 0 6 (dk_at dksX8_measures_6 14 rfl rfl)
theorem dX8_measures_157 : decode cX8_measures 157 = .ok (.goto 12, 3) := dk_167 0 12 (dk_at dksX8_measures_6 17 rfl rfl)
theorem dX8_measures_160 : decode cX8_measures 160 = .ok (.aload_n 0, 1) := dk_42 (dk_at dksX8_measures_6 20 rfl rfl)
theorem dX8_measures_161 : decode cX8_measures 161 = .ok (.getfield 108, 3) := dk_180 0 108 (dk_at dksX8_measures_6 21 rfl rfl)
theorem dX8_measures_164 : decode cX8_measures 164 = .ok (.iload_n 3, 1) := dk_29 (dk_at dksX8_measures_7 0 rfl rfl)
theorem dX8_measures_165 : decode cX8_measures 165 = .ok (.iload_n 2, 1) := dk_28 (dk_at dksX8_measures_7 1 rfl rfl)
theorem dX8_measures_166 : decode cX8_measures 166 = .ok (.iastore, 1) := dk_79 (dk_at dksX8_measures_7 2 rfl rfl)
theorem dX8_measures_167 : decode cX8_measures 167 = .ok (.iconst 1, 1) := dk_4 (dk_at dksX8_measures_7 3 rfl rfl)
theorem dX8_measures_168 : decode cX8_measures 168 = .ok (.istore_n 1, 1) := dk_60 (dk_at dksX8_measures_7 4 rfl rfl)
theorem dX8_measures_169 : decode cX8_measures 169 = .ok (.iinc 3 1, 3) := dk_132 3 1 (dk_at dksX8_measures_7 5 rfl rfl)
theorem dX8_measures_172 : decode cX8_measures 172 = .ok (.goto (-101), 3) := dk_167 255 155 (dk_at dksX8_measures_7 8 rfl rfl)
theorem dX8_measures_175 : decode cX8_measures 175 = .ok (.iinc 2 1, 3) := dk_132 2 1 (dk_at dksX8_measures_7 11 rfl rfl)
theorem dX8_measures_178 : decode cX8_measures 178 = .ok (.goto (-115), 3) := dk_167 255 141 (dk_at dksX8_measures_7 14 rfl rfl)
theorem dX8_measures_181 : decode cX8_measures 181 = .ok (.return_, 1) := dk_177 (dk_at dksX8_measures_7 17 rfl rfl)
abbrev cX8_isGoal : ByteArray := prog_19_method_59_code
def yX8_isGoal : MethodName := ⟨RX8, "isGoal", "(I)Z"⟩
def dkwX8_isGoal_0 : List UInt8 := [42, 27, 42, 180, 0, 7, 4, 100, 182, 1, 135, 42, 182, 1, 119, 160, 0, 7, 4, 167, 0, 4, 3, 172]
abbrev dktX8_isGoal_0 : List UInt8 := dkwX8_isGoal_0 ++ []
theorem dksX8_isGoal_0 : cX8_isGoal.data.toList.drop 0 = dktX8_isGoal_0 := by decide +kernel
theorem dX8_isGoal_0 : decode cX8_isGoal 0 = .ok (.aload_n 0, 1) := dk_42 (dk_at dksX8_isGoal_0 0 rfl rfl)
theorem dX8_isGoal_1 : decode cX8_isGoal 1 = .ok (.iload_n 1, 1) := dk_27 (dk_at dksX8_isGoal_0 1 rfl rfl)
theorem dX8_isGoal_2 : decode cX8_isGoal 2 = .ok (.aload_n 0, 1) := dk_42 (dk_at dksX8_isGoal_0 2 rfl rfl)
theorem dX8_isGoal_3 : decode cX8_isGoal 3 = .ok (.getfield 7, 3) := dk_180 0 7 (dk_at dksX8_isGoal_0 3 rfl rfl)
theorem dX8_isGoal_6 : decode cX8_isGoal 6 = .ok (.iconst 1, 1) := dk_4 (dk_at dksX8_isGoal_0 6 rfl rfl)
theorem dX8_isGoal_7 : decode cX8_isGoal 7 = .ok (.isub, 1) := dk_100 (dk_at dksX8_isGoal_0 7 rfl rfl)
theorem dX8_isGoal_8 : decode cX8_isGoal 8 = .ok (.invokevirtual 391, 3) := dk_182 1 135 (dk_at dksX8_isGoal_0 8 rfl rfl)
theorem dX8_isGoal_11 : decode cX8_isGoal 11 = .ok (.aload_n 0, 1) := dk_42 (dk_at dksX8_isGoal_0 11 rfl rfl)
theorem dX8_isGoal_12 : decode cX8_isGoal 12 = .ok (.invokevirtual 375, 3) := dk_182 1 119 (dk_at dksX8_isGoal_0 12 rfl rfl)
theorem dX8_isGoal_15 : decode cX8_isGoal 15 = .ok (.if_icmp .ne 7, 3) := dk_160 0 7 (dk_at dksX8_isGoal_0 15 rfl rfl)
theorem dX8_isGoal_18 : decode cX8_isGoal 18 = .ok (.iconst 1, 1) := dk_4 (dk_at dksX8_isGoal_0 18 rfl rfl)
theorem dX8_isGoal_19 : decode cX8_isGoal 19 = .ok (.goto 4, 3) := dk_167 0 4 (dk_at dksX8_isGoal_0 19 rfl rfl)
theorem dX8_isGoal_22 : decode cX8_isGoal 22 = .ok (.iconst 0, 1) := dk_3 (dk_at dksX8_isGoal_0 22 rfl rfl)
theorem dX8_isGoal_23 : decode cX8_isGoal 23 = .ok (.ireturn, 1) := dk_172 (dk_at dksX8_isGoal_0 23 rfl rfl)
abbrev cX8_fewest : ByteArray := prog_19_method_76_code
def yX8_fewest : MethodName := ⟨RX8, "fewest", "()I"⟩
def dkwX8_fewest_4 : List UInt8 := [180, 0, 124, 28, 46, 60, 167, 255, 200, 42, 180, 1, 199, 172]
abbrev dktX8_fewest_4 : List UInt8 := dkwX8_fewest_4 ++ []
def dkwX8_fewest_3 : List UInt8 := [180, 0, 108, 27, 46, 4, 100, 159, 0, 9, 132, 2, 1, 167, 255, 231, 42, 28, 182, 1, 211, 42]
abbrev dktX8_fewest_3 : List UInt8 := dkwX8_fewest_3 ++ dktX8_fewest_4
def dkwX8_fewest_2 : List UInt8 := [158, 0, 53, 42, 180, 0, 102, 27, 46, 61, 42, 180, 0, 108, 42, 180, 0, 124, 28, 46, 46, 42]
abbrev dktX8_fewest_2 : List UInt8 := dkwX8_fewest_2 ++ dktX8_fewest_3
def dkwX8_fewest_1 : List UInt8 := [160, 0, 5, 2, 172, 42, 42, 180, 0, 99, 3, 46, 182, 1, 208, 3, 60, 42, 180, 0, 108, 27, 46]
abbrev dktX8_fewest_1 : List UInt8 := dkwX8_fewest_1 ++ dktX8_fewest_2
def dkwX8_fewest_0 : List UInt8 := [42, 3, 181, 0, 173, 42, 182, 1, 196, 154, 0, 6, 16, 254, 172, 42, 180, 0, 108, 3, 46, 2]
abbrev dktX8_fewest_0 : List UInt8 := dkwX8_fewest_0 ++ dktX8_fewest_1
theorem dksX8_fewest_0 : cX8_fewest.data.toList.drop 0 = dktX8_fewest_0 := by decide +kernel
theorem dksX8_fewest_1 : cX8_fewest.data.toList.drop 22 = dktX8_fewest_1 := dk_seg dksX8_fewest_0 22 rfl rfl
theorem dksX8_fewest_2 : cX8_fewest.data.toList.drop 45 = dktX8_fewest_2 := dk_seg dksX8_fewest_1 23 rfl rfl
theorem dksX8_fewest_3 : cX8_fewest.data.toList.drop 67 = dktX8_fewest_3 := dk_seg dksX8_fewest_2 22 rfl rfl
theorem dksX8_fewest_4 : cX8_fewest.data.toList.drop 89 = dktX8_fewest_4 := dk_seg dksX8_fewest_3 22 rfl rfl
theorem dX8_fewest_0 : decode cX8_fewest 0 = .ok (.aload_n 0, 1) := dk_42 (dk_at dksX8_fewest_0 0 rfl rfl)
theorem dX8_fewest_1 : decode cX8_fewest 1 = .ok (.iconst 0, 1) := dk_3 (dk_at dksX8_fewest_0 1 rfl rfl)
theorem dX8_fewest_2 : decode cX8_fewest 2 = .ok (.putfield 173, 3) := dk_181 0 173 (dk_at dksX8_fewest_0 2 rfl rfl)
theorem dX8_fewest_5 : decode cX8_fewest 5 = .ok (.aload_n 0, 1) := dk_42 (dk_at dksX8_fewest_0 5 rfl rfl)
theorem dX8_fewest_6 : decode cX8_fewest 6 = .ok (.invokevirtual 452, 3) := dk_182 1 196 (dk_at dksX8_fewest_0 6 rfl rfl)
theorem dX8_fewest_9 : decode cX8_fewest 9 = .ok (.ifCond .ne 6, 3) := dk_154 0 6 (dk_at dksX8_fewest_0 9 rfl rfl)
theorem dX8_fewest_12 : decode cX8_fewest 12 = .ok (.bipush (-2), 2) := dk_16 254 (dk_at dksX8_fewest_0 12 rfl rfl)
theorem dX8_fewest_14 : decode cX8_fewest 14 = .ok (.ireturn, 1) := dk_172 (dk_at dksX8_fewest_0 14 rfl rfl)
theorem dX8_fewest_15 : decode cX8_fewest 15 = .ok (.aload_n 0, 1) := dk_42 (dk_at dksX8_fewest_0 15 rfl rfl)
theorem dX8_fewest_16 : decode cX8_fewest 16 = .ok (.getfield 108, 3) := dk_180 0 108 (dk_at dksX8_fewest_0 16 rfl rfl)
theorem dX8_fewest_19 : decode cX8_fewest 19 = .ok (.iconst 0, 1) := dk_3 (dk_at dksX8_fewest_0 19 rfl rfl)
theorem dX8_fewest_20 : decode cX8_fewest 20 = .ok (.iaload, 1) := dk_46 (dk_at dksX8_fewest_0 20 rfl rfl)
theorem dX8_fewest_21 : decode cX8_fewest 21 = .ok (.iconst (-1), 1) := dk_2 (dk_at dksX8_fewest_0 21 rfl rfl)
theorem dX8_fewest_22 : decode cX8_fewest 22 = .ok (.if_icmp .ne 5, 3) := dk_160 0 5 (dk_at dksX8_fewest_1 0 rfl rfl)
theorem dX8_fewest_25 : decode cX8_fewest 25 = .ok (.iconst (-1), 1) := dk_2 (dk_at dksX8_fewest_1 3 rfl rfl)
theorem dX8_fewest_26 : decode cX8_fewest 26 = .ok (.ireturn, 1) := dk_172 (dk_at dksX8_fewest_1 4 rfl rfl)
theorem dX8_fewest_27 : decode cX8_fewest 27 = .ok (.aload_n 0, 1) := dk_42 (dk_at dksX8_fewest_1 5 rfl rfl)
theorem dX8_fewest_28 : decode cX8_fewest 28 = .ok (.aload_n 0, 1) := dk_42 (dk_at dksX8_fewest_1 6 rfl rfl)
theorem dX8_fewest_29 : decode cX8_fewest 29 = .ok (.getfield 99, 3) := dk_180 0 99 (dk_at dksX8_fewest_1 7 rfl rfl)
theorem dX8_fewest_32 : decode cX8_fewest 32 = .ok (.iconst 0, 1) := dk_3 (dk_at dksX8_fewest_1 10 rfl rfl)
theorem dX8_fewest_33 : decode cX8_fewest 33 = .ok (.iaload, 1) := dk_46 (dk_at dksX8_fewest_1 11 rfl rfl)
theorem dX8_fewest_34 : decode cX8_fewest 34 = .ok (.invokevirtual 464, 3) := dk_182 1 208 (dk_at dksX8_fewest_1 12 rfl rfl)
theorem dX8_fewest_37 : decode cX8_fewest 37 = .ok (.iconst 0, 1) := dk_3 (dk_at dksX8_fewest_1 15 rfl rfl)
theorem dX8_fewest_38 : decode cX8_fewest 38 = .ok (.istore_n 1, 1) := dk_60 (dk_at dksX8_fewest_1 16 rfl rfl)
theorem dX8_fewest_39 : decode cX8_fewest 39 = .ok (.aload_n 0, 1) := dk_42 (dk_at dksX8_fewest_1 17 rfl rfl)
theorem dX8_fewest_40 : decode cX8_fewest 40 = .ok (.getfield 108, 3) := dk_180 0 108 (dk_at dksX8_fewest_1 18 rfl rfl)
theorem dX8_fewest_43 : decode cX8_fewest 43 = .ok (.iload_n 1, 1) := dk_27 (dk_at dksX8_fewest_1 21 rfl rfl)
theorem dX8_fewest_44 : decode cX8_fewest 44 = .ok (.iaload, 1) := dk_46 (dk_at dksX8_fewest_1 22 rfl rfl)
theorem dX8_fewest_45 : decode cX8_fewest 45 = .ok (.ifCond .le 53, 3) := dk_158 0 53 (dk_at dksX8_fewest_2 0 rfl rfl)
theorem dX8_fewest_48 : decode cX8_fewest 48 = .ok (.aload_n 0, 1) := dk_42 (dk_at dksX8_fewest_2 3 rfl rfl)
theorem dX8_fewest_49 : decode cX8_fewest 49 = .ok (.getfield 102, 3) := dk_180 0 102 (dk_at dksX8_fewest_2 4 rfl rfl)
theorem dX8_fewest_52 : decode cX8_fewest 52 = .ok (.iload_n 1, 1) := dk_27 (dk_at dksX8_fewest_2 7 rfl rfl)
theorem dX8_fewest_53 : decode cX8_fewest 53 = .ok (.iaload, 1) := dk_46 (dk_at dksX8_fewest_2 8 rfl rfl)
theorem dX8_fewest_54 : decode cX8_fewest 54 = .ok (.istore_n 2, 1) := dk_61 (dk_at dksX8_fewest_2 9 rfl rfl)
theorem dX8_fewest_55 : decode cX8_fewest 55 = .ok (.aload_n 0, 1) := dk_42 (dk_at dksX8_fewest_2 10 rfl rfl)
theorem dX8_fewest_56 : decode cX8_fewest 56 = .ok (.getfield 108, 3) := dk_180 0 108 (dk_at dksX8_fewest_2 11 rfl rfl)
theorem dX8_fewest_59 : decode cX8_fewest 59 = .ok (.aload_n 0, 1) := dk_42 (dk_at dksX8_fewest_2 14 rfl rfl)
theorem dX8_fewest_60 : decode cX8_fewest 60 = .ok (.getfield 124, 3) := dk_180 0 124 (dk_at dksX8_fewest_2 15 rfl rfl)
theorem dX8_fewest_63 : decode cX8_fewest 63 = .ok (.iload_n 2, 1) := dk_28 (dk_at dksX8_fewest_2 18 rfl rfl)
theorem dX8_fewest_64 : decode cX8_fewest 64 = .ok (.iaload, 1) := dk_46 (dk_at dksX8_fewest_2 19 rfl rfl)
theorem dX8_fewest_65 : decode cX8_fewest 65 = .ok (.iaload, 1) := dk_46 (dk_at dksX8_fewest_2 20 rfl rfl)
theorem dX8_fewest_66 : decode cX8_fewest 66 = .ok (.aload_n 0, 1) := dk_42 (dk_at dksX8_fewest_2 21 rfl rfl)
theorem dX8_fewest_67 : decode cX8_fewest 67 = .ok (.getfield 108, 3) := dk_180 0 108 (dk_at dksX8_fewest_3 0 rfl rfl)
theorem dX8_fewest_70 : decode cX8_fewest 70 = .ok (.iload_n 1, 1) := dk_27 (dk_at dksX8_fewest_3 3 rfl rfl)
theorem dX8_fewest_71 : decode cX8_fewest 71 = .ok (.iaload, 1) := dk_46 (dk_at dksX8_fewest_3 4 rfl rfl)
theorem dX8_fewest_72 : decode cX8_fewest 72 = .ok (.iconst 1, 1) := dk_4 (dk_at dksX8_fewest_3 5 rfl rfl)
theorem dX8_fewest_73 : decode cX8_fewest 73 = .ok (.isub, 1) := dk_100 (dk_at dksX8_fewest_3 6 rfl rfl)
theorem dX8_fewest_74 : decode cX8_fewest 74 = .ok (.if_icmp .eq 9, 3) := dk_159 0 9 (dk_at dksX8_fewest_3 7 rfl rfl)
theorem dX8_fewest_77 : decode cX8_fewest 77 = .ok (.iinc 2 1, 3) := dk_132 2 1 (dk_at dksX8_fewest_3 10 rfl rfl)
theorem dX8_fewest_80 : decode cX8_fewest 80 = .ok (.goto (-25), 3) := dk_167 255 231 (dk_at dksX8_fewest_3 13 rfl rfl)
theorem dX8_fewest_83 : decode cX8_fewest 83 = .ok (.aload_n 0, 1) := dk_42 (dk_at dksX8_fewest_3 16 rfl rfl)
theorem dX8_fewest_84 : decode cX8_fewest 84 = .ok (.iload_n 2, 1) := dk_28 (dk_at dksX8_fewest_3 17 rfl rfl)
theorem dX8_fewest_85 : decode cX8_fewest 85 = .ok (.invokevirtual 467, 3) := dk_182 1 211 (dk_at dksX8_fewest_3 18 rfl rfl)
theorem dX8_fewest_88 : decode cX8_fewest 88 = .ok (.aload_n 0, 1) := dk_42 (dk_at dksX8_fewest_3 21 rfl rfl)
theorem dX8_fewest_89 : decode cX8_fewest 89 = .ok (.getfield 124, 3) := dk_180 0 124 (dk_at dksX8_fewest_4 0 rfl rfl)
theorem dX8_fewest_92 : decode cX8_fewest 92 = .ok (.iload_n 2, 1) := dk_28 (dk_at dksX8_fewest_4 3 rfl rfl)
theorem dX8_fewest_93 : decode cX8_fewest 93 = .ok (.iaload, 1) := dk_46 (dk_at dksX8_fewest_4 4 rfl rfl)
theorem dX8_fewest_94 : decode cX8_fewest 94 = .ok (.istore_n 1, 1) := dk_60 (dk_at dksX8_fewest_4 5 rfl rfl)
theorem dX8_fewest_95 : decode cX8_fewest 95 = .ok (.goto (-56), 3) := dk_167 255 200 (dk_at dksX8_fewest_4 6 rfl rfl)
theorem dX8_fewest_98 : decode cX8_fewest 98 = .ok (.aload_n 0, 1) := dk_42 (dk_at dksX8_fewest_4 9 rfl rfl)
theorem dX8_fewest_99 : decode cX8_fewest 99 = .ok (.getfield 455, 3) := dk_180 1 199 (dk_at dksX8_fewest_4 10 rfl rfl)
theorem dX8_fewest_102 : decode cX8_fewest 102 = .ok (.ireturn, 1) := dk_172 (dk_at dksX8_fewest_4 13 rfl rfl)
abbrev cX8_startsWay : ByteArray := prog_19_method_74_code
def yX8_startsWay : MethodName := ⟨RX8, "startsWay", "(I)V"⟩
def dkwX8_startsWay_0 : List UInt8 := [42, 3, 181, 1, 199, 42, 42, 180, 1, 82, 181, 1, 202, 42, 180, 0, 149, 3, 27, 79, 177]
abbrev dktX8_startsWay_0 : List UInt8 := dkwX8_startsWay_0 ++ []
theorem dksX8_startsWay_0 : cX8_startsWay.data.toList.drop 0 = dktX8_startsWay_0 := by decide +kernel
theorem dX8_startsWay_0 : decode cX8_startsWay 0 = .ok (.aload_n 0, 1) := dk_42 (dk_at dksX8_startsWay_0 0 rfl rfl)
theorem dX8_startsWay_1 : decode cX8_startsWay 1 = .ok (.iconst 0, 1) := dk_3 (dk_at dksX8_startsWay_0 1 rfl rfl)
theorem dX8_startsWay_2 : decode cX8_startsWay 2 = .ok (.putfield 455, 3) := dk_181 1 199 (dk_at dksX8_startsWay_0 2 rfl rfl)
theorem dX8_startsWay_5 : decode cX8_startsWay 5 = .ok (.aload_n 0, 1) := dk_42 (dk_at dksX8_startsWay_0 5 rfl rfl)
theorem dX8_startsWay_6 : decode cX8_startsWay 6 = .ok (.aload_n 0, 1) := dk_42 (dk_at dksX8_startsWay_0 6 rfl rfl)
theorem dX8_startsWay_7 : decode cX8_startsWay 7 = .ok (.getfield 338, 3) := dk_180 1 82 (dk_at dksX8_startsWay_0 7 rfl rfl)
theorem dX8_startsWay_10 : decode cX8_startsWay 10 = .ok (.putfield 458, 3) := dk_181 1 202 (dk_at dksX8_startsWay_0 10 rfl rfl)
theorem dX8_startsWay_13 : decode cX8_startsWay 13 = .ok (.aload_n 0, 1) := dk_42 (dk_at dksX8_startsWay_0 13 rfl rfl)
theorem dX8_startsWay_14 : decode cX8_startsWay 14 = .ok (.getfield 149, 3) := dk_180 0 149 (dk_at dksX8_startsWay_0 14 rfl rfl)
theorem dX8_startsWay_17 : decode cX8_startsWay 17 = .ok (.iconst 0, 1) := dk_3 (dk_at dksX8_startsWay_0 17 rfl rfl)
theorem dX8_startsWay_18 : decode cX8_startsWay 18 = .ok (.iload_n 1, 1) := dk_27 (dk_at dksX8_startsWay_0 18 rfl rfl)
theorem dX8_startsWay_19 : decode cX8_startsWay 19 = .ok (.iastore, 1) := dk_79 (dk_at dksX8_startsWay_0 19 rfl rfl)
theorem dX8_startsWay_20 : decode cX8_startsWay 20 = .ok (.return_, 1) := dk_177 (dk_at dksX8_startsWay_0 20 rfl rfl)
abbrev cX8_keepsEdge : ByteArray := prog_19_method_75_code
def yX8_keepsEdge : MethodName := ⟨RX8, "keepsEdge", "(I)V"⟩
def dkwX8_keepsEdge_4 : List UInt8 := [177]
abbrev dktX8_keepsEdge_4 : List UInt8 := dkwX8_keepsEdge_4 ++ []
def dkwX8_keepsEdge_3 : List UInt8 := [96, 181, 1, 199, 42, 180, 0, 149, 42, 180, 1, 199, 42, 180, 0, 99, 42, 180, 0, 124, 27, 46, 46, 79]
abbrev dktX8_keepsEdge_3 : List UInt8 := dkwX8_keepsEdge_3 ++ dktX8_keepsEdge_4
def dkwX8_keepsEdge_2 : List UInt8 := [180, 0, 146, 42, 180, 1, 199, 42, 42, 180, 0, 121, 27, 46, 182, 1, 205, 79, 42, 89, 180, 1, 199, 4]
abbrev dktX8_keepsEdge_2 : List UInt8 := dkwX8_keepsEdge_2 ++ dktX8_keepsEdge_3
def dkwX8_keepsEdge_1 : List UInt8 := [180, 0, 118, 27, 46, 79, 42, 180, 0, 143, 42, 180, 1, 199, 42, 180, 0, 121, 27, 46, 79, 42]
abbrev dktX8_keepsEdge_1 : List UInt8 := dkwX8_keepsEdge_1 ++ dktX8_keepsEdge_2
def dkwX8_keepsEdge_0 : List UInt8 := [42, 180, 0, 137, 42, 180, 1, 199, 42, 180, 0, 115, 27, 46, 79, 42, 180, 0, 140, 42, 180, 1, 199, 42]
abbrev dktX8_keepsEdge_0 : List UInt8 := dkwX8_keepsEdge_0 ++ dktX8_keepsEdge_1
theorem dksX8_keepsEdge_0 : cX8_keepsEdge.data.toList.drop 0 = dktX8_keepsEdge_0 := by decide +kernel
theorem dksX8_keepsEdge_1 : cX8_keepsEdge.data.toList.drop 24 = dktX8_keepsEdge_1 := dk_seg dksX8_keepsEdge_0 24 rfl rfl
theorem dksX8_keepsEdge_2 : cX8_keepsEdge.data.toList.drop 46 = dktX8_keepsEdge_2 := dk_seg dksX8_keepsEdge_1 22 rfl rfl
theorem dksX8_keepsEdge_3 : cX8_keepsEdge.data.toList.drop 70 = dktX8_keepsEdge_3 := dk_seg dksX8_keepsEdge_2 24 rfl rfl
theorem dksX8_keepsEdge_4 : cX8_keepsEdge.data.toList.drop 94 = dktX8_keepsEdge_4 := dk_seg dksX8_keepsEdge_3 24 rfl rfl
theorem dX8_keepsEdge_0 : decode cX8_keepsEdge 0 = .ok (.aload_n 0, 1) := dk_42 (dk_at dksX8_keepsEdge_0 0 rfl rfl)
theorem dX8_keepsEdge_1 : decode cX8_keepsEdge 1 = .ok (.getfield 137, 3) := dk_180 0 137 (dk_at dksX8_keepsEdge_0 1 rfl rfl)
theorem dX8_keepsEdge_4 : decode cX8_keepsEdge 4 = .ok (.aload_n 0, 1) := dk_42 (dk_at dksX8_keepsEdge_0 4 rfl rfl)
theorem dX8_keepsEdge_5 : decode cX8_keepsEdge 5 = .ok (.getfield 455, 3) := dk_180 1 199 (dk_at dksX8_keepsEdge_0 5 rfl rfl)
theorem dX8_keepsEdge_8 : decode cX8_keepsEdge 8 = .ok (.aload_n 0, 1) := dk_42 (dk_at dksX8_keepsEdge_0 8 rfl rfl)
theorem dX8_keepsEdge_9 : decode cX8_keepsEdge 9 = .ok (.getfield 115, 3) := dk_180 0 115 (dk_at dksX8_keepsEdge_0 9 rfl rfl)
theorem dX8_keepsEdge_12 : decode cX8_keepsEdge 12 = .ok (.iload_n 1, 1) := dk_27 (dk_at dksX8_keepsEdge_0 12 rfl rfl)
theorem dX8_keepsEdge_13 : decode cX8_keepsEdge 13 = .ok (.iaload, 1) := dk_46 (dk_at dksX8_keepsEdge_0 13 rfl rfl)
theorem dX8_keepsEdge_14 : decode cX8_keepsEdge 14 = .ok (.iastore, 1) := dk_79 (dk_at dksX8_keepsEdge_0 14 rfl rfl)
theorem dX8_keepsEdge_15 : decode cX8_keepsEdge 15 = .ok (.aload_n 0, 1) := dk_42 (dk_at dksX8_keepsEdge_0 15 rfl rfl)
theorem dX8_keepsEdge_16 : decode cX8_keepsEdge 16 = .ok (.getfield 140, 3) := dk_180 0 140 (dk_at dksX8_keepsEdge_0 16 rfl rfl)
theorem dX8_keepsEdge_19 : decode cX8_keepsEdge 19 = .ok (.aload_n 0, 1) := dk_42 (dk_at dksX8_keepsEdge_0 19 rfl rfl)
theorem dX8_keepsEdge_20 : decode cX8_keepsEdge 20 = .ok (.getfield 455, 3) := dk_180 1 199 (dk_at dksX8_keepsEdge_0 20 rfl rfl)
theorem dX8_keepsEdge_23 : decode cX8_keepsEdge 23 = .ok (.aload_n 0, 1) := dk_42 (dk_at dksX8_keepsEdge_0 23 rfl rfl)
theorem dX8_keepsEdge_24 : decode cX8_keepsEdge 24 = .ok (.getfield 118, 3) := dk_180 0 118 (dk_at dksX8_keepsEdge_1 0 rfl rfl)
theorem dX8_keepsEdge_27 : decode cX8_keepsEdge 27 = .ok (.iload_n 1, 1) := dk_27 (dk_at dksX8_keepsEdge_1 3 rfl rfl)
theorem dX8_keepsEdge_28 : decode cX8_keepsEdge 28 = .ok (.iaload, 1) := dk_46 (dk_at dksX8_keepsEdge_1 4 rfl rfl)
theorem dX8_keepsEdge_29 : decode cX8_keepsEdge 29 = .ok (.iastore, 1) := dk_79 (dk_at dksX8_keepsEdge_1 5 rfl rfl)
theorem dX8_keepsEdge_30 : decode cX8_keepsEdge 30 = .ok (.aload_n 0, 1) := dk_42 (dk_at dksX8_keepsEdge_1 6 rfl rfl)
theorem dX8_keepsEdge_31 : decode cX8_keepsEdge 31 = .ok (.getfield 143, 3) := dk_180 0 143 (dk_at dksX8_keepsEdge_1 7 rfl rfl)
theorem dX8_keepsEdge_34 : decode cX8_keepsEdge 34 = .ok (.aload_n 0, 1) := dk_42 (dk_at dksX8_keepsEdge_1 10 rfl rfl)
theorem dX8_keepsEdge_35 : decode cX8_keepsEdge 35 = .ok (.getfield 455, 3) := dk_180 1 199 (dk_at dksX8_keepsEdge_1 11 rfl rfl)
theorem dX8_keepsEdge_38 : decode cX8_keepsEdge 38 = .ok (.aload_n 0, 1) := dk_42 (dk_at dksX8_keepsEdge_1 14 rfl rfl)
theorem dX8_keepsEdge_39 : decode cX8_keepsEdge 39 = .ok (.getfield 121, 3) := dk_180 0 121 (dk_at dksX8_keepsEdge_1 15 rfl rfl)
theorem dX8_keepsEdge_42 : decode cX8_keepsEdge 42 = .ok (.iload_n 1, 1) := dk_27 (dk_at dksX8_keepsEdge_1 18 rfl rfl)
theorem dX8_keepsEdge_43 : decode cX8_keepsEdge 43 = .ok (.iaload, 1) := dk_46 (dk_at dksX8_keepsEdge_1 19 rfl rfl)
theorem dX8_keepsEdge_44 : decode cX8_keepsEdge 44 = .ok (.iastore, 1) := dk_79 (dk_at dksX8_keepsEdge_1 20 rfl rfl)
theorem dX8_keepsEdge_45 : decode cX8_keepsEdge 45 = .ok (.aload_n 0, 1) := dk_42 (dk_at dksX8_keepsEdge_1 21 rfl rfl)
theorem dX8_keepsEdge_46 : decode cX8_keepsEdge 46 = .ok (.getfield 146, 3) := dk_180 0 146 (dk_at dksX8_keepsEdge_2 0 rfl rfl)
theorem dX8_keepsEdge_49 : decode cX8_keepsEdge 49 = .ok (.aload_n 0, 1) := dk_42 (dk_at dksX8_keepsEdge_2 3 rfl rfl)
theorem dX8_keepsEdge_50 : decode cX8_keepsEdge 50 = .ok (.getfield 455, 3) := dk_180 1 199 (dk_at dksX8_keepsEdge_2 4 rfl rfl)
theorem dX8_keepsEdge_53 : decode cX8_keepsEdge 53 = .ok (.aload_n 0, 1) := dk_42 (dk_at dksX8_keepsEdge_2 7 rfl rfl)
theorem dX8_keepsEdge_54 : decode cX8_keepsEdge 54 = .ok (.aload_n 0, 1) := dk_42 (dk_at dksX8_keepsEdge_2 8 rfl rfl)
theorem dX8_keepsEdge_55 : decode cX8_keepsEdge 55 = .ok (.getfield 121, 3) := dk_180 0 121 (dk_at dksX8_keepsEdge_2 9 rfl rfl)
theorem dX8_keepsEdge_58 : decode cX8_keepsEdge 58 = .ok (.iload_n 1, 1) := dk_27 (dk_at dksX8_keepsEdge_2 12 rfl rfl)
theorem dX8_keepsEdge_59 : decode cX8_keepsEdge 59 = .ok (.iaload, 1) := dk_46 (dk_at dksX8_keepsEdge_2 13 rfl rfl)
theorem dX8_keepsEdge_60 : decode cX8_keepsEdge 60 = .ok (.invokevirtual 461, 3) := dk_182 1 205 (dk_at dksX8_keepsEdge_2 14 rfl rfl)
theorem dX8_keepsEdge_63 : decode cX8_keepsEdge 63 = .ok (.iastore, 1) := dk_79 (dk_at dksX8_keepsEdge_2 17 rfl rfl)
theorem dX8_keepsEdge_64 : decode cX8_keepsEdge 64 = .ok (.aload_n 0, 1) := dk_42 (dk_at dksX8_keepsEdge_2 18 rfl rfl)
theorem dX8_keepsEdge_65 : decode cX8_keepsEdge 65 = .ok (.dup, 1) := dk_89 (dk_at dksX8_keepsEdge_2 19 rfl rfl)
theorem dX8_keepsEdge_66 : decode cX8_keepsEdge 66 = .ok (.getfield 455, 3) := dk_180 1 199 (dk_at dksX8_keepsEdge_2 20 rfl rfl)
theorem dX8_keepsEdge_69 : decode cX8_keepsEdge 69 = .ok (.iconst 1, 1) := dk_4 (dk_at dksX8_keepsEdge_2 23 rfl rfl)
theorem dX8_keepsEdge_70 : decode cX8_keepsEdge 70 = .ok (.iadd, 1) := dk_96 (dk_at dksX8_keepsEdge_3 0 rfl rfl)
theorem dX8_keepsEdge_71 : decode cX8_keepsEdge 71 = .ok (.putfield 455, 3) := dk_181 1 199 (dk_at dksX8_keepsEdge_3 1 rfl rfl)
theorem dX8_keepsEdge_74 : decode cX8_keepsEdge 74 = .ok (.aload_n 0, 1) := dk_42 (dk_at dksX8_keepsEdge_3 4 rfl rfl)
theorem dX8_keepsEdge_75 : decode cX8_keepsEdge 75 = .ok (.getfield 149, 3) := dk_180 0 149 (dk_at dksX8_keepsEdge_3 5 rfl rfl)
theorem dX8_keepsEdge_78 : decode cX8_keepsEdge 78 = .ok (.aload_n 0, 1) := dk_42 (dk_at dksX8_keepsEdge_3 8 rfl rfl)
theorem dX8_keepsEdge_79 : decode cX8_keepsEdge 79 = .ok (.getfield 455, 3) := dk_180 1 199 (dk_at dksX8_keepsEdge_3 9 rfl rfl)
theorem dX8_keepsEdge_82 : decode cX8_keepsEdge 82 = .ok (.aload_n 0, 1) := dk_42 (dk_at dksX8_keepsEdge_3 12 rfl rfl)
theorem dX8_keepsEdge_83 : decode cX8_keepsEdge 83 = .ok (.getfield 99, 3) := dk_180 0 99 (dk_at dksX8_keepsEdge_3 13 rfl rfl)
theorem dX8_keepsEdge_86 : decode cX8_keepsEdge 86 = .ok (.aload_n 0, 1) := dk_42 (dk_at dksX8_keepsEdge_3 16 rfl rfl)
theorem dX8_keepsEdge_87 : decode cX8_keepsEdge 87 = .ok (.getfield 124, 3) := dk_180 0 124 (dk_at dksX8_keepsEdge_3 17 rfl rfl)
theorem dX8_keepsEdge_90 : decode cX8_keepsEdge 90 = .ok (.iload_n 1, 1) := dk_27 (dk_at dksX8_keepsEdge_3 20 rfl rfl)
theorem dX8_keepsEdge_91 : decode cX8_keepsEdge 91 = .ok (.iaload, 1) := dk_46 (dk_at dksX8_keepsEdge_3 21 rfl rfl)
theorem dX8_keepsEdge_92 : decode cX8_keepsEdge 92 = .ok (.iaload, 1) := dk_46 (dk_at dksX8_keepsEdge_3 22 rfl rfl)
theorem dX8_keepsEdge_93 : decode cX8_keepsEdge 93 = .ok (.iastore, 1) := dk_79 (dk_at dksX8_keepsEdge_3 23 rfl rfl)
theorem dX8_keepsEdge_94 : decode cX8_keepsEdge 94 = .ok (.return_, 1) := dk_177 (dk_at dksX8_keepsEdge_4 0 rfl rfl)
abbrev cX8_minutesOf : ByteArray := prog_19_method_73_code
def yX8_minutesOf : MethodName := ⟨RX8, "minutesOf", "(I)I"⟩
def dkwX8_minutesOf_1 : List UInt8 := [180, 0, 20, 29, 46, 28, 164, 0, 10, 42, 180, 0, 20, 29, 46, 61, 132, 3, 1, 167, 255, 219, 28, 172]
abbrev dktX8_minutesOf_1 : List UInt8 := dkwX8_minutesOf_1 ++ []
def dkwX8_minutesOf_0 : List UInt8 := [3, 61, 3, 62, 29, 42, 180, 1, 82, 162, 0, 35, 27, 29, 122, 4, 126, 4, 160, 0, 20, 42]
abbrev dktX8_minutesOf_0 : List UInt8 := dkwX8_minutesOf_0 ++ dktX8_minutesOf_1
theorem dksX8_minutesOf_0 : cX8_minutesOf.data.toList.drop 0 = dktX8_minutesOf_0 := by decide +kernel
theorem dksX8_minutesOf_1 : cX8_minutesOf.data.toList.drop 22 = dktX8_minutesOf_1 := dk_seg dksX8_minutesOf_0 22 rfl rfl
theorem dX8_minutesOf_0 : decode cX8_minutesOf 0 = .ok (.iconst 0, 1) := dk_3 (dk_at dksX8_minutesOf_0 0 rfl rfl)
theorem dX8_minutesOf_1 : decode cX8_minutesOf 1 = .ok (.istore_n 2, 1) := dk_61 (dk_at dksX8_minutesOf_0 1 rfl rfl)
theorem dX8_minutesOf_2 : decode cX8_minutesOf 2 = .ok (.iconst 0, 1) := dk_3 (dk_at dksX8_minutesOf_0 2 rfl rfl)
theorem dX8_minutesOf_3 : decode cX8_minutesOf 3 = .ok (.istore_n 3, 1) := dk_62 (dk_at dksX8_minutesOf_0 3 rfl rfl)
theorem dX8_minutesOf_4 : decode cX8_minutesOf 4 = .ok (.iload_n 3, 1) := dk_29 (dk_at dksX8_minutesOf_0 4 rfl rfl)
theorem dX8_minutesOf_5 : decode cX8_minutesOf 5 = .ok (.aload_n 0, 1) := dk_42 (dk_at dksX8_minutesOf_0 5 rfl rfl)
theorem dX8_minutesOf_6 : decode cX8_minutesOf 6 = .ok (.getfield 338, 3) := dk_180 1 82 (dk_at dksX8_minutesOf_0 6 rfl rfl)
theorem dX8_minutesOf_9 : decode cX8_minutesOf 9 = .ok (.if_icmp .ge 35, 3) := dk_162 0 35 (dk_at dksX8_minutesOf_0 9 rfl rfl)
theorem dX8_minutesOf_12 : decode cX8_minutesOf 12 = .ok (.iload_n 1, 1) := dk_27 (dk_at dksX8_minutesOf_0 12 rfl rfl)
theorem dX8_minutesOf_13 : decode cX8_minutesOf 13 = .ok (.iload_n 3, 1) := dk_29 (dk_at dksX8_minutesOf_0 13 rfl rfl)
theorem dX8_minutesOf_14 : decode cX8_minutesOf 14 = .ok (.ishr, 1) := dk_122 (dk_at dksX8_minutesOf_0 14 rfl rfl)
theorem dX8_minutesOf_15 : decode cX8_minutesOf 15 = .ok (.iconst 1, 1) := dk_4 (dk_at dksX8_minutesOf_0 15 rfl rfl)
theorem dX8_minutesOf_16 : decode cX8_minutesOf 16 = .ok (.iand, 1) := dk_126 (dk_at dksX8_minutesOf_0 16 rfl rfl)
theorem dX8_minutesOf_17 : decode cX8_minutesOf 17 = .ok (.iconst 1, 1) := dk_4 (dk_at dksX8_minutesOf_0 17 rfl rfl)
theorem dX8_minutesOf_18 : decode cX8_minutesOf 18 = .ok (.if_icmp .ne 20, 3) := dk_160 0 20 (dk_at dksX8_minutesOf_0 18 rfl rfl)
theorem dX8_minutesOf_21 : decode cX8_minutesOf 21 = .ok (.aload_n 0, 1) := dk_42 (dk_at dksX8_minutesOf_0 21 rfl rfl)
theorem dX8_minutesOf_22 : decode cX8_minutesOf 22 = .ok (.getfield 20, 3) := dk_180 0 20 (dk_at dksX8_minutesOf_1 0 rfl rfl)
theorem dX8_minutesOf_25 : decode cX8_minutesOf 25 = .ok (.iload_n 3, 1) := dk_29 (dk_at dksX8_minutesOf_1 3 rfl rfl)
theorem dX8_minutesOf_26 : decode cX8_minutesOf 26 = .ok (.iaload, 1) := dk_46 (dk_at dksX8_minutesOf_1 4 rfl rfl)
theorem dX8_minutesOf_27 : decode cX8_minutesOf 27 = .ok (.iload_n 2, 1) := dk_28 (dk_at dksX8_minutesOf_1 5 rfl rfl)
theorem dX8_minutesOf_28 : decode cX8_minutesOf 28 = .ok (.if_icmp .le 10, 3) := dk_164 0 10 (dk_at dksX8_minutesOf_1 6 rfl rfl)
theorem dX8_minutesOf_31 : decode cX8_minutesOf 31 = .ok (.aload_n 0, 1) := dk_42 (dk_at dksX8_minutesOf_1 9 rfl rfl)
theorem dX8_minutesOf_32 : decode cX8_minutesOf 32 = .ok (.getfield 20, 3) := dk_180 0 20 (dk_at dksX8_minutesOf_1 10 rfl rfl)
theorem dX8_minutesOf_35 : decode cX8_minutesOf 35 = .ok (.iload_n 3, 1) := dk_29 (dk_at dksX8_minutesOf_1 13 rfl rfl)
theorem dX8_minutesOf_36 : decode cX8_minutesOf 36 = .ok (.iaload, 1) := dk_46 (dk_at dksX8_minutesOf_1 14 rfl rfl)
theorem dX8_minutesOf_37 : decode cX8_minutesOf 37 = .ok (.istore_n 2, 1) := dk_61 (dk_at dksX8_minutesOf_1 15 rfl rfl)
theorem dX8_minutesOf_38 : decode cX8_minutesOf 38 = .ok (.iinc 3 1, 3) := dk_132 3 1 (dk_at dksX8_minutesOf_1 16 rfl rfl)
theorem dX8_minutesOf_41 : decode cX8_minutesOf 41 = .ok (.goto (-37), 3) := dk_167 255 219 (dk_at dksX8_minutesOf_1 19 rfl rfl)
theorem dX8_minutesOf_44 : decode cX8_minutesOf 44 = .ok (.iload_n 2, 1) := dk_28 (dk_at dksX8_minutesOf_1 22 rfl rfl)
theorem dX8_minutesOf_45 : decode cX8_minutesOf 45 = .ok (.ireturn, 1) := dk_172 (dk_at dksX8_minutesOf_1 23 rfl rfl)
abbrev cX8_quickest : ByteArray := prog_19_method_78_code
def yX8_quickest : MethodName := ⟨RX8, "quickest", "()I"⟩
def dkwX8_quickest_6 : List UInt8 := [182, 1, 211, 42, 180, 0, 124, 29, 46, 60, 167, 255, 165, 28, 172]
abbrev dktX8_quickest_6 : List UInt8 := dkwX8_quickest_6 ++ []
def dkwX8_quickest_5 : List UInt8 := [105, 97, 10, 97, 42, 180, 0, 127, 27, 47, 148, 153, 0, 9, 132, 3, 1, 167, 255, 198, 42, 29]
abbrev dktX8_quickest_5 : List UInt8 := dkwX8_quickest_5 ++ dktX8_quickest_6
def dkwX8_quickest_4 : List UInt8 := [180, 0, 127, 42, 180, 0, 124, 29, 46, 47, 20, 1, 216, 42, 42, 180, 0, 121, 29, 46, 182, 1, 205, 133]
abbrev dktX8_quickest_4 : List UInt8 := dkwX8_quickest_4 ++ dktX8_quickest_5
def dkwX8_quickest_3 : List UInt8 := [180, 0, 102, 27, 46, 62, 42, 180, 0, 127, 42, 180, 0, 124, 29, 46, 47, 9, 148, 155, 0, 42, 42]
abbrev dktX8_quickest_3 : List UInt8 := dkwX8_quickest_3 ++ dktX8_quickest_4
def dkwX8_quickest_2 : List UInt8 := [180, 0, 127, 3, 47, 20, 1, 216, 109, 136, 61, 42, 180, 0, 127, 27, 47, 9, 148, 158, 0, 86, 42]
abbrev dktX8_quickest_2 : List UInt8 := dkwX8_quickest_2 ++ dktX8_quickest_3
def dkwX8_quickest_1 : List UInt8 := [160, 0, 5, 2, 172, 42, 182, 1, 218, 42, 42, 180, 0, 99, 3, 46, 182, 1, 208, 3, 60, 42]
abbrev dktX8_quickest_1 : List UInt8 := dkwX8_quickest_1 ++ dktX8_quickest_2
def dkwX8_quickest_0 : List UInt8 := [42, 3, 181, 0, 173, 42, 182, 1, 196, 154, 0, 6, 16, 254, 172, 42, 180, 0, 108, 3, 46, 2]
abbrev dktX8_quickest_0 : List UInt8 := dkwX8_quickest_0 ++ dktX8_quickest_1
theorem dksX8_quickest_0 : cX8_quickest.data.toList.drop 0 = dktX8_quickest_0 := by decide +kernel
theorem dksX8_quickest_1 : cX8_quickest.data.toList.drop 22 = dktX8_quickest_1 := dk_seg dksX8_quickest_0 22 rfl rfl
theorem dksX8_quickest_2 : cX8_quickest.data.toList.drop 44 = dktX8_quickest_2 := dk_seg dksX8_quickest_1 22 rfl rfl
theorem dksX8_quickest_3 : cX8_quickest.data.toList.drop 67 = dktX8_quickest_3 := dk_seg dksX8_quickest_2 23 rfl rfl
theorem dksX8_quickest_4 : cX8_quickest.data.toList.drop 90 = dktX8_quickest_4 := dk_seg dksX8_quickest_3 23 rfl rfl
theorem dksX8_quickest_5 : cX8_quickest.data.toList.drop 114 = dktX8_quickest_5 := dk_seg dksX8_quickest_4 24 rfl rfl
theorem dksX8_quickest_6 : cX8_quickest.data.toList.drop 136 = dktX8_quickest_6 := dk_seg dksX8_quickest_5 22 rfl rfl
theorem dX8_quickest_0 : decode cX8_quickest 0 = .ok (.aload_n 0, 1) := dk_42 (dk_at dksX8_quickest_0 0 rfl rfl)
theorem dX8_quickest_1 : decode cX8_quickest 1 = .ok (.iconst 0, 1) := dk_3 (dk_at dksX8_quickest_0 1 rfl rfl)
theorem dX8_quickest_2 : decode cX8_quickest 2 = .ok (.putfield 173, 3) := dk_181 0 173 (dk_at dksX8_quickest_0 2 rfl rfl)
theorem dX8_quickest_5 : decode cX8_quickest 5 = .ok (.aload_n 0, 1) := dk_42 (dk_at dksX8_quickest_0 5 rfl rfl)
theorem dX8_quickest_6 : decode cX8_quickest 6 = .ok (.invokevirtual 452, 3) := dk_182 1 196 (dk_at dksX8_quickest_0 6 rfl rfl)
theorem dX8_quickest_9 : decode cX8_quickest 9 = .ok (.ifCond .ne 6, 3) := dk_154 0 6 (dk_at dksX8_quickest_0 9 rfl rfl)
theorem dX8_quickest_12 : decode cX8_quickest 12 = .ok (.bipush (-2), 2) := dk_16 254 (dk_at dksX8_quickest_0 12 rfl rfl)
theorem dX8_quickest_14 : decode cX8_quickest 14 = .ok (.ireturn, 1) := dk_172 (dk_at dksX8_quickest_0 14 rfl rfl)
theorem dX8_quickest_15 : decode cX8_quickest 15 = .ok (.aload_n 0, 1) := dk_42 (dk_at dksX8_quickest_0 15 rfl rfl)
theorem dX8_quickest_16 : decode cX8_quickest 16 = .ok (.getfield 108, 3) := dk_180 0 108 (dk_at dksX8_quickest_0 16 rfl rfl)
theorem dX8_quickest_19 : decode cX8_quickest 19 = .ok (.iconst 0, 1) := dk_3 (dk_at dksX8_quickest_0 19 rfl rfl)
theorem dX8_quickest_20 : decode cX8_quickest 20 = .ok (.iaload, 1) := dk_46 (dk_at dksX8_quickest_0 20 rfl rfl)
theorem dX8_quickest_21 : decode cX8_quickest 21 = .ok (.iconst (-1), 1) := dk_2 (dk_at dksX8_quickest_0 21 rfl rfl)
theorem dX8_quickest_22 : decode cX8_quickest 22 = .ok (.if_icmp .ne 5, 3) := dk_160 0 5 (dk_at dksX8_quickest_1 0 rfl rfl)
theorem dX8_quickest_25 : decode cX8_quickest 25 = .ok (.iconst (-1), 1) := dk_2 (dk_at dksX8_quickest_1 3 rfl rfl)
theorem dX8_quickest_26 : decode cX8_quickest 26 = .ok (.ireturn, 1) := dk_172 (dk_at dksX8_quickest_1 4 rfl rfl)
theorem dX8_quickest_27 : decode cX8_quickest 27 = .ok (.aload_n 0, 1) := dk_42 (dk_at dksX8_quickest_1 5 rfl rfl)
theorem dX8_quickest_28 : decode cX8_quickest 28 = .ok (.invokevirtual 474, 3) := dk_182 1 218 (dk_at dksX8_quickest_1 6 rfl rfl)
theorem dX8_quickest_31 : decode cX8_quickest 31 = .ok (.aload_n 0, 1) := dk_42 (dk_at dksX8_quickest_1 9 rfl rfl)
theorem dX8_quickest_32 : decode cX8_quickest 32 = .ok (.aload_n 0, 1) := dk_42 (dk_at dksX8_quickest_1 10 rfl rfl)
theorem dX8_quickest_33 : decode cX8_quickest 33 = .ok (.getfield 99, 3) := dk_180 0 99 (dk_at dksX8_quickest_1 11 rfl rfl)
theorem dX8_quickest_36 : decode cX8_quickest 36 = .ok (.iconst 0, 1) := dk_3 (dk_at dksX8_quickest_1 14 rfl rfl)
theorem dX8_quickest_37 : decode cX8_quickest 37 = .ok (.iaload, 1) := dk_46 (dk_at dksX8_quickest_1 15 rfl rfl)
theorem dX8_quickest_38 : decode cX8_quickest 38 = .ok (.invokevirtual 464, 3) := dk_182 1 208 (dk_at dksX8_quickest_1 16 rfl rfl)
theorem dX8_quickest_41 : decode cX8_quickest 41 = .ok (.iconst 0, 1) := dk_3 (dk_at dksX8_quickest_1 19 rfl rfl)
theorem dX8_quickest_42 : decode cX8_quickest 42 = .ok (.istore_n 1, 1) := dk_60 (dk_at dksX8_quickest_1 20 rfl rfl)
theorem dX8_quickest_43 : decode cX8_quickest 43 = .ok (.aload_n 0, 1) := dk_42 (dk_at dksX8_quickest_1 21 rfl rfl)
theorem dX8_quickest_44 : decode cX8_quickest 44 = .ok (.getfield 127, 3) := dk_180 0 127 (dk_at dksX8_quickest_2 0 rfl rfl)
theorem dX8_quickest_47 : decode cX8_quickest 47 = .ok (.iconst 0, 1) := dk_3 (dk_at dksX8_quickest_2 3 rfl rfl)
theorem dX8_quickest_48 : decode cX8_quickest 48 = .ok (.laload, 1) := dk_47 (dk_at dksX8_quickest_2 4 rfl rfl)
theorem dX8_quickest_49 : decode cX8_quickest 49 = .ok (.ldc2_w 472, 3) := dk_20 1 216 (dk_at dksX8_quickest_2 5 rfl rfl)
theorem dX8_quickest_52 : decode cX8_quickest 52 = .ok (.ldiv, 1) := dk_109 (dk_at dksX8_quickest_2 8 rfl rfl)
theorem dX8_quickest_53 : decode cX8_quickest 53 = .ok (.l2i, 1) := dk_136 (dk_at dksX8_quickest_2 9 rfl rfl)
theorem dX8_quickest_54 : decode cX8_quickest 54 = .ok (.istore_n 2, 1) := dk_61 (dk_at dksX8_quickest_2 10 rfl rfl)
theorem dX8_quickest_55 : decode cX8_quickest 55 = .ok (.aload_n 0, 1) := dk_42 (dk_at dksX8_quickest_2 11 rfl rfl)
theorem dX8_quickest_56 : decode cX8_quickest 56 = .ok (.getfield 127, 3) := dk_180 0 127 (dk_at dksX8_quickest_2 12 rfl rfl)
theorem dX8_quickest_59 : decode cX8_quickest 59 = .ok (.iload_n 1, 1) := dk_27 (dk_at dksX8_quickest_2 15 rfl rfl)
theorem dX8_quickest_60 : decode cX8_quickest 60 = .ok (.laload, 1) := dk_47 (dk_at dksX8_quickest_2 16 rfl rfl)
theorem dX8_quickest_61 : decode cX8_quickest 61 = .ok (.lconst 0, 1) := dk_9 (dk_at dksX8_quickest_2 17 rfl rfl)
theorem dX8_quickest_62 : decode cX8_quickest 62 = .ok (.lcmp, 1) := dk_148 (dk_at dksX8_quickest_2 18 rfl rfl)
theorem dX8_quickest_63 : decode cX8_quickest 63 = .ok (.ifCond .le 86, 3) := dk_158 0 86 (dk_at dksX8_quickest_2 19 rfl rfl)
theorem dX8_quickest_66 : decode cX8_quickest 66 = .ok (.aload_n 0, 1) := dk_42 (dk_at dksX8_quickest_2 22 rfl rfl)
theorem dX8_quickest_67 : decode cX8_quickest 67 = .ok (.getfield 102, 3) := dk_180 0 102 (dk_at dksX8_quickest_3 0 rfl rfl)
theorem dX8_quickest_70 : decode cX8_quickest 70 = .ok (.iload_n 1, 1) := dk_27 (dk_at dksX8_quickest_3 3 rfl rfl)
theorem dX8_quickest_71 : decode cX8_quickest 71 = .ok (.iaload, 1) := dk_46 (dk_at dksX8_quickest_3 4 rfl rfl)
theorem dX8_quickest_72 : decode cX8_quickest 72 = .ok (.istore_n 3, 1) := dk_62 (dk_at dksX8_quickest_3 5 rfl rfl)
theorem dX8_quickest_73 : decode cX8_quickest 73 = .ok (.aload_n 0, 1) := dk_42 (dk_at dksX8_quickest_3 6 rfl rfl)
theorem dX8_quickest_74 : decode cX8_quickest 74 = .ok (.getfield 127, 3) := dk_180 0 127 (dk_at dksX8_quickest_3 7 rfl rfl)
theorem dX8_quickest_77 : decode cX8_quickest 77 = .ok (.aload_n 0, 1) := dk_42 (dk_at dksX8_quickest_3 10 rfl rfl)
theorem dX8_quickest_78 : decode cX8_quickest 78 = .ok (.getfield 124, 3) := dk_180 0 124 (dk_at dksX8_quickest_3 11 rfl rfl)
theorem dX8_quickest_81 : decode cX8_quickest 81 = .ok (.iload_n 3, 1) := dk_29 (dk_at dksX8_quickest_3 14 rfl rfl)
theorem dX8_quickest_82 : decode cX8_quickest 82 = .ok (.iaload, 1) := dk_46 (dk_at dksX8_quickest_3 15 rfl rfl)
theorem dX8_quickest_83 : decode cX8_quickest 83 = .ok (.laload, 1) := dk_47 (dk_at dksX8_quickest_3 16 rfl rfl)
theorem dX8_quickest_84 : decode cX8_quickest 84 = .ok (.lconst 0, 1) := dk_9 (dk_at dksX8_quickest_3 17 rfl rfl)
theorem dX8_quickest_85 : decode cX8_quickest 85 = .ok (.lcmp, 1) := dk_148 (dk_at dksX8_quickest_3 18 rfl rfl)
theorem dX8_quickest_86 : decode cX8_quickest 86 = .ok (.ifCond .lt 42, 3) := dk_155 0 42 (dk_at dksX8_quickest_3 19 rfl rfl)
theorem dX8_quickest_89 : decode cX8_quickest 89 = .ok (.aload_n 0, 1) := dk_42 (dk_at dksX8_quickest_3 22 rfl rfl)
theorem dX8_quickest_90 : decode cX8_quickest 90 = .ok (.getfield 127, 3) := dk_180 0 127 (dk_at dksX8_quickest_4 0 rfl rfl)
theorem dX8_quickest_93 : decode cX8_quickest 93 = .ok (.aload_n 0, 1) := dk_42 (dk_at dksX8_quickest_4 3 rfl rfl)
theorem dX8_quickest_94 : decode cX8_quickest 94 = .ok (.getfield 124, 3) := dk_180 0 124 (dk_at dksX8_quickest_4 4 rfl rfl)
theorem dX8_quickest_97 : decode cX8_quickest 97 = .ok (.iload_n 3, 1) := dk_29 (dk_at dksX8_quickest_4 7 rfl rfl)
theorem dX8_quickest_98 : decode cX8_quickest 98 = .ok (.iaload, 1) := dk_46 (dk_at dksX8_quickest_4 8 rfl rfl)
theorem dX8_quickest_99 : decode cX8_quickest 99 = .ok (.laload, 1) := dk_47 (dk_at dksX8_quickest_4 9 rfl rfl)
theorem dX8_quickest_100 : decode cX8_quickest 100 = .ok (.ldc2_w 472, 3) := dk_20 1 216 (dk_at dksX8_quickest_4 10 rfl rfl)
theorem dX8_quickest_103 : decode cX8_quickest 103 = .ok (.aload_n 0, 1) := dk_42 (dk_at dksX8_quickest_4 13 rfl rfl)
theorem dX8_quickest_104 : decode cX8_quickest 104 = .ok (.aload_n 0, 1) := dk_42 (dk_at dksX8_quickest_4 14 rfl rfl)
theorem dX8_quickest_105 : decode cX8_quickest 105 = .ok (.getfield 121, 3) := dk_180 0 121 (dk_at dksX8_quickest_4 15 rfl rfl)
theorem dX8_quickest_108 : decode cX8_quickest 108 = .ok (.iload_n 3, 1) := dk_29 (dk_at dksX8_quickest_4 18 rfl rfl)
theorem dX8_quickest_109 : decode cX8_quickest 109 = .ok (.iaload, 1) := dk_46 (dk_at dksX8_quickest_4 19 rfl rfl)
theorem dX8_quickest_110 : decode cX8_quickest 110 = .ok (.invokevirtual 461, 3) := dk_182 1 205 (dk_at dksX8_quickest_4 20 rfl rfl)
theorem dX8_quickest_113 : decode cX8_quickest 113 = .ok (.i2l, 1) := dk_133 (dk_at dksX8_quickest_4 23 rfl rfl)
theorem dX8_quickest_114 : decode cX8_quickest 114 = .ok (.lmul, 1) := dk_105 (dk_at dksX8_quickest_5 0 rfl rfl)
theorem dX8_quickest_115 : decode cX8_quickest 115 = .ok (.ladd, 1) := dk_97 (dk_at dksX8_quickest_5 1 rfl rfl)
theorem dX8_quickest_116 : decode cX8_quickest 116 = .ok (.lconst 1, 1) := dk_10 (dk_at dksX8_quickest_5 2 rfl rfl)
theorem dX8_quickest_117 : decode cX8_quickest 117 = .ok (.ladd, 1) := dk_97 (dk_at dksX8_quickest_5 3 rfl rfl)
theorem dX8_quickest_118 : decode cX8_quickest 118 = .ok (.aload_n 0, 1) := dk_42 (dk_at dksX8_quickest_5 4 rfl rfl)
theorem dX8_quickest_119 : decode cX8_quickest 119 = .ok (.getfield 127, 3) := dk_180 0 127 (dk_at dksX8_quickest_5 5 rfl rfl)
theorem dX8_quickest_122 : decode cX8_quickest 122 = .ok (.iload_n 1, 1) := dk_27 (dk_at dksX8_quickest_5 8 rfl rfl)
theorem dX8_quickest_123 : decode cX8_quickest 123 = .ok (.laload, 1) := dk_47 (dk_at dksX8_quickest_5 9 rfl rfl)
theorem dX8_quickest_124 : decode cX8_quickest 124 = .ok (.lcmp, 1) := dk_148 (dk_at dksX8_quickest_5 10 rfl rfl)
theorem dX8_quickest_125 : decode cX8_quickest 125 = .ok (.ifCond .eq 9, 3) := dk_153 0 9 (dk_at dksX8_quickest_5 11 rfl rfl)
theorem dX8_quickest_128 : decode cX8_quickest 128 = .ok (.iinc 3 1, 3) := dk_132 3 1 (dk_at dksX8_quickest_5 14 rfl rfl)
theorem dX8_quickest_131 : decode cX8_quickest 131 = .ok (.goto (-58), 3) := dk_167 255 198 (dk_at dksX8_quickest_5 17 rfl rfl)
theorem dX8_quickest_134 : decode cX8_quickest 134 = .ok (.aload_n 0, 1) := dk_42 (dk_at dksX8_quickest_5 20 rfl rfl)
theorem dX8_quickest_135 : decode cX8_quickest 135 = .ok (.iload_n 3, 1) := dk_29 (dk_at dksX8_quickest_5 21 rfl rfl)
theorem dX8_quickest_136 : decode cX8_quickest 136 = .ok (.invokevirtual 467, 3) := dk_182 1 211 (dk_at dksX8_quickest_6 0 rfl rfl)
theorem dX8_quickest_139 : decode cX8_quickest 139 = .ok (.aload_n 0, 1) := dk_42 (dk_at dksX8_quickest_6 3 rfl rfl)
theorem dX8_quickest_140 : decode cX8_quickest 140 = .ok (.getfield 124, 3) := dk_180 0 124 (dk_at dksX8_quickest_6 4 rfl rfl)
theorem dX8_quickest_143 : decode cX8_quickest 143 = .ok (.iload_n 3, 1) := dk_29 (dk_at dksX8_quickest_6 7 rfl rfl)
theorem dX8_quickest_144 : decode cX8_quickest 144 = .ok (.iaload, 1) := dk_46 (dk_at dksX8_quickest_6 8 rfl rfl)
theorem dX8_quickest_145 : decode cX8_quickest 145 = .ok (.istore_n 1, 1) := dk_60 (dk_at dksX8_quickest_6 9 rfl rfl)
theorem dX8_quickest_146 : decode cX8_quickest 146 = .ok (.goto (-91), 3) := dk_167 255 165 (dk_at dksX8_quickest_6 10 rfl rfl)
theorem dX8_quickest_149 : decode cX8_quickest 149 = .ok (.iload_n 2, 1) := dk_28 (dk_at dksX8_quickest_6 13 rfl rfl)
theorem dX8_quickest_150 : decode cX8_quickest 150 = .ok (.ireturn, 1) := dk_172 (dk_at dksX8_quickest_6 14 rfl rfl)
abbrev cX8_prices : ByteArray := prog_19_method_77_code
def yX8_prices : MethodName := ⟨RX8, "prices", "()V"⟩
def dkwX8_prices_7 : List UInt8 := [132, 2, 255, 167, 255, 143, 167, 255, 127, 177]
abbrev dktX8_prices_7 : List UInt8 := dkwX8_prices_7 ++ []
def dkwX8_prices_6 : List UInt8 := [155, 0, 6, 167, 0, 13, 42, 180, 0, 127, 28, 22, 6, 80, 4, 60, 132, 3, 1, 167, 255, 160]
abbrev dktX8_prices_6 : List UInt8 := dkwX8_prices_6 ++ dktX8_prices_7
def dkwX8_prices_5 : List UInt8 := [10, 97, 55, 6, 42, 180, 0, 127, 28, 47, 9, 148, 155, 0, 18, 22, 6, 42, 180, 0, 127, 28, 47, 148]
abbrev dktX8_prices_5 : List UInt8 := dkwX8_prices_5 ++ dktX8_prices_6
def dkwX8_prices_4 : List UInt8 := [156, 0, 6, 167, 0, 61, 22, 4, 20, 1, 216, 42, 42, 180, 0, 121, 29, 46, 182, 1, 205, 133, 105, 97]
abbrev dktX8_prices_4 : List UInt8 := dkwX8_prices_4 ++ dktX8_prices_5
def dkwX8_prices_3 : List UInt8 := [96, 46, 162, 0, 90, 42, 180, 0, 127, 42, 180, 0, 124, 29, 46, 47, 55, 4, 22, 4, 9, 148]
abbrev dktX8_prices_3 : List UInt8 := dkwX8_prices_3 ++ dktX8_prices_4
def dkwX8_prices_2 : List UInt8 := [180, 1, 164, 4, 100, 61, 28, 155, 0, 115, 42, 180, 0, 102, 28, 46, 62, 29, 42, 180, 0, 102, 28, 4]
abbrev dktX8_prices_2 : List UInt8 := dkwX8_prices_2 ++ dktX8_prices_3
def dkwX8_prices_1 : List UInt8 := [9, 167, 0, 6, 20, 1, 214, 80, 132, 1, 1, 167, 255, 223, 4, 60, 27, 153, 0, 131, 3, 60, 42]
abbrev dktX8_prices_1 : List UInt8 := dkwX8_prices_1 ++ dktX8_prices_2
def dkwX8_prices_0 : List UInt8 := [3, 60, 27, 42, 180, 1, 164, 162, 0, 31, 42, 180, 0, 127, 27, 42, 180, 0, 108, 27, 46, 154, 0, 7]
abbrev dktX8_prices_0 : List UInt8 := dkwX8_prices_0 ++ dktX8_prices_1
theorem dksX8_prices_0 : cX8_prices.data.toList.drop 0 = dktX8_prices_0 := by decide +kernel
theorem dksX8_prices_1 : cX8_prices.data.toList.drop 24 = dktX8_prices_1 := dk_seg dksX8_prices_0 24 rfl rfl
theorem dksX8_prices_2 : cX8_prices.data.toList.drop 47 = dktX8_prices_2 := dk_seg dksX8_prices_1 23 rfl rfl
theorem dksX8_prices_3 : cX8_prices.data.toList.drop 71 = dktX8_prices_3 := dk_seg dksX8_prices_2 24 rfl rfl
theorem dksX8_prices_4 : cX8_prices.data.toList.drop 93 = dktX8_prices_4 := dk_seg dksX8_prices_3 22 rfl rfl
theorem dksX8_prices_5 : cX8_prices.data.toList.drop 117 = dktX8_prices_5 := dk_seg dksX8_prices_4 24 rfl rfl
theorem dksX8_prices_6 : cX8_prices.data.toList.drop 141 = dktX8_prices_6 := dk_seg dksX8_prices_5 24 rfl rfl
theorem dksX8_prices_7 : cX8_prices.data.toList.drop 163 = dktX8_prices_7 := dk_seg dksX8_prices_6 22 rfl rfl
theorem dX8_prices_0 : decode cX8_prices 0 = .ok (.iconst 0, 1) := dk_3 (dk_at dksX8_prices_0 0 rfl rfl)
theorem dX8_prices_1 : decode cX8_prices 1 = .ok (.istore_n 1, 1) := dk_60 (dk_at dksX8_prices_0 1 rfl rfl)
theorem dX8_prices_2 : decode cX8_prices 2 = .ok (.iload_n 1, 1) := dk_27 (dk_at dksX8_prices_0 2 rfl rfl)
theorem dX8_prices_3 : decode cX8_prices 3 = .ok (.aload_n 0, 1) := dk_42 (dk_at dksX8_prices_0 3 rfl rfl)
theorem dX8_prices_4 : decode cX8_prices 4 = .ok (.getfield 420, 3) := dk_180 1 164 (dk_at dksX8_prices_0 4 rfl rfl)
theorem dX8_prices_7 : decode cX8_prices 7 = .ok (.if_icmp .ge 31, 3) := dk_162 0 31 (dk_at dksX8_prices_0 7 rfl rfl)
theorem dX8_prices_10 : decode cX8_prices 10 = .ok (.aload_n 0, 1) := dk_42 (dk_at dksX8_prices_0 10 rfl rfl)
theorem dX8_prices_11 : decode cX8_prices 11 = .ok (.getfield 127, 3) := dk_180 0 127 (dk_at dksX8_prices_0 11 rfl rfl)
theorem dX8_prices_14 : decode cX8_prices 14 = .ok (.iload_n 1, 1) := dk_27 (dk_at dksX8_prices_0 14 rfl rfl)
theorem dX8_prices_15 : decode cX8_prices 15 = .ok (.aload_n 0, 1) := dk_42 (dk_at dksX8_prices_0 15 rfl rfl)
theorem dX8_prices_16 : decode cX8_prices 16 = .ok (.getfield 108, 3) := dk_180 0 108 (dk_at dksX8_prices_0 16 rfl rfl)
theorem dX8_prices_19 : decode cX8_prices 19 = .ok (.iload_n 1, 1) := dk_27 (dk_at dksX8_prices_0 19 rfl rfl)
theorem dX8_prices_20 : decode cX8_prices 20 = .ok (.iaload, 1) := dk_46 (dk_at dksX8_prices_0 20 rfl rfl)
theorem dX8_prices_21 : decode cX8_prices 21 = .ok (.ifCond .ne 7, 3) := dk_154 0 7 (dk_at dksX8_prices_0 21 rfl rfl)
theorem dX8_prices_24 : decode cX8_prices 24 = .ok (.lconst 0, 1) := dk_9 (dk_at dksX8_prices_1 0 rfl rfl)
theorem dX8_prices_25 : decode cX8_prices 25 = .ok (.goto 6, 3) := dk_167 0 6 (dk_at dksX8_prices_1 1 rfl rfl)
theorem dX8_prices_28 : decode cX8_prices 28 = .ok (.ldc2_w 470, 3) := dk_20 1 214 (dk_at dksX8_prices_1 4 rfl rfl)
theorem dX8_prices_31 : decode cX8_prices 31 = .ok (.lastore, 1) := dk_80 (dk_at dksX8_prices_1 7 rfl rfl)
theorem dX8_prices_32 : decode cX8_prices 32 = .ok (.iinc 1 1, 3) := dk_132 1 1 (dk_at dksX8_prices_1 8 rfl rfl)
theorem dX8_prices_35 : decode cX8_prices 35 = .ok (.goto (-33), 3) := dk_167 255 223 (dk_at dksX8_prices_1 11 rfl rfl)
theorem dX8_prices_38 : decode cX8_prices 38 = .ok (.iconst 1, 1) := dk_4 (dk_at dksX8_prices_1 14 rfl rfl)
theorem dX8_prices_39 : decode cX8_prices 39 = .ok (.istore_n 1, 1) := dk_60 (dk_at dksX8_prices_1 15 rfl rfl)
theorem dX8_prices_40 : decode cX8_prices 40 = .ok (.iload_n 1, 1) := dk_27 (dk_at dksX8_prices_1 16 rfl rfl)
theorem dX8_prices_41 : decode cX8_prices 41 = .ok (.ifCond .eq 131, 3) := dk_153 0 131 (dk_at dksX8_prices_1 17 rfl rfl)
theorem dX8_prices_44 : decode cX8_prices 44 = .ok (.iconst 0, 1) := dk_3 (dk_at dksX8_prices_1 20 rfl rfl)
theorem dX8_prices_45 : decode cX8_prices 45 = .ok (.istore_n 1, 1) := dk_60 (dk_at dksX8_prices_1 21 rfl rfl)
theorem dX8_prices_46 : decode cX8_prices 46 = .ok (.aload_n 0, 1) := dk_42 (dk_at dksX8_prices_1 22 rfl rfl)
theorem dX8_prices_47 : decode cX8_prices 47 = .ok (.getfield 420, 3) := dk_180 1 164 (dk_at dksX8_prices_2 0 rfl rfl)
theorem dX8_prices_50 : decode cX8_prices 50 = .ok (.iconst 1, 1) := dk_4 (dk_at dksX8_prices_2 3 rfl rfl)
theorem dX8_prices_51 : decode cX8_prices 51 = .ok (.isub, 1) := dk_100 (dk_at dksX8_prices_2 4 rfl rfl)
theorem dX8_prices_52 : decode cX8_prices 52 = .ok (.istore_n 2, 1) := dk_61 (dk_at dksX8_prices_2 5 rfl rfl)
theorem dX8_prices_53 : decode cX8_prices 53 = .ok (.iload_n 2, 1) := dk_28 (dk_at dksX8_prices_2 6 rfl rfl)
theorem dX8_prices_54 : decode cX8_prices 54 = .ok (.ifCond .lt 115, 3) := dk_155 0 115 (dk_at dksX8_prices_2 7 rfl rfl)
theorem dX8_prices_57 : decode cX8_prices 57 = .ok (.aload_n 0, 1) := dk_42 (dk_at dksX8_prices_2 10 rfl rfl)
theorem dX8_prices_58 : decode cX8_prices 58 = .ok (.getfield 102, 3) := dk_180 0 102 (dk_at dksX8_prices_2 11 rfl rfl)
theorem dX8_prices_61 : decode cX8_prices 61 = .ok (.iload_n 2, 1) := dk_28 (dk_at dksX8_prices_2 14 rfl rfl)
theorem dX8_prices_62 : decode cX8_prices 62 = .ok (.iaload, 1) := dk_46 (dk_at dksX8_prices_2 15 rfl rfl)
theorem dX8_prices_63 : decode cX8_prices 63 = .ok (.istore_n 3, 1) := dk_62 (dk_at dksX8_prices_2 16 rfl rfl)
theorem dX8_prices_64 : decode cX8_prices 64 = .ok (.iload_n 3, 1) := dk_29 (dk_at dksX8_prices_2 17 rfl rfl)
theorem dX8_prices_65 : decode cX8_prices 65 = .ok (.aload_n 0, 1) := dk_42 (dk_at dksX8_prices_2 18 rfl rfl)
theorem dX8_prices_66 : decode cX8_prices 66 = .ok (.getfield 102, 3) := dk_180 0 102 (dk_at dksX8_prices_2 19 rfl rfl)
theorem dX8_prices_69 : decode cX8_prices 69 = .ok (.iload_n 2, 1) := dk_28 (dk_at dksX8_prices_2 22 rfl rfl)
theorem dX8_prices_70 : decode cX8_prices 70 = .ok (.iconst 1, 1) := dk_4 (dk_at dksX8_prices_2 23 rfl rfl)
theorem dX8_prices_71 : decode cX8_prices 71 = .ok (.iadd, 1) := dk_96 (dk_at dksX8_prices_3 0 rfl rfl)
theorem dX8_prices_72 : decode cX8_prices 72 = .ok (.iaload, 1) := dk_46 (dk_at dksX8_prices_3 1 rfl rfl)
theorem dX8_prices_73 : decode cX8_prices 73 = .ok (.if_icmp .ge 90, 3) := dk_162 0 90 (dk_at dksX8_prices_3 2 rfl rfl)
theorem dX8_prices_76 : decode cX8_prices 76 = .ok (.aload_n 0, 1) := dk_42 (dk_at dksX8_prices_3 5 rfl rfl)
theorem dX8_prices_77 : decode cX8_prices 77 = .ok (.getfield 127, 3) := dk_180 0 127 (dk_at dksX8_prices_3 6 rfl rfl)
theorem dX8_prices_80 : decode cX8_prices 80 = .ok (.aload_n 0, 1) := dk_42 (dk_at dksX8_prices_3 9 rfl rfl)
theorem dX8_prices_81 : decode cX8_prices 81 = .ok (.getfield 124, 3) := dk_180 0 124 (dk_at dksX8_prices_3 10 rfl rfl)
theorem dX8_prices_84 : decode cX8_prices 84 = .ok (.iload_n 3, 1) := dk_29 (dk_at dksX8_prices_3 13 rfl rfl)
theorem dX8_prices_85 : decode cX8_prices 85 = .ok (.iaload, 1) := dk_46 (dk_at dksX8_prices_3 14 rfl rfl)
theorem dX8_prices_86 : decode cX8_prices 86 = .ok (.laload, 1) := dk_47 (dk_at dksX8_prices_3 15 rfl rfl)
theorem dX8_prices_87 : decode cX8_prices 87 = .ok (.lstore 4, 2) := dk_55 4 (dk_at dksX8_prices_3 16 rfl rfl)
theorem dX8_prices_89 : decode cX8_prices 89 = .ok (.lload 4, 2) := dk_22 4 (dk_at dksX8_prices_3 18 rfl rfl)
theorem dX8_prices_91 : decode cX8_prices 91 = .ok (.lconst 0, 1) := dk_9 (dk_at dksX8_prices_3 20 rfl rfl)
theorem dX8_prices_92 : decode cX8_prices 92 = .ok (.lcmp, 1) := dk_148 (dk_at dksX8_prices_3 21 rfl rfl)
theorem dX8_prices_93 : decode cX8_prices 93 = .ok (.ifCond .ge 6, 3) := dk_156 0 6 (dk_at dksX8_prices_4 0 rfl rfl)
theorem dX8_prices_96 : decode cX8_prices 96 = .ok (.goto 61, 3) := dk_167 0 61 (dk_at dksX8_prices_4 3 rfl rfl)
theorem dX8_prices_99 : decode cX8_prices 99 = .ok (.lload 4, 2) := dk_22 4 (dk_at dksX8_prices_4 6 rfl rfl)
theorem dX8_prices_101 : decode cX8_prices 101 = .ok (.ldc2_w 472, 3) := dk_20 1 216 (dk_at dksX8_prices_4 8 rfl rfl)
theorem dX8_prices_104 : decode cX8_prices 104 = .ok (.aload_n 0, 1) := dk_42 (dk_at dksX8_prices_4 11 rfl rfl)
theorem dX8_prices_105 : decode cX8_prices 105 = .ok (.aload_n 0, 1) := dk_42 (dk_at dksX8_prices_4 12 rfl rfl)
theorem dX8_prices_106 : decode cX8_prices 106 = .ok (.getfield 121, 3) := dk_180 0 121 (dk_at dksX8_prices_4 13 rfl rfl)
theorem dX8_prices_109 : decode cX8_prices 109 = .ok (.iload_n 3, 1) := dk_29 (dk_at dksX8_prices_4 16 rfl rfl)
theorem dX8_prices_110 : decode cX8_prices 110 = .ok (.iaload, 1) := dk_46 (dk_at dksX8_prices_4 17 rfl rfl)
theorem dX8_prices_111 : decode cX8_prices 111 = .ok (.invokevirtual 461, 3) := dk_182 1 205 (dk_at dksX8_prices_4 18 rfl rfl)
theorem dX8_prices_114 : decode cX8_prices 114 = .ok (.i2l, 1) := dk_133 (dk_at dksX8_prices_4 21 rfl rfl)
theorem dX8_prices_115 : decode cX8_prices 115 = .ok (.lmul, 1) := dk_105 (dk_at dksX8_prices_4 22 rfl rfl)
theorem dX8_prices_116 : decode cX8_prices 116 = .ok (.ladd, 1) := dk_97 (dk_at dksX8_prices_4 23 rfl rfl)
theorem dX8_prices_117 : decode cX8_prices 117 = .ok (.lconst 1, 1) := dk_10 (dk_at dksX8_prices_5 0 rfl rfl)
theorem dX8_prices_118 : decode cX8_prices 118 = .ok (.ladd, 1) := dk_97 (dk_at dksX8_prices_5 1 rfl rfl)
theorem dX8_prices_119 : decode cX8_prices 119 = .ok (.lstore 6, 2) := dk_55 6 (dk_at dksX8_prices_5 2 rfl rfl)
theorem dX8_prices_121 : decode cX8_prices 121 = .ok (.aload_n 0, 1) := dk_42 (dk_at dksX8_prices_5 4 rfl rfl)
theorem dX8_prices_122 : decode cX8_prices 122 = .ok (.getfield 127, 3) := dk_180 0 127 (dk_at dksX8_prices_5 5 rfl rfl)
theorem dX8_prices_125 : decode cX8_prices 125 = .ok (.iload_n 2, 1) := dk_28 (dk_at dksX8_prices_5 8 rfl rfl)
theorem dX8_prices_126 : decode cX8_prices 126 = .ok (.laload, 1) := dk_47 (dk_at dksX8_prices_5 9 rfl rfl)
theorem dX8_prices_127 : decode cX8_prices 127 = .ok (.lconst 0, 1) := dk_9 (dk_at dksX8_prices_5 10 rfl rfl)
theorem dX8_prices_128 : decode cX8_prices 128 = .ok (.lcmp, 1) := dk_148 (dk_at dksX8_prices_5 11 rfl rfl)
theorem dX8_prices_129 : decode cX8_prices 129 = .ok (.ifCond .lt 18, 3) := dk_155 0 18 (dk_at dksX8_prices_5 12 rfl rfl)
theorem dX8_prices_132 : decode cX8_prices 132 = .ok (.lload 6, 2) := dk_22 6 (dk_at dksX8_prices_5 15 rfl rfl)
theorem dX8_prices_134 : decode cX8_prices 134 = .ok (.aload_n 0, 1) := dk_42 (dk_at dksX8_prices_5 17 rfl rfl)
theorem dX8_prices_135 : decode cX8_prices 135 = .ok (.getfield 127, 3) := dk_180 0 127 (dk_at dksX8_prices_5 18 rfl rfl)
theorem dX8_prices_138 : decode cX8_prices 138 = .ok (.iload_n 2, 1) := dk_28 (dk_at dksX8_prices_5 21 rfl rfl)
theorem dX8_prices_139 : decode cX8_prices 139 = .ok (.laload, 1) := dk_47 (dk_at dksX8_prices_5 22 rfl rfl)
theorem dX8_prices_140 : decode cX8_prices 140 = .ok (.lcmp, 1) := dk_148 (dk_at dksX8_prices_5 23 rfl rfl)
theorem dX8_prices_141 : decode cX8_prices 141 = .ok (.ifCond .lt 6, 3) := dk_155 0 6 (dk_at dksX8_prices_6 0 rfl rfl)
theorem dX8_prices_144 : decode cX8_prices 144 = .ok (.goto 13, 3) := dk_167 0 13 (dk_at dksX8_prices_6 3 rfl rfl)
theorem dX8_prices_147 : decode cX8_prices 147 = .ok (.aload_n 0, 1) := dk_42 (dk_at dksX8_prices_6 6 rfl rfl)
theorem dX8_prices_148 : decode cX8_prices 148 = .ok (.getfield 127, 3) := dk_180 0 127 (dk_at dksX8_prices_6 7 rfl rfl)
theorem dX8_prices_151 : decode cX8_prices 151 = .ok (.iload_n 2, 1) := dk_28 (dk_at dksX8_prices_6 10 rfl rfl)
theorem dX8_prices_152 : decode cX8_prices 152 = .ok (.lload 6, 2) := dk_22 6 (dk_at dksX8_prices_6 11 rfl rfl)
theorem dX8_prices_154 : decode cX8_prices 154 = .ok (.lastore, 1) := dk_80 (dk_at dksX8_prices_6 13 rfl rfl)
theorem dX8_prices_155 : decode cX8_prices 155 = .ok (.iconst 1, 1) := dk_4 (dk_at dksX8_prices_6 14 rfl rfl)
theorem dX8_prices_156 : decode cX8_prices 156 = .ok (.istore_n 1, 1) := dk_60 (dk_at dksX8_prices_6 15 rfl rfl)
theorem dX8_prices_157 : decode cX8_prices 157 = .ok (.iinc 3 1, 3) := dk_132 3 1 (dk_at dksX8_prices_6 16 rfl rfl)
theorem dX8_prices_160 : decode cX8_prices 160 = .ok (.goto (-96), 3) := dk_167 255 160 (dk_at dksX8_prices_6 19 rfl rfl)
theorem dX8_prices_163 : decode cX8_prices 163 = .ok (.iinc 2 (-1), 3) := dk_132 2 255 (dk_at dksX8_prices_7 0 rfl rfl)
theorem dX8_prices_166 : decode cX8_prices 166 = .ok (.goto (-113), 3) := dk_167 255 143 (dk_at dksX8_prices_7 3 rfl rfl)
theorem dX8_prices_169 : decode cX8_prices 169 = .ok (.goto (-129), 3) := dk_167 255 127 (dk_at dksX8_prices_7 6 rfl rfl)
theorem dX8_prices_172 : decode cX8_prices 172 = .ok (.return_, 1) := dk_177 (dk_at dksX8_prices_7 9 rfl rfl)
abbrev cX8_ways : ByteArray := prog_19_method_79_code
def yX8_ways : MethodName := ⟨RX8, "ways", "()I"⟩
def dkwX8_ways_8 : List UInt8 := [167, 255, 114, 132, 1, 1, 167, 255, 96, 42, 180, 0, 152, 3, 46, 172]
abbrev dktX8_ways_8 : List UInt8 := dkwX8_ways_8 ++ []
def dkwX8_ways_7 : List UInt8 := [46, 42, 180, 0, 152, 42, 180, 0, 124, 29, 46, 46, 96, 79, 132, 3, 1, 167, 255, 163, 132, 2, 1]
abbrev dktX8_ways_7 : List UInt8 := dkwX8_ways_7 ++ dktX8_ways_8
def dkwX8_ways_6 : List UInt8 := [180, 0, 152, 42, 180, 0, 124, 29, 46, 46, 162, 0, 9, 19, 1, 221, 167, 0, 21, 42, 180, 0, 152, 28]
abbrev dktX8_ways_6 : List UInt8 := dkwX8_ways_6 ++ dktX8_ways_7
def dkwX8_ways_5 : List UInt8 := [159, 0, 6, 167, 0, 57, 42, 180, 0, 152, 28, 19, 1, 221, 42, 180, 0, 152, 28, 46, 100, 42]
abbrev dktX8_ways_5 : List UInt8 := dkwX8_ways_5 ++ dktX8_ways_6
def dkwX8_ways_4 : List UInt8 := [46, 162, 0, 87, 27, 158, 0, 83, 42, 180, 0, 108, 42, 180, 0, 124, 29, 46, 46, 27, 4, 100]
abbrev dktX8_ways_4 : List UInt8 := dkwX8_ways_4 ++ dktX8_ways_5
def dkwX8_ways_3 : List UInt8 := [154, 0, 7, 4, 167, 0, 4, 3, 79, 42, 180, 0, 102, 28, 46, 62, 29, 42, 180, 0, 102, 28, 4, 96]
abbrev dktX8_ways_3 : List UInt8 := dkwX8_ways_3 ++ dktX8_ways_4
def dkwX8_ways_2 : List UInt8 := [162, 0, 140, 42, 180, 0, 108, 28, 46, 27, 159, 0, 6, 167, 0, 121, 42, 180, 0, 152, 28, 27]
abbrev dktX8_ways_2 : List UInt8 := dkwX8_ways_2 ++ dktX8_ways_3
def dkwX8_ways_1 : List UInt8 := [160, 0, 5, 3, 172, 3, 60, 27, 42, 180, 0, 108, 3, 46, 163, 0, 156, 3, 61, 28, 42, 180, 1, 164]
abbrev dktX8_ways_1 : List UInt8 := dkwX8_ways_1 ++ dktX8_ways_2
def dkwX8_ways_0 : List UInt8 := [42, 3, 181, 0, 173, 42, 182, 1, 196, 154, 0, 6, 16, 254, 172, 42, 180, 0, 108, 3, 46, 2]
abbrev dktX8_ways_0 : List UInt8 := dkwX8_ways_0 ++ dktX8_ways_1
theorem dksX8_ways_0 : cX8_ways.data.toList.drop 0 = dktX8_ways_0 := by decide +kernel
theorem dksX8_ways_1 : cX8_ways.data.toList.drop 22 = dktX8_ways_1 := dk_seg dksX8_ways_0 22 rfl rfl
theorem dksX8_ways_2 : cX8_ways.data.toList.drop 46 = dktX8_ways_2 := dk_seg dksX8_ways_1 24 rfl rfl
theorem dksX8_ways_3 : cX8_ways.data.toList.drop 68 = dktX8_ways_3 := dk_seg dksX8_ways_2 22 rfl rfl
theorem dksX8_ways_4 : cX8_ways.data.toList.drop 92 = dktX8_ways_4 := dk_seg dksX8_ways_3 24 rfl rfl
theorem dksX8_ways_5 : cX8_ways.data.toList.drop 114 = dktX8_ways_5 := dk_seg dksX8_ways_4 22 rfl rfl
theorem dksX8_ways_6 : cX8_ways.data.toList.drop 136 = dktX8_ways_6 := dk_seg dksX8_ways_5 22 rfl rfl
theorem dksX8_ways_7 : cX8_ways.data.toList.drop 160 = dktX8_ways_7 := dk_seg dksX8_ways_6 24 rfl rfl
theorem dksX8_ways_8 : cX8_ways.data.toList.drop 183 = dktX8_ways_8 := dk_seg dksX8_ways_7 23 rfl rfl
theorem dX8_ways_0 : decode cX8_ways 0 = .ok (.aload_n 0, 1) := dk_42 (dk_at dksX8_ways_0 0 rfl rfl)
theorem dX8_ways_1 : decode cX8_ways 1 = .ok (.iconst 0, 1) := dk_3 (dk_at dksX8_ways_0 1 rfl rfl)
theorem dX8_ways_2 : decode cX8_ways 2 = .ok (.putfield 173, 3) := dk_181 0 173 (dk_at dksX8_ways_0 2 rfl rfl)
theorem dX8_ways_5 : decode cX8_ways 5 = .ok (.aload_n 0, 1) := dk_42 (dk_at dksX8_ways_0 5 rfl rfl)
theorem dX8_ways_6 : decode cX8_ways 6 = .ok (.invokevirtual 452, 3) := dk_182 1 196 (dk_at dksX8_ways_0 6 rfl rfl)
theorem dX8_ways_9 : decode cX8_ways 9 = .ok (.ifCond .ne 6, 3) := dk_154 0 6 (dk_at dksX8_ways_0 9 rfl rfl)
theorem dX8_ways_12 : decode cX8_ways 12 = .ok (.bipush (-2), 2) := dk_16 254 (dk_at dksX8_ways_0 12 rfl rfl)
theorem dX8_ways_14 : decode cX8_ways 14 = .ok (.ireturn, 1) := dk_172 (dk_at dksX8_ways_0 14 rfl rfl)
theorem dX8_ways_15 : decode cX8_ways 15 = .ok (.aload_n 0, 1) := dk_42 (dk_at dksX8_ways_0 15 rfl rfl)
theorem dX8_ways_16 : decode cX8_ways 16 = .ok (.getfield 108, 3) := dk_180 0 108 (dk_at dksX8_ways_0 16 rfl rfl)
theorem dX8_ways_19 : decode cX8_ways 19 = .ok (.iconst 0, 1) := dk_3 (dk_at dksX8_ways_0 19 rfl rfl)
theorem dX8_ways_20 : decode cX8_ways 20 = .ok (.iaload, 1) := dk_46 (dk_at dksX8_ways_0 20 rfl rfl)
theorem dX8_ways_21 : decode cX8_ways 21 = .ok (.iconst (-1), 1) := dk_2 (dk_at dksX8_ways_0 21 rfl rfl)
theorem dX8_ways_22 : decode cX8_ways 22 = .ok (.if_icmp .ne 5, 3) := dk_160 0 5 (dk_at dksX8_ways_1 0 rfl rfl)
theorem dX8_ways_25 : decode cX8_ways 25 = .ok (.iconst 0, 1) := dk_3 (dk_at dksX8_ways_1 3 rfl rfl)
theorem dX8_ways_26 : decode cX8_ways 26 = .ok (.ireturn, 1) := dk_172 (dk_at dksX8_ways_1 4 rfl rfl)
theorem dX8_ways_27 : decode cX8_ways 27 = .ok (.iconst 0, 1) := dk_3 (dk_at dksX8_ways_1 5 rfl rfl)
theorem dX8_ways_28 : decode cX8_ways 28 = .ok (.istore_n 1, 1) := dk_60 (dk_at dksX8_ways_1 6 rfl rfl)
theorem dX8_ways_29 : decode cX8_ways 29 = .ok (.iload_n 1, 1) := dk_27 (dk_at dksX8_ways_1 7 rfl rfl)
theorem dX8_ways_30 : decode cX8_ways 30 = .ok (.aload_n 0, 1) := dk_42 (dk_at dksX8_ways_1 8 rfl rfl)
theorem dX8_ways_31 : decode cX8_ways 31 = .ok (.getfield 108, 3) := dk_180 0 108 (dk_at dksX8_ways_1 9 rfl rfl)
theorem dX8_ways_34 : decode cX8_ways 34 = .ok (.iconst 0, 1) := dk_3 (dk_at dksX8_ways_1 12 rfl rfl)
theorem dX8_ways_35 : decode cX8_ways 35 = .ok (.iaload, 1) := dk_46 (dk_at dksX8_ways_1 13 rfl rfl)
theorem dX8_ways_36 : decode cX8_ways 36 = .ok (.if_icmp .gt 156, 3) := dk_163 0 156 (dk_at dksX8_ways_1 14 rfl rfl)
theorem dX8_ways_39 : decode cX8_ways 39 = .ok (.iconst 0, 1) := dk_3 (dk_at dksX8_ways_1 17 rfl rfl)
theorem dX8_ways_40 : decode cX8_ways 40 = .ok (.istore_n 2, 1) := dk_61 (dk_at dksX8_ways_1 18 rfl rfl)
theorem dX8_ways_41 : decode cX8_ways 41 = .ok (.iload_n 2, 1) := dk_28 (dk_at dksX8_ways_1 19 rfl rfl)
theorem dX8_ways_42 : decode cX8_ways 42 = .ok (.aload_n 0, 1) := dk_42 (dk_at dksX8_ways_1 20 rfl rfl)
theorem dX8_ways_43 : decode cX8_ways 43 = .ok (.getfield 420, 3) := dk_180 1 164 (dk_at dksX8_ways_1 21 rfl rfl)
theorem dX8_ways_46 : decode cX8_ways 46 = .ok (.if_icmp .ge 140, 3) := dk_162 0 140 (dk_at dksX8_ways_2 0 rfl rfl)
theorem dX8_ways_49 : decode cX8_ways 49 = .ok (.aload_n 0, 1) := dk_42 (dk_at dksX8_ways_2 3 rfl rfl)
theorem dX8_ways_50 : decode cX8_ways 50 = .ok (.getfield 108, 3) := dk_180 0 108 (dk_at dksX8_ways_2 4 rfl rfl)
theorem dX8_ways_53 : decode cX8_ways 53 = .ok (.iload_n 2, 1) := dk_28 (dk_at dksX8_ways_2 7 rfl rfl)
theorem dX8_ways_54 : decode cX8_ways 54 = .ok (.iaload, 1) := dk_46 (dk_at dksX8_ways_2 8 rfl rfl)
theorem dX8_ways_55 : decode cX8_ways 55 = .ok (.iload_n 1, 1) := dk_27 (dk_at dksX8_ways_2 9 rfl rfl)
theorem dX8_ways_56 : decode cX8_ways 56 = .ok (.if_icmp .eq 6, 3) := dk_159 0 6 (dk_at dksX8_ways_2 10 rfl rfl)
theorem dX8_ways_59 : decode cX8_ways 59 = .ok (.goto 121, 3) := dk_167 0 121 (dk_at dksX8_ways_2 13 rfl rfl)
theorem dX8_ways_62 : decode cX8_ways 62 = .ok (.aload_n 0, 1) := dk_42 (dk_at dksX8_ways_2 16 rfl rfl)
theorem dX8_ways_63 : decode cX8_ways 63 = .ok (.getfield 152, 3) := dk_180 0 152 (dk_at dksX8_ways_2 17 rfl rfl)
theorem dX8_ways_66 : decode cX8_ways 66 = .ok (.iload_n 2, 1) := dk_28 (dk_at dksX8_ways_2 20 rfl rfl)
theorem dX8_ways_67 : decode cX8_ways 67 = .ok (.iload_n 1, 1) := dk_27 (dk_at dksX8_ways_2 21 rfl rfl)
theorem dX8_ways_68 : decode cX8_ways 68 = .ok (.ifCond .ne 7, 3) := dk_154 0 7 (dk_at dksX8_ways_3 0 rfl rfl)
theorem dX8_ways_71 : decode cX8_ways 71 = .ok (.iconst 1, 1) := dk_4 (dk_at dksX8_ways_3 3 rfl rfl)
theorem dX8_ways_72 : decode cX8_ways 72 = .ok (.goto 4, 3) := dk_167 0 4 (dk_at dksX8_ways_3 4 rfl rfl)
theorem dX8_ways_75 : decode cX8_ways 75 = .ok (.iconst 0, 1) := dk_3 (dk_at dksX8_ways_3 7 rfl rfl)
theorem dX8_ways_76 : decode cX8_ways 76 = .ok (.iastore, 1) := dk_79 (dk_at dksX8_ways_3 8 rfl rfl)
theorem dX8_ways_77 : decode cX8_ways 77 = .ok (.aload_n 0, 1) := dk_42 (dk_at dksX8_ways_3 9 rfl rfl)
theorem dX8_ways_78 : decode cX8_ways 78 = .ok (.getfield 102, 3) := dk_180 0 102 (dk_at dksX8_ways_3 10 rfl rfl)
theorem dX8_ways_81 : decode cX8_ways 81 = .ok (.iload_n 2, 1) := dk_28 (dk_at dksX8_ways_3 13 rfl rfl)
theorem dX8_ways_82 : decode cX8_ways 82 = .ok (.iaload, 1) := dk_46 (dk_at dksX8_ways_3 14 rfl rfl)
theorem dX8_ways_83 : decode cX8_ways 83 = .ok (.istore_n 3, 1) := dk_62 (dk_at dksX8_ways_3 15 rfl rfl)
theorem dX8_ways_84 : decode cX8_ways 84 = .ok (.iload_n 3, 1) := dk_29 (dk_at dksX8_ways_3 16 rfl rfl)
theorem dX8_ways_85 : decode cX8_ways 85 = .ok (.aload_n 0, 1) := dk_42 (dk_at dksX8_ways_3 17 rfl rfl)
theorem dX8_ways_86 : decode cX8_ways 86 = .ok (.getfield 102, 3) := dk_180 0 102 (dk_at dksX8_ways_3 18 rfl rfl)
theorem dX8_ways_89 : decode cX8_ways 89 = .ok (.iload_n 2, 1) := dk_28 (dk_at dksX8_ways_3 21 rfl rfl)
theorem dX8_ways_90 : decode cX8_ways 90 = .ok (.iconst 1, 1) := dk_4 (dk_at dksX8_ways_3 22 rfl rfl)
theorem dX8_ways_91 : decode cX8_ways 91 = .ok (.iadd, 1) := dk_96 (dk_at dksX8_ways_3 23 rfl rfl)
theorem dX8_ways_92 : decode cX8_ways 92 = .ok (.iaload, 1) := dk_46 (dk_at dksX8_ways_4 0 rfl rfl)
theorem dX8_ways_93 : decode cX8_ways 93 = .ok (.if_icmp .ge 87, 3) := dk_162 0 87 (dk_at dksX8_ways_4 1 rfl rfl)
theorem dX8_ways_96 : decode cX8_ways 96 = .ok (.iload_n 1, 1) := dk_27 (dk_at dksX8_ways_4 4 rfl rfl)
theorem dX8_ways_97 : decode cX8_ways 97 = .ok (.ifCond .le 83, 3) := dk_158 0 83 (dk_at dksX8_ways_4 5 rfl rfl)
theorem dX8_ways_100 : decode cX8_ways 100 = .ok (.aload_n 0, 1) := dk_42 (dk_at dksX8_ways_4 8 rfl rfl)
theorem dX8_ways_101 : decode cX8_ways 101 = .ok (.getfield 108, 3) := dk_180 0 108 (dk_at dksX8_ways_4 9 rfl rfl)
theorem dX8_ways_104 : decode cX8_ways 104 = .ok (.aload_n 0, 1) := dk_42 (dk_at dksX8_ways_4 12 rfl rfl)
theorem dX8_ways_105 : decode cX8_ways 105 = .ok (.getfield 124, 3) := dk_180 0 124 (dk_at dksX8_ways_4 13 rfl rfl)
theorem dX8_ways_108 : decode cX8_ways 108 = .ok (.iload_n 3, 1) := dk_29 (dk_at dksX8_ways_4 16 rfl rfl)
theorem dX8_ways_109 : decode cX8_ways 109 = .ok (.iaload, 1) := dk_46 (dk_at dksX8_ways_4 17 rfl rfl)
theorem dX8_ways_110 : decode cX8_ways 110 = .ok (.iaload, 1) := dk_46 (dk_at dksX8_ways_4 18 rfl rfl)
theorem dX8_ways_111 : decode cX8_ways 111 = .ok (.iload_n 1, 1) := dk_27 (dk_at dksX8_ways_4 19 rfl rfl)
theorem dX8_ways_112 : decode cX8_ways 112 = .ok (.iconst 1, 1) := dk_4 (dk_at dksX8_ways_4 20 rfl rfl)
theorem dX8_ways_113 : decode cX8_ways 113 = .ok (.isub, 1) := dk_100 (dk_at dksX8_ways_4 21 rfl rfl)
theorem dX8_ways_114 : decode cX8_ways 114 = .ok (.if_icmp .eq 6, 3) := dk_159 0 6 (dk_at dksX8_ways_5 0 rfl rfl)
theorem dX8_ways_117 : decode cX8_ways 117 = .ok (.goto 57, 3) := dk_167 0 57 (dk_at dksX8_ways_5 3 rfl rfl)
theorem dX8_ways_120 : decode cX8_ways 120 = .ok (.aload_n 0, 1) := dk_42 (dk_at dksX8_ways_5 6 rfl rfl)
theorem dX8_ways_121 : decode cX8_ways 121 = .ok (.getfield 152, 3) := dk_180 0 152 (dk_at dksX8_ways_5 7 rfl rfl)
theorem dX8_ways_124 : decode cX8_ways 124 = .ok (.iload_n 2, 1) := dk_28 (dk_at dksX8_ways_5 10 rfl rfl)
theorem dX8_ways_125 : decode cX8_ways 125 = .ok (.ldc_w 477, 3) := dk_19 1 221 (dk_at dksX8_ways_5 11 rfl rfl)
theorem dX8_ways_128 : decode cX8_ways 128 = .ok (.aload_n 0, 1) := dk_42 (dk_at dksX8_ways_5 14 rfl rfl)
theorem dX8_ways_129 : decode cX8_ways 129 = .ok (.getfield 152, 3) := dk_180 0 152 (dk_at dksX8_ways_5 15 rfl rfl)
theorem dX8_ways_132 : decode cX8_ways 132 = .ok (.iload_n 2, 1) := dk_28 (dk_at dksX8_ways_5 18 rfl rfl)
theorem dX8_ways_133 : decode cX8_ways 133 = .ok (.iaload, 1) := dk_46 (dk_at dksX8_ways_5 19 rfl rfl)
theorem dX8_ways_134 : decode cX8_ways 134 = .ok (.isub, 1) := dk_100 (dk_at dksX8_ways_5 20 rfl rfl)
theorem dX8_ways_135 : decode cX8_ways 135 = .ok (.aload_n 0, 1) := dk_42 (dk_at dksX8_ways_5 21 rfl rfl)
theorem dX8_ways_136 : decode cX8_ways 136 = .ok (.getfield 152, 3) := dk_180 0 152 (dk_at dksX8_ways_6 0 rfl rfl)
theorem dX8_ways_139 : decode cX8_ways 139 = .ok (.aload_n 0, 1) := dk_42 (dk_at dksX8_ways_6 3 rfl rfl)
theorem dX8_ways_140 : decode cX8_ways 140 = .ok (.getfield 124, 3) := dk_180 0 124 (dk_at dksX8_ways_6 4 rfl rfl)
theorem dX8_ways_143 : decode cX8_ways 143 = .ok (.iload_n 3, 1) := dk_29 (dk_at dksX8_ways_6 7 rfl rfl)
theorem dX8_ways_144 : decode cX8_ways 144 = .ok (.iaload, 1) := dk_46 (dk_at dksX8_ways_6 8 rfl rfl)
theorem dX8_ways_145 : decode cX8_ways 145 = .ok (.iaload, 1) := dk_46 (dk_at dksX8_ways_6 9 rfl rfl)
theorem dX8_ways_146 : decode cX8_ways 146 = .ok (.if_icmp .ge 9, 3) := dk_162 0 9 (dk_at dksX8_ways_6 10 rfl rfl)
theorem dX8_ways_149 : decode cX8_ways 149 = .ok (.ldc_w 477, 3) := dk_19 1 221 (dk_at dksX8_ways_6 13 rfl rfl)
theorem dX8_ways_152 : decode cX8_ways 152 = .ok (.goto 21, 3) := dk_167 0 21 (dk_at dksX8_ways_6 16 rfl rfl)
theorem dX8_ways_155 : decode cX8_ways 155 = .ok (.aload_n 0, 1) := dk_42 (dk_at dksX8_ways_6 19 rfl rfl)
theorem dX8_ways_156 : decode cX8_ways 156 = .ok (.getfield 152, 3) := dk_180 0 152 (dk_at dksX8_ways_6 20 rfl rfl)
theorem dX8_ways_159 : decode cX8_ways 159 = .ok (.iload_n 2, 1) := dk_28 (dk_at dksX8_ways_6 23 rfl rfl)
theorem dX8_ways_160 : decode cX8_ways 160 = .ok (.iaload, 1) := dk_46 (dk_at dksX8_ways_7 0 rfl rfl)
theorem dX8_ways_161 : decode cX8_ways 161 = .ok (.aload_n 0, 1) := dk_42 (dk_at dksX8_ways_7 1 rfl rfl)
theorem dX8_ways_162 : decode cX8_ways 162 = .ok (.getfield 152, 3) := dk_180 0 152 (dk_at dksX8_ways_7 2 rfl rfl)
theorem dX8_ways_165 : decode cX8_ways 165 = .ok (.aload_n 0, 1) := dk_42 (dk_at dksX8_ways_7 5 rfl rfl)
theorem dX8_ways_166 : decode cX8_ways 166 = .ok (.getfield 124, 3) := dk_180 0 124 (dk_at dksX8_ways_7 6 rfl rfl)
theorem dX8_ways_169 : decode cX8_ways 169 = .ok (.iload_n 3, 1) := dk_29 (dk_at dksX8_ways_7 9 rfl rfl)
theorem dX8_ways_170 : decode cX8_ways 170 = .ok (.iaload, 1) := dk_46 (dk_at dksX8_ways_7 10 rfl rfl)
theorem dX8_ways_171 : decode cX8_ways 171 = .ok (.iaload, 1) := dk_46 (dk_at dksX8_ways_7 11 rfl rfl)
theorem dX8_ways_172 : decode cX8_ways 172 = .ok (.iadd, 1) := dk_96 (dk_at dksX8_ways_7 12 rfl rfl)
theorem dX8_ways_173 : decode cX8_ways 173 = .ok (.iastore, 1) := dk_79 (dk_at dksX8_ways_7 13 rfl rfl)
theorem dX8_ways_174 : decode cX8_ways 174 = .ok (.iinc 3 1, 3) := dk_132 3 1 (dk_at dksX8_ways_7 14 rfl rfl)
theorem dX8_ways_177 : decode cX8_ways 177 = .ok (.goto (-93), 3) := dk_167 255 163 (dk_at dksX8_ways_7 17 rfl rfl)
theorem dX8_ways_180 : decode cX8_ways 180 = .ok (.iinc 2 1, 3) := dk_132 2 1 (dk_at dksX8_ways_7 20 rfl rfl)
theorem dX8_ways_183 : decode cX8_ways 183 = .ok (.goto (-142), 3) := dk_167 255 114 (dk_at dksX8_ways_8 0 rfl rfl)
theorem dX8_ways_186 : decode cX8_ways 186 = .ok (.iinc 1 1, 3) := dk_132 1 1 (dk_at dksX8_ways_8 3 rfl rfl)
theorem dX8_ways_189 : decode cX8_ways 189 = .ok (.goto (-160), 3) := dk_167 255 96 (dk_at dksX8_ways_8 6 rfl rfl)
theorem dX8_ways_192 : decode cX8_ways 192 = .ok (.aload_n 0, 1) := dk_42 (dk_at dksX8_ways_8 9 rfl rfl)
theorem dX8_ways_193 : decode cX8_ways 193 = .ok (.getfield 152, 3) := dk_180 0 152 (dk_at dksX8_ways_8 10 rfl rfl)
theorem dX8_ways_196 : decode cX8_ways 196 = .ok (.iconst 0, 1) := dk_3 (dk_at dksX8_ways_8 13 rfl rfl)
theorem dX8_ways_197 : decode cX8_ways 197 = .ok (.iaload, 1) := dk_46 (dk_at dksX8_ways_8 14 rfl rfl)
theorem dX8_ways_198 : decode cX8_ways 198 = .ok (.ireturn, 1) := dk_172 (dk_at dksX8_ways_8 15 rfl rfl)
abbrev cX8_way : ByteArray := prog_19_method_80_code
def yX8_way : MethodName := ⟨RX8, "way", "(II)I"⟩
def dkwX8_way_6 : List UInt8 := [132, 4, 1, 167, 255, 234, 28, 154, 0, 10, 42, 180, 1, 199, 167, 0, 4, 29, 172]
abbrev dktX8_way_6 : List UInt8 := dkwX8_way_6 ++ []
def dkwX8_way_5 : List UInt8 := [3, 62, 3, 54, 4, 21, 4, 42, 180, 1, 199, 162, 0, 19, 29, 42, 180, 0, 146, 21, 4, 46, 96, 62]
abbrev dktX8_way_5 : List UInt8 := dkwX8_way_5 ++ dktX8_way_6
def dkwX8_way_4 : List UInt8 := [167, 0, 23, 28, 5, 160, 0, 12, 42, 180, 0, 143, 27, 46, 167, 0, 9, 42, 180, 0, 146, 27, 46, 172]
abbrev dktX8_way_4 : List UInt8 := dkwX8_way_4 ++ dktX8_way_5
def dkwX8_way_3 : List UInt8 := [154, 0, 12, 42, 180, 0, 137, 27, 46, 167, 0, 37, 28, 4, 160, 0, 12, 42, 180, 0, 140, 27, 46]
abbrev dktX8_way_3 : List UInt8 := dkwX8_way_3 ++ dktX8_way_4
def dkwX8_way_2 : List UInt8 := [160, 0, 7, 4, 167, 0, 4, 3, 4, 182, 1, 72, 154, 0, 5, 3, 172, 27, 155, 0, 51, 28]
abbrev dktX8_way_2 : List UInt8 := dkwX8_way_2 ++ dktX8_way_3
def dkwX8_way_1 : List UInt8 := [162, 0, 29, 28, 155, 0, 25, 28, 6, 163, 0, 20, 27, 156, 0, 12, 28, 153, 0, 8, 28, 6]
abbrev dktX8_way_1 : List UInt8 := dkwX8_way_1 ++ dktX8_way_2
def dkwX8_way_0 : List UInt8 := [42, 3, 181, 0, 173, 42, 42, 180, 1, 199, 2, 159, 0, 42, 27, 2, 161, 0, 37, 27, 42, 180, 1, 199]
abbrev dktX8_way_0 : List UInt8 := dkwX8_way_0 ++ dktX8_way_1
theorem dksX8_way_0 : cX8_way.data.toList.drop 0 = dktX8_way_0 := by decide +kernel
theorem dksX8_way_1 : cX8_way.data.toList.drop 24 = dktX8_way_1 := dk_seg dksX8_way_0 24 rfl rfl
theorem dksX8_way_2 : cX8_way.data.toList.drop 46 = dktX8_way_2 := dk_seg dksX8_way_1 22 rfl rfl
theorem dksX8_way_3 : cX8_way.data.toList.drop 68 = dktX8_way_3 := dk_seg dksX8_way_2 22 rfl rfl
theorem dksX8_way_4 : cX8_way.data.toList.drop 91 = dktX8_way_4 := dk_seg dksX8_way_3 23 rfl rfl
theorem dksX8_way_5 : cX8_way.data.toList.drop 115 = dktX8_way_5 := dk_seg dksX8_way_4 24 rfl rfl
theorem dksX8_way_6 : cX8_way.data.toList.drop 139 = dktX8_way_6 := dk_seg dksX8_way_5 24 rfl rfl
theorem dX8_way_0 : decode cX8_way 0 = .ok (.aload_n 0, 1) := dk_42 (dk_at dksX8_way_0 0 rfl rfl)
theorem dX8_way_1 : decode cX8_way 1 = .ok (.iconst 0, 1) := dk_3 (dk_at dksX8_way_0 1 rfl rfl)
theorem dX8_way_2 : decode cX8_way 2 = .ok (.putfield 173, 3) := dk_181 0 173 (dk_at dksX8_way_0 2 rfl rfl)
theorem dX8_way_5 : decode cX8_way 5 = .ok (.aload_n 0, 1) := dk_42 (dk_at dksX8_way_0 5 rfl rfl)
theorem dX8_way_6 : decode cX8_way 6 = .ok (.aload_n 0, 1) := dk_42 (dk_at dksX8_way_0 6 rfl rfl)
theorem dX8_way_7 : decode cX8_way 7 = .ok (.getfield 455, 3) := dk_180 1 199 (dk_at dksX8_way_0 7 rfl rfl)
theorem dX8_way_10 : decode cX8_way 10 = .ok (.iconst (-1), 1) := dk_2 (dk_at dksX8_way_0 10 rfl rfl)
theorem dX8_way_11 : decode cX8_way 11 = .ok (.if_icmp .eq 42, 3) := dk_159 0 42 (dk_at dksX8_way_0 11 rfl rfl)
theorem dX8_way_14 : decode cX8_way 14 = .ok (.iload_n 1, 1) := dk_27 (dk_at dksX8_way_0 14 rfl rfl)
theorem dX8_way_15 : decode cX8_way 15 = .ok (.iconst (-1), 1) := dk_2 (dk_at dksX8_way_0 15 rfl rfl)
theorem dX8_way_16 : decode cX8_way 16 = .ok (.if_icmp .lt 37, 3) := dk_161 0 37 (dk_at dksX8_way_0 16 rfl rfl)
theorem dX8_way_19 : decode cX8_way 19 = .ok (.iload_n 1, 1) := dk_27 (dk_at dksX8_way_0 19 rfl rfl)
theorem dX8_way_20 : decode cX8_way 20 = .ok (.aload_n 0, 1) := dk_42 (dk_at dksX8_way_0 20 rfl rfl)
theorem dX8_way_21 : decode cX8_way 21 = .ok (.getfield 455, 3) := dk_180 1 199 (dk_at dksX8_way_0 21 rfl rfl)
theorem dX8_way_24 : decode cX8_way 24 = .ok (.if_icmp .ge 29, 3) := dk_162 0 29 (dk_at dksX8_way_1 0 rfl rfl)
theorem dX8_way_27 : decode cX8_way 27 = .ok (.iload_n 2, 1) := dk_28 (dk_at dksX8_way_1 3 rfl rfl)
theorem dX8_way_28 : decode cX8_way 28 = .ok (.ifCond .lt 25, 3) := dk_155 0 25 (dk_at dksX8_way_1 4 rfl rfl)
theorem dX8_way_31 : decode cX8_way 31 = .ok (.iload_n 2, 1) := dk_28 (dk_at dksX8_way_1 7 rfl rfl)
theorem dX8_way_32 : decode cX8_way 32 = .ok (.iconst 3, 1) := dk_6 (dk_at dksX8_way_1 8 rfl rfl)
theorem dX8_way_33 : decode cX8_way 33 = .ok (.if_icmp .gt 20, 3) := dk_163 0 20 (dk_at dksX8_way_1 9 rfl rfl)
theorem dX8_way_36 : decode cX8_way 36 = .ok (.iload_n 1, 1) := dk_27 (dk_at dksX8_way_1 12 rfl rfl)
theorem dX8_way_37 : decode cX8_way 37 = .ok (.ifCond .ge 12, 3) := dk_156 0 12 (dk_at dksX8_way_1 13 rfl rfl)
theorem dX8_way_40 : decode cX8_way 40 = .ok (.iload_n 2, 1) := dk_28 (dk_at dksX8_way_1 16 rfl rfl)
theorem dX8_way_41 : decode cX8_way 41 = .ok (.ifCond .eq 8, 3) := dk_153 0 8 (dk_at dksX8_way_1 17 rfl rfl)
theorem dX8_way_44 : decode cX8_way 44 = .ok (.iload_n 2, 1) := dk_28 (dk_at dksX8_way_1 20 rfl rfl)
theorem dX8_way_45 : decode cX8_way 45 = .ok (.iconst 3, 1) := dk_6 (dk_at dksX8_way_1 21 rfl rfl)
theorem dX8_way_46 : decode cX8_way 46 = .ok (.if_icmp .ne 7, 3) := dk_160 0 7 (dk_at dksX8_way_2 0 rfl rfl)
theorem dX8_way_49 : decode cX8_way 49 = .ok (.iconst 1, 1) := dk_4 (dk_at dksX8_way_2 3 rfl rfl)
theorem dX8_way_50 : decode cX8_way 50 = .ok (.goto 4, 3) := dk_167 0 4 (dk_at dksX8_way_2 4 rfl rfl)
theorem dX8_way_53 : decode cX8_way 53 = .ok (.iconst 0, 1) := dk_3 (dk_at dksX8_way_2 7 rfl rfl)
theorem dX8_way_54 : decode cX8_way 54 = .ok (.iconst 1, 1) := dk_4 (dk_at dksX8_way_2 8 rfl rfl)
theorem dX8_way_55 : decode cX8_way 55 = .ok (.invokevirtual 328, 3) := dk_182 1 72 (dk_at dksX8_way_2 9 rfl rfl)
theorem dX8_way_58 : decode cX8_way 58 = .ok (.ifCond .ne 5, 3) := dk_154 0 5 (dk_at dksX8_way_2 12 rfl rfl)
theorem dX8_way_61 : decode cX8_way 61 = .ok (.iconst 0, 1) := dk_3 (dk_at dksX8_way_2 15 rfl rfl)
theorem dX8_way_62 : decode cX8_way 62 = .ok (.ireturn, 1) := dk_172 (dk_at dksX8_way_2 16 rfl rfl)
theorem dX8_way_63 : decode cX8_way 63 = .ok (.iload_n 1, 1) := dk_27 (dk_at dksX8_way_2 17 rfl rfl)
theorem dX8_way_64 : decode cX8_way 64 = .ok (.ifCond .lt 51, 3) := dk_155 0 51 (dk_at dksX8_way_2 18 rfl rfl)
theorem dX8_way_67 : decode cX8_way 67 = .ok (.iload_n 2, 1) := dk_28 (dk_at dksX8_way_2 21 rfl rfl)
theorem dX8_way_68 : decode cX8_way 68 = .ok (.ifCond .ne 12, 3) := dk_154 0 12 (dk_at dksX8_way_3 0 rfl rfl)
theorem dX8_way_71 : decode cX8_way 71 = .ok (.aload_n 0, 1) := dk_42 (dk_at dksX8_way_3 3 rfl rfl)
theorem dX8_way_72 : decode cX8_way 72 = .ok (.getfield 137, 3) := dk_180 0 137 (dk_at dksX8_way_3 4 rfl rfl)
theorem dX8_way_75 : decode cX8_way 75 = .ok (.iload_n 1, 1) := dk_27 (dk_at dksX8_way_3 7 rfl rfl)
theorem dX8_way_76 : decode cX8_way 76 = .ok (.iaload, 1) := dk_46 (dk_at dksX8_way_3 8 rfl rfl)
theorem dX8_way_77 : decode cX8_way 77 = .ok (.goto 37, 3) := dk_167 0 37 (dk_at dksX8_way_3 9 rfl rfl)
theorem dX8_way_80 : decode cX8_way 80 = .ok (.iload_n 2, 1) := dk_28 (dk_at dksX8_way_3 12 rfl rfl)
theorem dX8_way_81 : decode cX8_way 81 = .ok (.iconst 1, 1) := dk_4 (dk_at dksX8_way_3 13 rfl rfl)
theorem dX8_way_82 : decode cX8_way 82 = .ok (.if_icmp .ne 12, 3) := dk_160 0 12 (dk_at dksX8_way_3 14 rfl rfl)
theorem dX8_way_85 : decode cX8_way 85 = .ok (.aload_n 0, 1) := dk_42 (dk_at dksX8_way_3 17 rfl rfl)
theorem dX8_way_86 : decode cX8_way 86 = .ok (.getfield 140, 3) := dk_180 0 140 (dk_at dksX8_way_3 18 rfl rfl)
theorem dX8_way_89 : decode cX8_way 89 = .ok (.iload_n 1, 1) := dk_27 (dk_at dksX8_way_3 21 rfl rfl)
theorem dX8_way_90 : decode cX8_way 90 = .ok (.iaload, 1) := dk_46 (dk_at dksX8_way_3 22 rfl rfl)
theorem dX8_way_91 : decode cX8_way 91 = .ok (.goto 23, 3) := dk_167 0 23 (dk_at dksX8_way_4 0 rfl rfl)
theorem dX8_way_94 : decode cX8_way 94 = .ok (.iload_n 2, 1) := dk_28 (dk_at dksX8_way_4 3 rfl rfl)
theorem dX8_way_95 : decode cX8_way 95 = .ok (.iconst 2, 1) := dk_5 (dk_at dksX8_way_4 4 rfl rfl)
theorem dX8_way_96 : decode cX8_way 96 = .ok (.if_icmp .ne 12, 3) := dk_160 0 12 (dk_at dksX8_way_4 5 rfl rfl)
theorem dX8_way_99 : decode cX8_way 99 = .ok (.aload_n 0, 1) := dk_42 (dk_at dksX8_way_4 8 rfl rfl)
theorem dX8_way_100 : decode cX8_way 100 = .ok (.getfield 143, 3) := dk_180 0 143 (dk_at dksX8_way_4 9 rfl rfl)
theorem dX8_way_103 : decode cX8_way 103 = .ok (.iload_n 1, 1) := dk_27 (dk_at dksX8_way_4 12 rfl rfl)
theorem dX8_way_104 : decode cX8_way 104 = .ok (.iaload, 1) := dk_46 (dk_at dksX8_way_4 13 rfl rfl)
theorem dX8_way_105 : decode cX8_way 105 = .ok (.goto 9, 3) := dk_167 0 9 (dk_at dksX8_way_4 14 rfl rfl)
theorem dX8_way_108 : decode cX8_way 108 = .ok (.aload_n 0, 1) := dk_42 (dk_at dksX8_way_4 17 rfl rfl)
theorem dX8_way_109 : decode cX8_way 109 = .ok (.getfield 146, 3) := dk_180 0 146 (dk_at dksX8_way_4 18 rfl rfl)
theorem dX8_way_112 : decode cX8_way 112 = .ok (.iload_n 1, 1) := dk_27 (dk_at dksX8_way_4 21 rfl rfl)
theorem dX8_way_113 : decode cX8_way 113 = .ok (.iaload, 1) := dk_46 (dk_at dksX8_way_4 22 rfl rfl)
theorem dX8_way_114 : decode cX8_way 114 = .ok (.ireturn, 1) := dk_172 (dk_at dksX8_way_4 23 rfl rfl)
theorem dX8_way_115 : decode cX8_way 115 = .ok (.iconst 0, 1) := dk_3 (dk_at dksX8_way_5 0 rfl rfl)
theorem dX8_way_116 : decode cX8_way 116 = .ok (.istore_n 3, 1) := dk_62 (dk_at dksX8_way_5 1 rfl rfl)
theorem dX8_way_117 : decode cX8_way 117 = .ok (.iconst 0, 1) := dk_3 (dk_at dksX8_way_5 2 rfl rfl)
theorem dX8_way_118 : decode cX8_way 118 = .ok (.istore 4, 2) := dk_54 4 (dk_at dksX8_way_5 3 rfl rfl)
theorem dX8_way_120 : decode cX8_way 120 = .ok (.iload 4, 2) := dk_21 4 (dk_at dksX8_way_5 5 rfl rfl)
theorem dX8_way_122 : decode cX8_way 122 = .ok (.aload_n 0, 1) := dk_42 (dk_at dksX8_way_5 7 rfl rfl)
theorem dX8_way_123 : decode cX8_way 123 = .ok (.getfield 455, 3) := dk_180 1 199 (dk_at dksX8_way_5 8 rfl rfl)
theorem dX8_way_126 : decode cX8_way 126 = .ok (.if_icmp .ge 19, 3) := dk_162 0 19 (dk_at dksX8_way_5 11 rfl rfl)
theorem dX8_way_129 : decode cX8_way 129 = .ok (.iload_n 3, 1) := dk_29 (dk_at dksX8_way_5 14 rfl rfl)
theorem dX8_way_130 : decode cX8_way 130 = .ok (.aload_n 0, 1) := dk_42 (dk_at dksX8_way_5 15 rfl rfl)
theorem dX8_way_131 : decode cX8_way 131 = .ok (.getfield 146, 3) := dk_180 0 146 (dk_at dksX8_way_5 16 rfl rfl)
theorem dX8_way_134 : decode cX8_way 134 = .ok (.iload 4, 2) := dk_21 4 (dk_at dksX8_way_5 19 rfl rfl)
theorem dX8_way_136 : decode cX8_way 136 = .ok (.iaload, 1) := dk_46 (dk_at dksX8_way_5 21 rfl rfl)
theorem dX8_way_137 : decode cX8_way 137 = .ok (.iadd, 1) := dk_96 (dk_at dksX8_way_5 22 rfl rfl)
theorem dX8_way_138 : decode cX8_way 138 = .ok (.istore_n 3, 1) := dk_62 (dk_at dksX8_way_5 23 rfl rfl)
theorem dX8_way_139 : decode cX8_way 139 = .ok (.iinc 4 1, 3) := dk_132 4 1 (dk_at dksX8_way_6 0 rfl rfl)
theorem dX8_way_142 : decode cX8_way 142 = .ok (.goto (-22), 3) := dk_167 255 234 (dk_at dksX8_way_6 3 rfl rfl)
theorem dX8_way_145 : decode cX8_way 145 = .ok (.iload_n 2, 1) := dk_28 (dk_at dksX8_way_6 6 rfl rfl)
theorem dX8_way_146 : decode cX8_way 146 = .ok (.ifCond .ne 10, 3) := dk_154 0 10 (dk_at dksX8_way_6 7 rfl rfl)
theorem dX8_way_149 : decode cX8_way 149 = .ok (.aload_n 0, 1) := dk_42 (dk_at dksX8_way_6 10 rfl rfl)
theorem dX8_way_150 : decode cX8_way 150 = .ok (.getfield 455, 3) := dk_180 1 199 (dk_at dksX8_way_6 11 rfl rfl)
theorem dX8_way_153 : decode cX8_way 153 = .ok (.goto 4, 3) := dk_167 0 4 (dk_at dksX8_way_6 14 rfl rfl)
theorem dX8_way_156 : decode cX8_way 156 = .ok (.iload_n 3, 1) := dk_29 (dk_at dksX8_way_6 17 rfl rfl)
theorem dX8_way_157 : decode cX8_way 157 = .ok (.ireturn, 1) := dk_172 (dk_at dksX8_way_6 18 rfl rfl)
abbrev cX8_where : ByteArray := prog_19_method_81_code
def yX8_where : MethodName := ⟨RX8, "where", "(II)I"⟩
def dkwX8_where_2 : List UInt8 := [154, 0, 5, 3, 172, 42, 180, 0, 149, 27, 46, 5, 28, 104, 122, 6, 126, 172]
abbrev dktX8_where_2 : List UInt8 := dkwX8_where_2 ++ []
def dkwX8_where_1 : List UInt8 := [163, 0, 19, 28, 155, 0, 15, 28, 42, 180, 1, 202, 162, 0, 7, 4, 167, 0, 4, 3, 4, 182, 1, 72]
abbrev dktX8_where_1 : List UInt8 := dkwX8_where_1 ++ dktX8_where_2
def dkwX8_where_0 : List UInt8 := [42, 3, 181, 0, 173, 42, 42, 180, 1, 199, 2, 159, 0, 31, 27, 155, 0, 27, 27, 42, 180, 1, 199]
abbrev dktX8_where_0 : List UInt8 := dkwX8_where_0 ++ dktX8_where_1
theorem dksX8_where_0 : cX8_where.data.toList.drop 0 = dktX8_where_0 := by decide +kernel
theorem dksX8_where_1 : cX8_where.data.toList.drop 23 = dktX8_where_1 := dk_seg dksX8_where_0 23 rfl rfl
theorem dksX8_where_2 : cX8_where.data.toList.drop 47 = dktX8_where_2 := dk_seg dksX8_where_1 24 rfl rfl
theorem dX8_where_0 : decode cX8_where 0 = .ok (.aload_n 0, 1) := dk_42 (dk_at dksX8_where_0 0 rfl rfl)
theorem dX8_where_1 : decode cX8_where 1 = .ok (.iconst 0, 1) := dk_3 (dk_at dksX8_where_0 1 rfl rfl)
theorem dX8_where_2 : decode cX8_where 2 = .ok (.putfield 173, 3) := dk_181 0 173 (dk_at dksX8_where_0 2 rfl rfl)
theorem dX8_where_5 : decode cX8_where 5 = .ok (.aload_n 0, 1) := dk_42 (dk_at dksX8_where_0 5 rfl rfl)
theorem dX8_where_6 : decode cX8_where 6 = .ok (.aload_n 0, 1) := dk_42 (dk_at dksX8_where_0 6 rfl rfl)
theorem dX8_where_7 : decode cX8_where 7 = .ok (.getfield 455, 3) := dk_180 1 199 (dk_at dksX8_where_0 7 rfl rfl)
theorem dX8_where_10 : decode cX8_where 10 = .ok (.iconst (-1), 1) := dk_2 (dk_at dksX8_where_0 10 rfl rfl)
theorem dX8_where_11 : decode cX8_where 11 = .ok (.if_icmp .eq 31, 3) := dk_159 0 31 (dk_at dksX8_where_0 11 rfl rfl)
theorem dX8_where_14 : decode cX8_where 14 = .ok (.iload_n 1, 1) := dk_27 (dk_at dksX8_where_0 14 rfl rfl)
theorem dX8_where_15 : decode cX8_where 15 = .ok (.ifCond .lt 27, 3) := dk_155 0 27 (dk_at dksX8_where_0 15 rfl rfl)
theorem dX8_where_18 : decode cX8_where 18 = .ok (.iload_n 1, 1) := dk_27 (dk_at dksX8_where_0 18 rfl rfl)
theorem dX8_where_19 : decode cX8_where 19 = .ok (.aload_n 0, 1) := dk_42 (dk_at dksX8_where_0 19 rfl rfl)
theorem dX8_where_20 : decode cX8_where 20 = .ok (.getfield 455, 3) := dk_180 1 199 (dk_at dksX8_where_0 20 rfl rfl)
theorem dX8_where_23 : decode cX8_where 23 = .ok (.if_icmp .gt 19, 3) := dk_163 0 19 (dk_at dksX8_where_1 0 rfl rfl)
theorem dX8_where_26 : decode cX8_where 26 = .ok (.iload_n 2, 1) := dk_28 (dk_at dksX8_where_1 3 rfl rfl)
theorem dX8_where_27 : decode cX8_where 27 = .ok (.ifCond .lt 15, 3) := dk_155 0 15 (dk_at dksX8_where_1 4 rfl rfl)
theorem dX8_where_30 : decode cX8_where 30 = .ok (.iload_n 2, 1) := dk_28 (dk_at dksX8_where_1 7 rfl rfl)
theorem dX8_where_31 : decode cX8_where 31 = .ok (.aload_n 0, 1) := dk_42 (dk_at dksX8_where_1 8 rfl rfl)
theorem dX8_where_32 : decode cX8_where 32 = .ok (.getfield 458, 3) := dk_180 1 202 (dk_at dksX8_where_1 9 rfl rfl)
theorem dX8_where_35 : decode cX8_where 35 = .ok (.if_icmp .ge 7, 3) := dk_162 0 7 (dk_at dksX8_where_1 12 rfl rfl)
theorem dX8_where_38 : decode cX8_where 38 = .ok (.iconst 1, 1) := dk_4 (dk_at dksX8_where_1 15 rfl rfl)
theorem dX8_where_39 : decode cX8_where 39 = .ok (.goto 4, 3) := dk_167 0 4 (dk_at dksX8_where_1 16 rfl rfl)
theorem dX8_where_42 : decode cX8_where 42 = .ok (.iconst 0, 1) := dk_3 (dk_at dksX8_where_1 19 rfl rfl)
theorem dX8_where_43 : decode cX8_where 43 = .ok (.iconst 1, 1) := dk_4 (dk_at dksX8_where_1 20 rfl rfl)
theorem dX8_where_44 : decode cX8_where 44 = .ok (.invokevirtual 328, 3) := dk_182 1 72 (dk_at dksX8_where_1 21 rfl rfl)
theorem dX8_where_47 : decode cX8_where 47 = .ok (.ifCond .ne 5, 3) := dk_154 0 5 (dk_at dksX8_where_2 0 rfl rfl)
theorem dX8_where_50 : decode cX8_where 50 = .ok (.iconst 0, 1) := dk_3 (dk_at dksX8_where_2 3 rfl rfl)
theorem dX8_where_51 : decode cX8_where 51 = .ok (.ireturn, 1) := dk_172 (dk_at dksX8_where_2 4 rfl rfl)
theorem dX8_where_52 : decode cX8_where 52 = .ok (.aload_n 0, 1) := dk_42 (dk_at dksX8_where_2 5 rfl rfl)
theorem dX8_where_53 : decode cX8_where 53 = .ok (.getfield 149, 3) := dk_180 0 149 (dk_at dksX8_where_2 6 rfl rfl)
theorem dX8_where_56 : decode cX8_where 56 = .ok (.iload_n 1, 1) := dk_27 (dk_at dksX8_where_2 9 rfl rfl)
theorem dX8_where_57 : decode cX8_where 57 = .ok (.iaload, 1) := dk_46 (dk_at dksX8_where_2 10 rfl rfl)
theorem dX8_where_58 : decode cX8_where 58 = .ok (.iconst 2, 1) := dk_5 (dk_at dksX8_where_2 11 rfl rfl)
theorem dX8_where_59 : decode cX8_where 59 = .ok (.iload_n 2, 1) := dk_28 (dk_at dksX8_where_2 12 rfl rfl)
theorem dX8_where_60 : decode cX8_where 60 = .ok (.imul, 1) := dk_104 (dk_at dksX8_where_2 13 rfl rfl)
theorem dX8_where_61 : decode cX8_where 61 = .ok (.ishr, 1) := dk_122 (dk_at dksX8_where_2 14 rfl rfl)
theorem dX8_where_62 : decode cX8_where 62 = .ok (.iconst 3, 1) := dk_6 (dk_at dksX8_where_2 15 rfl rfl)
theorem dX8_where_63 : decode cX8_where 63 = .ok (.iand, 1) := dk_126 (dk_at dksX8_where_2 16 rfl rfl)
theorem dX8_where_64 : decode cX8_where 64 = .ok (.ireturn, 1) := dk_172 (dk_at dksX8_where_2 17 rfl rfl)
abbrev cX8_rides : ByteArray := prog_19_method_82_code
def yX8_rides : MethodName := ⟨RX8, "rides", "(II)I"⟩
def dkwX8_rides_7 : List UInt8 := [62, 132, 4, 1, 167, 255, 140, 29, 172]
abbrev dktX8_rides_7 : List UInt8 := dkwX8_rides_7 ++ []
def dkwX8_rides_6 : List UInt8 := [180, 0, 143, 21, 4, 46, 27, 122, 4, 126, 167, 0, 13, 21, 5, 153, 0, 7, 4, 167, 0, 4, 3, 96]
abbrev dktX8_rides_6 : List UInt8 := dkwX8_rides_6 ++ dktX8_rides_7
def dkwX8_rides_5 : List UInt8 := [126, 159, 0, 7, 4, 167, 0, 4, 3, 54, 5, 132, 6, 1, 167, 255, 192, 29, 28, 154, 0, 17, 42]
abbrev dktX8_rides_5 : List UInt8 := dkwX8_rides_5 ++ dktX8_rides_6
def dkwX8_rides_4 : List UInt8 := [4, 96, 46, 5, 21, 6, 104, 122, 6, 126, 42, 180, 0, 149, 21, 4, 4, 96, 46, 5, 27, 104, 122, 6]
abbrev dktX8_rides_4 : List UInt8 := dkwX8_rides_4 ++ dktX8_rides_5
def dkwX8_rides_3 : List UInt8 := [42, 180, 1, 202, 162, 0, 61, 21, 5, 153, 0, 47, 21, 6, 27, 159, 0, 37, 42, 180, 0, 149, 21, 4]
abbrev dktX8_rides_3 : List UInt8 := dkwX8_rides_3 ++ dktX8_rides_4
def dkwX8_rides_2 : List UInt8 := [3, 172, 3, 62, 3, 54, 4, 21, 4, 42, 180, 1, 199, 162, 0, 113, 4, 54, 5, 3, 54, 6, 21, 6]
abbrev dktX8_rides_2 : List UInt8 := dkwX8_rides_2 ++ dktX8_rides_3
def dkwX8_rides_1 : List UInt8 := [162, 0, 16, 28, 153, 0, 8, 28, 4, 160, 0, 7, 4, 167, 0, 4, 3, 4, 182, 1, 72, 154, 0, 5]
abbrev dktX8_rides_1 : List UInt8 := dkwX8_rides_1 ++ dktX8_rides_2
def dkwX8_rides_0 : List UInt8 := [42, 3, 181, 0, 173, 42, 42, 180, 1, 199, 2, 159, 0, 28, 27, 155, 0, 24, 27, 42, 180, 1, 202]
abbrev dktX8_rides_0 : List UInt8 := dkwX8_rides_0 ++ dktX8_rides_1
theorem dksX8_rides_0 : cX8_rides.data.toList.drop 0 = dktX8_rides_0 := by decide +kernel
theorem dksX8_rides_1 : cX8_rides.data.toList.drop 23 = dktX8_rides_1 := dk_seg dksX8_rides_0 23 rfl rfl
theorem dksX8_rides_2 : cX8_rides.data.toList.drop 47 = dktX8_rides_2 := dk_seg dksX8_rides_1 24 rfl rfl
theorem dksX8_rides_3 : cX8_rides.data.toList.drop 71 = dktX8_rides_3 := dk_seg dksX8_rides_2 24 rfl rfl
theorem dksX8_rides_4 : cX8_rides.data.toList.drop 95 = dktX8_rides_4 := dk_seg dksX8_rides_3 24 rfl rfl
theorem dksX8_rides_5 : cX8_rides.data.toList.drop 119 = dktX8_rides_5 := dk_seg dksX8_rides_4 24 rfl rfl
theorem dksX8_rides_6 : cX8_rides.data.toList.drop 142 = dktX8_rides_6 := dk_seg dksX8_rides_5 23 rfl rfl
theorem dksX8_rides_7 : cX8_rides.data.toList.drop 166 = dktX8_rides_7 := dk_seg dksX8_rides_6 24 rfl rfl
theorem dX8_rides_0 : decode cX8_rides 0 = .ok (.aload_n 0, 1) := dk_42 (dk_at dksX8_rides_0 0 rfl rfl)
theorem dX8_rides_1 : decode cX8_rides 1 = .ok (.iconst 0, 1) := dk_3 (dk_at dksX8_rides_0 1 rfl rfl)
theorem dX8_rides_2 : decode cX8_rides 2 = .ok (.putfield 173, 3) := dk_181 0 173 (dk_at dksX8_rides_0 2 rfl rfl)
theorem dX8_rides_5 : decode cX8_rides 5 = .ok (.aload_n 0, 1) := dk_42 (dk_at dksX8_rides_0 5 rfl rfl)
theorem dX8_rides_6 : decode cX8_rides 6 = .ok (.aload_n 0, 1) := dk_42 (dk_at dksX8_rides_0 6 rfl rfl)
theorem dX8_rides_7 : decode cX8_rides 7 = .ok (.getfield 455, 3) := dk_180 1 199 (dk_at dksX8_rides_0 7 rfl rfl)
theorem dX8_rides_10 : decode cX8_rides 10 = .ok (.iconst (-1), 1) := dk_2 (dk_at dksX8_rides_0 10 rfl rfl)
theorem dX8_rides_11 : decode cX8_rides 11 = .ok (.if_icmp .eq 28, 3) := dk_159 0 28 (dk_at dksX8_rides_0 11 rfl rfl)
theorem dX8_rides_14 : decode cX8_rides 14 = .ok (.iload_n 1, 1) := dk_27 (dk_at dksX8_rides_0 14 rfl rfl)
theorem dX8_rides_15 : decode cX8_rides 15 = .ok (.ifCond .lt 24, 3) := dk_155 0 24 (dk_at dksX8_rides_0 15 rfl rfl)
theorem dX8_rides_18 : decode cX8_rides 18 = .ok (.iload_n 1, 1) := dk_27 (dk_at dksX8_rides_0 18 rfl rfl)
theorem dX8_rides_19 : decode cX8_rides 19 = .ok (.aload_n 0, 1) := dk_42 (dk_at dksX8_rides_0 19 rfl rfl)
theorem dX8_rides_20 : decode cX8_rides 20 = .ok (.getfield 458, 3) := dk_180 1 202 (dk_at dksX8_rides_0 20 rfl rfl)
theorem dX8_rides_23 : decode cX8_rides 23 = .ok (.if_icmp .ge 16, 3) := dk_162 0 16 (dk_at dksX8_rides_1 0 rfl rfl)
theorem dX8_rides_26 : decode cX8_rides 26 = .ok (.iload_n 2, 1) := dk_28 (dk_at dksX8_rides_1 3 rfl rfl)
theorem dX8_rides_27 : decode cX8_rides 27 = .ok (.ifCond .eq 8, 3) := dk_153 0 8 (dk_at dksX8_rides_1 4 rfl rfl)
theorem dX8_rides_30 : decode cX8_rides 30 = .ok (.iload_n 2, 1) := dk_28 (dk_at dksX8_rides_1 7 rfl rfl)
theorem dX8_rides_31 : decode cX8_rides 31 = .ok (.iconst 1, 1) := dk_4 (dk_at dksX8_rides_1 8 rfl rfl)
theorem dX8_rides_32 : decode cX8_rides 32 = .ok (.if_icmp .ne 7, 3) := dk_160 0 7 (dk_at dksX8_rides_1 9 rfl rfl)
theorem dX8_rides_35 : decode cX8_rides 35 = .ok (.iconst 1, 1) := dk_4 (dk_at dksX8_rides_1 12 rfl rfl)
theorem dX8_rides_36 : decode cX8_rides 36 = .ok (.goto 4, 3) := dk_167 0 4 (dk_at dksX8_rides_1 13 rfl rfl)
theorem dX8_rides_39 : decode cX8_rides 39 = .ok (.iconst 0, 1) := dk_3 (dk_at dksX8_rides_1 16 rfl rfl)
theorem dX8_rides_40 : decode cX8_rides 40 = .ok (.iconst 1, 1) := dk_4 (dk_at dksX8_rides_1 17 rfl rfl)
theorem dX8_rides_41 : decode cX8_rides 41 = .ok (.invokevirtual 328, 3) := dk_182 1 72 (dk_at dksX8_rides_1 18 rfl rfl)
theorem dX8_rides_44 : decode cX8_rides 44 = .ok (.ifCond .ne 5, 3) := dk_154 0 5 (dk_at dksX8_rides_1 21 rfl rfl)
theorem dX8_rides_47 : decode cX8_rides 47 = .ok (.iconst 0, 1) := dk_3 (dk_at dksX8_rides_2 0 rfl rfl)
theorem dX8_rides_48 : decode cX8_rides 48 = .ok (.ireturn, 1) := dk_172 (dk_at dksX8_rides_2 1 rfl rfl)
theorem dX8_rides_49 : decode cX8_rides 49 = .ok (.iconst 0, 1) := dk_3 (dk_at dksX8_rides_2 2 rfl rfl)
theorem dX8_rides_50 : decode cX8_rides 50 = .ok (.istore_n 3, 1) := dk_62 (dk_at dksX8_rides_2 3 rfl rfl)
theorem dX8_rides_51 : decode cX8_rides 51 = .ok (.iconst 0, 1) := dk_3 (dk_at dksX8_rides_2 4 rfl rfl)
theorem dX8_rides_52 : decode cX8_rides 52 = .ok (.istore 4, 2) := dk_54 4 (dk_at dksX8_rides_2 5 rfl rfl)
theorem dX8_rides_54 : decode cX8_rides 54 = .ok (.iload 4, 2) := dk_21 4 (dk_at dksX8_rides_2 7 rfl rfl)
theorem dX8_rides_56 : decode cX8_rides 56 = .ok (.aload_n 0, 1) := dk_42 (dk_at dksX8_rides_2 9 rfl rfl)
theorem dX8_rides_57 : decode cX8_rides 57 = .ok (.getfield 455, 3) := dk_180 1 199 (dk_at dksX8_rides_2 10 rfl rfl)
theorem dX8_rides_60 : decode cX8_rides 60 = .ok (.if_icmp .ge 113, 3) := dk_162 0 113 (dk_at dksX8_rides_2 13 rfl rfl)
theorem dX8_rides_63 : decode cX8_rides 63 = .ok (.iconst 1, 1) := dk_4 (dk_at dksX8_rides_2 16 rfl rfl)
theorem dX8_rides_64 : decode cX8_rides 64 = .ok (.istore 5, 2) := dk_54 5 (dk_at dksX8_rides_2 17 rfl rfl)
theorem dX8_rides_66 : decode cX8_rides 66 = .ok (.iconst 0, 1) := dk_3 (dk_at dksX8_rides_2 19 rfl rfl)
theorem dX8_rides_67 : decode cX8_rides 67 = .ok (.istore 6, 2) := dk_54 6 (dk_at dksX8_rides_2 20 rfl rfl)
theorem dX8_rides_69 : decode cX8_rides 69 = .ok (.iload 6, 2) := dk_21 6 (dk_at dksX8_rides_2 22 rfl rfl)
theorem dX8_rides_71 : decode cX8_rides 71 = .ok (.aload_n 0, 1) := dk_42 (dk_at dksX8_rides_3 0 rfl rfl)
theorem dX8_rides_72 : decode cX8_rides 72 = .ok (.getfield 458, 3) := dk_180 1 202 (dk_at dksX8_rides_3 1 rfl rfl)
theorem dX8_rides_75 : decode cX8_rides 75 = .ok (.if_icmp .ge 61, 3) := dk_162 0 61 (dk_at dksX8_rides_3 4 rfl rfl)
theorem dX8_rides_78 : decode cX8_rides 78 = .ok (.iload 5, 2) := dk_21 5 (dk_at dksX8_rides_3 7 rfl rfl)
theorem dX8_rides_80 : decode cX8_rides 80 = .ok (.ifCond .eq 47, 3) := dk_153 0 47 (dk_at dksX8_rides_3 9 rfl rfl)
theorem dX8_rides_83 : decode cX8_rides 83 = .ok (.iload 6, 2) := dk_21 6 (dk_at dksX8_rides_3 12 rfl rfl)
theorem dX8_rides_85 : decode cX8_rides 85 = .ok (.iload_n 1, 1) := dk_27 (dk_at dksX8_rides_3 14 rfl rfl)
theorem dX8_rides_86 : decode cX8_rides 86 = .ok (.if_icmp .eq 37, 3) := dk_159 0 37 (dk_at dksX8_rides_3 15 rfl rfl)
theorem dX8_rides_89 : decode cX8_rides 89 = .ok (.aload_n 0, 1) := dk_42 (dk_at dksX8_rides_3 18 rfl rfl)
theorem dX8_rides_90 : decode cX8_rides 90 = .ok (.getfield 149, 3) := dk_180 0 149 (dk_at dksX8_rides_3 19 rfl rfl)
theorem dX8_rides_93 : decode cX8_rides 93 = .ok (.iload 4, 2) := dk_21 4 (dk_at dksX8_rides_3 22 rfl rfl)
theorem dX8_rides_95 : decode cX8_rides 95 = .ok (.iconst 1, 1) := dk_4 (dk_at dksX8_rides_4 0 rfl rfl)
theorem dX8_rides_96 : decode cX8_rides 96 = .ok (.iadd, 1) := dk_96 (dk_at dksX8_rides_4 1 rfl rfl)
theorem dX8_rides_97 : decode cX8_rides 97 = .ok (.iaload, 1) := dk_46 (dk_at dksX8_rides_4 2 rfl rfl)
theorem dX8_rides_98 : decode cX8_rides 98 = .ok (.iconst 2, 1) := dk_5 (dk_at dksX8_rides_4 3 rfl rfl)
theorem dX8_rides_99 : decode cX8_rides 99 = .ok (.iload 6, 2) := dk_21 6 (dk_at dksX8_rides_4 4 rfl rfl)
theorem dX8_rides_101 : decode cX8_rides 101 = .ok (.imul, 1) := dk_104 (dk_at dksX8_rides_4 6 rfl rfl)
theorem dX8_rides_102 : decode cX8_rides 102 = .ok (.ishr, 1) := dk_122 (dk_at dksX8_rides_4 7 rfl rfl)
theorem dX8_rides_103 : decode cX8_rides 103 = .ok (.iconst 3, 1) := dk_6 (dk_at dksX8_rides_4 8 rfl rfl)
theorem dX8_rides_104 : decode cX8_rides 104 = .ok (.iand, 1) := dk_126 (dk_at dksX8_rides_4 9 rfl rfl)
theorem dX8_rides_105 : decode cX8_rides 105 = .ok (.aload_n 0, 1) := dk_42 (dk_at dksX8_rides_4 10 rfl rfl)
theorem dX8_rides_106 : decode cX8_rides 106 = .ok (.getfield 149, 3) := dk_180 0 149 (dk_at dksX8_rides_4 11 rfl rfl)
theorem dX8_rides_109 : decode cX8_rides 109 = .ok (.iload 4, 2) := dk_21 4 (dk_at dksX8_rides_4 14 rfl rfl)
theorem dX8_rides_111 : decode cX8_rides 111 = .ok (.iconst 1, 1) := dk_4 (dk_at dksX8_rides_4 16 rfl rfl)
theorem dX8_rides_112 : decode cX8_rides 112 = .ok (.iadd, 1) := dk_96 (dk_at dksX8_rides_4 17 rfl rfl)
theorem dX8_rides_113 : decode cX8_rides 113 = .ok (.iaload, 1) := dk_46 (dk_at dksX8_rides_4 18 rfl rfl)
theorem dX8_rides_114 : decode cX8_rides 114 = .ok (.iconst 2, 1) := dk_5 (dk_at dksX8_rides_4 19 rfl rfl)
theorem dX8_rides_115 : decode cX8_rides 115 = .ok (.iload_n 1, 1) := dk_27 (dk_at dksX8_rides_4 20 rfl rfl)
theorem dX8_rides_116 : decode cX8_rides 116 = .ok (.imul, 1) := dk_104 (dk_at dksX8_rides_4 21 rfl rfl)
theorem dX8_rides_117 : decode cX8_rides 117 = .ok (.ishr, 1) := dk_122 (dk_at dksX8_rides_4 22 rfl rfl)
theorem dX8_rides_118 : decode cX8_rides 118 = .ok (.iconst 3, 1) := dk_6 (dk_at dksX8_rides_4 23 rfl rfl)
theorem dX8_rides_119 : decode cX8_rides 119 = .ok (.iand, 1) := dk_126 (dk_at dksX8_rides_5 0 rfl rfl)
theorem dX8_rides_120 : decode cX8_rides 120 = .ok (.if_icmp .eq 7, 3) := dk_159 0 7 (dk_at dksX8_rides_5 1 rfl rfl)
theorem dX8_rides_123 : decode cX8_rides 123 = .ok (.iconst 1, 1) := dk_4 (dk_at dksX8_rides_5 4 rfl rfl)
theorem dX8_rides_124 : decode cX8_rides 124 = .ok (.goto 4, 3) := dk_167 0 4 (dk_at dksX8_rides_5 5 rfl rfl)
theorem dX8_rides_127 : decode cX8_rides 127 = .ok (.iconst 0, 1) := dk_3 (dk_at dksX8_rides_5 8 rfl rfl)
theorem dX8_rides_128 : decode cX8_rides 128 = .ok (.istore 5, 2) := dk_54 5 (dk_at dksX8_rides_5 9 rfl rfl)
theorem dX8_rides_130 : decode cX8_rides 130 = .ok (.iinc 6 1, 3) := dk_132 6 1 (dk_at dksX8_rides_5 11 rfl rfl)
theorem dX8_rides_133 : decode cX8_rides 133 = .ok (.goto (-64), 3) := dk_167 255 192 (dk_at dksX8_rides_5 14 rfl rfl)
theorem dX8_rides_136 : decode cX8_rides 136 = .ok (.iload_n 3, 1) := dk_29 (dk_at dksX8_rides_5 17 rfl rfl)
theorem dX8_rides_137 : decode cX8_rides 137 = .ok (.iload_n 2, 1) := dk_28 (dk_at dksX8_rides_5 18 rfl rfl)
theorem dX8_rides_138 : decode cX8_rides 138 = .ok (.ifCond .ne 17, 3) := dk_154 0 17 (dk_at dksX8_rides_5 19 rfl rfl)
theorem dX8_rides_141 : decode cX8_rides 141 = .ok (.aload_n 0, 1) := dk_42 (dk_at dksX8_rides_5 22 rfl rfl)
theorem dX8_rides_142 : decode cX8_rides 142 = .ok (.getfield 143, 3) := dk_180 0 143 (dk_at dksX8_rides_6 0 rfl rfl)
theorem dX8_rides_145 : decode cX8_rides 145 = .ok (.iload 4, 2) := dk_21 4 (dk_at dksX8_rides_6 3 rfl rfl)
theorem dX8_rides_147 : decode cX8_rides 147 = .ok (.iaload, 1) := dk_46 (dk_at dksX8_rides_6 5 rfl rfl)
theorem dX8_rides_148 : decode cX8_rides 148 = .ok (.iload_n 1, 1) := dk_27 (dk_at dksX8_rides_6 6 rfl rfl)
theorem dX8_rides_149 : decode cX8_rides 149 = .ok (.ishr, 1) := dk_122 (dk_at dksX8_rides_6 7 rfl rfl)
theorem dX8_rides_150 : decode cX8_rides 150 = .ok (.iconst 1, 1) := dk_4 (dk_at dksX8_rides_6 8 rfl rfl)
theorem dX8_rides_151 : decode cX8_rides 151 = .ok (.iand, 1) := dk_126 (dk_at dksX8_rides_6 9 rfl rfl)
theorem dX8_rides_152 : decode cX8_rides 152 = .ok (.goto 13, 3) := dk_167 0 13 (dk_at dksX8_rides_6 10 rfl rfl)
theorem dX8_rides_155 : decode cX8_rides 155 = .ok (.iload 5, 2) := dk_21 5 (dk_at dksX8_rides_6 13 rfl rfl)
theorem dX8_rides_157 : decode cX8_rides 157 = .ok (.ifCond .eq 7, 3) := dk_153 0 7 (dk_at dksX8_rides_6 15 rfl rfl)
theorem dX8_rides_160 : decode cX8_rides 160 = .ok (.iconst 1, 1) := dk_4 (dk_at dksX8_rides_6 18 rfl rfl)
theorem dX8_rides_161 : decode cX8_rides 161 = .ok (.goto 4, 3) := dk_167 0 4 (dk_at dksX8_rides_6 19 rfl rfl)
theorem dX8_rides_164 : decode cX8_rides 164 = .ok (.iconst 0, 1) := dk_3 (dk_at dksX8_rides_6 22 rfl rfl)
theorem dX8_rides_165 : decode cX8_rides 165 = .ok (.iadd, 1) := dk_96 (dk_at dksX8_rides_6 23 rfl rfl)
theorem dX8_rides_166 : decode cX8_rides 166 = .ok (.istore_n 3, 1) := dk_62 (dk_at dksX8_rides_7 0 rfl rfl)
theorem dX8_rides_167 : decode cX8_rides 167 = .ok (.iinc 4 1, 3) := dk_132 4 1 (dk_at dksX8_rides_7 1 rfl rfl)
theorem dX8_rides_170 : decode cX8_rides 170 = .ok (.goto (-116), 3) := dk_167 255 140 (dk_at dksX8_rides_7 4 rfl rfl)
theorem dX8_rides_173 : decode cX8_rides 173 = .ok (.iload_n 3, 1) := dk_29 (dk_at dksX8_rides_7 7 rfl rfl)
theorem dX8_rides_174 : decode cX8_rides 174 = .ok (.ireturn, 1) := dk_172 (dk_at dksX8_rides_7 8 rfl rfl)
abbrev cX8_laws : ByteArray := prog_19_method_84_code
def yX8_laws : MethodName := ⟨RX8, "laws", "(I)I"⟩
def dkwX8_laws_3 : List UInt8 := [167, 0, 7, 42, 180, 1, 231, 172]
abbrev dktX8_laws_3 : List UInt8 := dkwX8_laws_3 ++ []
def dkwX8_laws_2 : List UInt8 := [5, 181, 1, 222, 42, 180, 1, 222, 5, 160, 0, 7, 2, 167, 0, 18, 27, 154, 0, 10, 42, 180, 1, 228]
abbrev dktX8_laws_2 : List UInt8 := dkwX8_laws_2 ++ dktX8_laws_3
def dkwX8_laws_1 : List UInt8 := [154, 0, 5, 3, 172, 42, 180, 1, 222, 154, 0, 19, 42, 42, 182, 1, 225, 153, 0, 7, 4, 167, 0, 4]
abbrev dktX8_laws_1 : List UInt8 := dkwX8_laws_1 ++ dktX8_laws_2
def dkwX8_laws_0 : List UInt8 := [42, 3, 181, 0, 173, 42, 27, 153, 0, 8, 27, 4, 160, 0, 7, 4, 167, 0, 4, 3, 4, 182, 1, 72]
abbrev dktX8_laws_0 : List UInt8 := dkwX8_laws_0 ++ dktX8_laws_1
theorem dksX8_laws_0 : cX8_laws.data.toList.drop 0 = dktX8_laws_0 := by decide +kernel
theorem dksX8_laws_1 : cX8_laws.data.toList.drop 24 = dktX8_laws_1 := dk_seg dksX8_laws_0 24 rfl rfl
theorem dksX8_laws_2 : cX8_laws.data.toList.drop 48 = dktX8_laws_2 := dk_seg dksX8_laws_1 24 rfl rfl
theorem dksX8_laws_3 : cX8_laws.data.toList.drop 72 = dktX8_laws_3 := dk_seg dksX8_laws_2 24 rfl rfl
theorem dX8_laws_0 : decode cX8_laws 0 = .ok (.aload_n 0, 1) := dk_42 (dk_at dksX8_laws_0 0 rfl rfl)
theorem dX8_laws_1 : decode cX8_laws 1 = .ok (.iconst 0, 1) := dk_3 (dk_at dksX8_laws_0 1 rfl rfl)
theorem dX8_laws_2 : decode cX8_laws 2 = .ok (.putfield 173, 3) := dk_181 0 173 (dk_at dksX8_laws_0 2 rfl rfl)
theorem dX8_laws_5 : decode cX8_laws 5 = .ok (.aload_n 0, 1) := dk_42 (dk_at dksX8_laws_0 5 rfl rfl)
theorem dX8_laws_6 : decode cX8_laws 6 = .ok (.iload_n 1, 1) := dk_27 (dk_at dksX8_laws_0 6 rfl rfl)
theorem dX8_laws_7 : decode cX8_laws 7 = .ok (.ifCond .eq 8, 3) := dk_153 0 8 (dk_at dksX8_laws_0 7 rfl rfl)
theorem dX8_laws_10 : decode cX8_laws 10 = .ok (.iload_n 1, 1) := dk_27 (dk_at dksX8_laws_0 10 rfl rfl)
theorem dX8_laws_11 : decode cX8_laws 11 = .ok (.iconst 1, 1) := dk_4 (dk_at dksX8_laws_0 11 rfl rfl)
theorem dX8_laws_12 : decode cX8_laws 12 = .ok (.if_icmp .ne 7, 3) := dk_160 0 7 (dk_at dksX8_laws_0 12 rfl rfl)
theorem dX8_laws_15 : decode cX8_laws 15 = .ok (.iconst 1, 1) := dk_4 (dk_at dksX8_laws_0 15 rfl rfl)
theorem dX8_laws_16 : decode cX8_laws 16 = .ok (.goto 4, 3) := dk_167 0 4 (dk_at dksX8_laws_0 16 rfl rfl)
theorem dX8_laws_19 : decode cX8_laws 19 = .ok (.iconst 0, 1) := dk_3 (dk_at dksX8_laws_0 19 rfl rfl)
theorem dX8_laws_20 : decode cX8_laws 20 = .ok (.iconst 1, 1) := dk_4 (dk_at dksX8_laws_0 20 rfl rfl)
theorem dX8_laws_21 : decode cX8_laws 21 = .ok (.invokevirtual 328, 3) := dk_182 1 72 (dk_at dksX8_laws_0 21 rfl rfl)
theorem dX8_laws_24 : decode cX8_laws 24 = .ok (.ifCond .ne 5, 3) := dk_154 0 5 (dk_at dksX8_laws_1 0 rfl rfl)
theorem dX8_laws_27 : decode cX8_laws 27 = .ok (.iconst 0, 1) := dk_3 (dk_at dksX8_laws_1 3 rfl rfl)
theorem dX8_laws_28 : decode cX8_laws 28 = .ok (.ireturn, 1) := dk_172 (dk_at dksX8_laws_1 4 rfl rfl)
theorem dX8_laws_29 : decode cX8_laws 29 = .ok (.aload_n 0, 1) := dk_42 (dk_at dksX8_laws_1 5 rfl rfl)
theorem dX8_laws_30 : decode cX8_laws 30 = .ok (.getfield 478, 3) := dk_180 1 222 (dk_at dksX8_laws_1 6 rfl rfl)
theorem dX8_laws_33 : decode cX8_laws 33 = .ok (.ifCond .ne 19, 3) := dk_154 0 19 (dk_at dksX8_laws_1 9 rfl rfl)
theorem dX8_laws_36 : decode cX8_laws 36 = .ok (.aload_n 0, 1) := dk_42 (dk_at dksX8_laws_1 12 rfl rfl)
theorem dX8_laws_37 : decode cX8_laws 37 = .ok (.aload_n 0, 1) := dk_42 (dk_at dksX8_laws_1 13 rfl rfl)
theorem dX8_laws_38 : decode cX8_laws 38 = .ok (.invokevirtual 481, 3) := dk_182 1 225 (dk_at dksX8_laws_1 14 rfl rfl)
theorem dX8_laws_41 : decode cX8_laws 41 = .ok (.ifCond .eq 7, 3) := dk_153 0 7 (dk_at dksX8_laws_1 17 rfl rfl)
theorem dX8_laws_44 : decode cX8_laws 44 = .ok (.iconst 1, 1) := dk_4 (dk_at dksX8_laws_1 20 rfl rfl)
theorem dX8_laws_45 : decode cX8_laws 45 = .ok (.goto 4, 3) := dk_167 0 4 (dk_at dksX8_laws_1 21 rfl rfl)
theorem dX8_laws_48 : decode cX8_laws 48 = .ok (.iconst 2, 1) := dk_5 (dk_at dksX8_laws_2 0 rfl rfl)
theorem dX8_laws_49 : decode cX8_laws 49 = .ok (.putfield 478, 3) := dk_181 1 222 (dk_at dksX8_laws_2 1 rfl rfl)
theorem dX8_laws_52 : decode cX8_laws 52 = .ok (.aload_n 0, 1) := dk_42 (dk_at dksX8_laws_2 4 rfl rfl)
theorem dX8_laws_53 : decode cX8_laws 53 = .ok (.getfield 478, 3) := dk_180 1 222 (dk_at dksX8_laws_2 5 rfl rfl)
theorem dX8_laws_56 : decode cX8_laws 56 = .ok (.iconst 2, 1) := dk_5 (dk_at dksX8_laws_2 8 rfl rfl)
theorem dX8_laws_57 : decode cX8_laws 57 = .ok (.if_icmp .ne 7, 3) := dk_160 0 7 (dk_at dksX8_laws_2 9 rfl rfl)
theorem dX8_laws_60 : decode cX8_laws 60 = .ok (.iconst (-1), 1) := dk_2 (dk_at dksX8_laws_2 12 rfl rfl)
theorem dX8_laws_61 : decode cX8_laws 61 = .ok (.goto 18, 3) := dk_167 0 18 (dk_at dksX8_laws_2 13 rfl rfl)
theorem dX8_laws_64 : decode cX8_laws 64 = .ok (.iload_n 1, 1) := dk_27 (dk_at dksX8_laws_2 16 rfl rfl)
theorem dX8_laws_65 : decode cX8_laws 65 = .ok (.ifCond .ne 10, 3) := dk_154 0 10 (dk_at dksX8_laws_2 17 rfl rfl)
theorem dX8_laws_68 : decode cX8_laws 68 = .ok (.aload_n 0, 1) := dk_42 (dk_at dksX8_laws_2 20 rfl rfl)
theorem dX8_laws_69 : decode cX8_laws 69 = .ok (.getfield 484, 3) := dk_180 1 228 (dk_at dksX8_laws_2 21 rfl rfl)
theorem dX8_laws_72 : decode cX8_laws 72 = .ok (.goto 7, 3) := dk_167 0 7 (dk_at dksX8_laws_3 0 rfl rfl)
theorem dX8_laws_75 : decode cX8_laws 75 = .ok (.aload_n 0, 1) := dk_42 (dk_at dksX8_laws_3 3 rfl rfl)
theorem dX8_laws_76 : decode cX8_laws 76 = .ok (.getfield 487, 3) := dk_180 1 231 (dk_at dksX8_laws_3 4 rfl rfl)
theorem dX8_laws_79 : decode cX8_laws 79 = .ok (.ireturn, 1) := dk_172 (dk_at dksX8_laws_3 7 rfl rfl)
abbrev cX8_triesLaws : ByteArray := prog_19_method_85_code
def yX8_triesLaws : MethodName := ⟨RX8, "triesLaws", "()Z"⟩
def dkwX8_triesLaws_5 : List UInt8 := [181, 1, 231, 132, 3, 1, 167, 255, 173, 42, 2, 181, 0, 96, 42, 3, 181, 1, 167, 28, 172]
abbrev dktX8_triesLaws_5 : List UInt8 := dkwX8_triesLaws_5 ++ []
def dkwX8_triesLaws_4 : List UInt8 := [181, 1, 228, 27, 2, 160, 0, 20, 21, 4, 155, 0, 15, 42, 89, 180, 1, 231, 4, 29, 120, 128]
abbrev dktX8_triesLaws_4 : List UInt8 := dkwX8_triesLaws_4 ++ dktX8_triesLaws_5
def dkwX8_triesLaws_3 : List UInt8 := [159, 0, 7, 4, 167, 0, 4, 3, 61, 21, 4, 27, 160, 0, 15, 42, 89, 180, 1, 228, 4, 29, 120, 128]
abbrev dktX8_triesLaws_3 : List UInt8 := dkwX8_triesLaws_3 ++ dktX8_triesLaws_4
def dkwX8_triesLaws_2 : List UInt8 := [153, 0, 77, 42, 29, 181, 0, 96, 42, 42, 182, 1, 151, 182, 1, 234, 54, 4, 21, 4, 16, 254]
abbrev dktX8_triesLaws_2 : List UInt8 := dkwX8_triesLaws_2 ++ dktX8_triesLaws_3
def dkwX8_triesLaws_1 : List UInt8 := [27, 16, 254, 159, 0, 7, 4, 167, 0, 4, 3, 61, 3, 62, 29, 42, 180, 1, 88, 162, 0, 81, 28]
abbrev dktX8_triesLaws_1 : List UInt8 := dkwX8_triesLaws_1 ++ dktX8_triesLaws_2
def dkwX8_triesLaws_0 : List UInt8 := [42, 3, 181, 1, 228, 42, 3, 181, 1, 231, 42, 2, 181, 0, 96, 42, 42, 182, 1, 151, 182, 1, 234, 60]
abbrev dktX8_triesLaws_0 : List UInt8 := dkwX8_triesLaws_0 ++ dktX8_triesLaws_1
theorem dksX8_triesLaws_0 : cX8_triesLaws.data.toList.drop 0 = dktX8_triesLaws_0 := by decide +kernel
theorem dksX8_triesLaws_1 : cX8_triesLaws.data.toList.drop 24 = dktX8_triesLaws_1 := dk_seg dksX8_triesLaws_0 24 rfl rfl
theorem dksX8_triesLaws_2 : cX8_triesLaws.data.toList.drop 47 = dktX8_triesLaws_2 := dk_seg dksX8_triesLaws_1 23 rfl rfl
theorem dksX8_triesLaws_3 : cX8_triesLaws.data.toList.drop 69 = dktX8_triesLaws_3 := dk_seg dksX8_triesLaws_2 22 rfl rfl
theorem dksX8_triesLaws_4 : cX8_triesLaws.data.toList.drop 93 = dktX8_triesLaws_4 := dk_seg dksX8_triesLaws_3 24 rfl rfl
theorem dksX8_triesLaws_5 : cX8_triesLaws.data.toList.drop 115 = dktX8_triesLaws_5 := dk_seg dksX8_triesLaws_4 22 rfl rfl
theorem dX8_triesLaws_0 : decode cX8_triesLaws 0 = .ok (.aload_n 0, 1) := dk_42 (dk_at dksX8_triesLaws_0 0 rfl rfl)
theorem dX8_triesLaws_1 : decode cX8_triesLaws 1 = .ok (.iconst 0, 1) := dk_3 (dk_at dksX8_triesLaws_0 1 rfl rfl)
theorem dX8_triesLaws_2 : decode cX8_triesLaws 2 = .ok (.putfield 484, 3) := dk_181 1 228 (dk_at dksX8_triesLaws_0 2 rfl rfl)
theorem dX8_triesLaws_5 : decode cX8_triesLaws 5 = .ok (.aload_n 0, 1) := dk_42 (dk_at dksX8_triesLaws_0 5 rfl rfl)
theorem dX8_triesLaws_6 : decode cX8_triesLaws 6 = .ok (.iconst 0, 1) := dk_3 (dk_at dksX8_triesLaws_0 6 rfl rfl)
theorem dX8_triesLaws_7 : decode cX8_triesLaws 7 = .ok (.putfield 487, 3) := dk_181 1 231 (dk_at dksX8_triesLaws_0 7 rfl rfl)
theorem dX8_triesLaws_10 : decode cX8_triesLaws 10 = .ok (.aload_n 0, 1) := dk_42 (dk_at dksX8_triesLaws_0 10 rfl rfl)
theorem dX8_triesLaws_11 : decode cX8_triesLaws 11 = .ok (.iconst (-1), 1) := dk_2 (dk_at dksX8_triesLaws_0 11 rfl rfl)
theorem dX8_triesLaws_12 : decode cX8_triesLaws 12 = .ok (.putfield 96, 3) := dk_181 0 96 (dk_at dksX8_triesLaws_0 12 rfl rfl)
theorem dX8_triesLaws_15 : decode cX8_triesLaws 15 = .ok (.aload_n 0, 1) := dk_42 (dk_at dksX8_triesLaws_0 15 rfl rfl)
theorem dX8_triesLaws_16 : decode cX8_triesLaws 16 = .ok (.aload_n 0, 1) := dk_42 (dk_at dksX8_triesLaws_0 16 rfl rfl)
theorem dX8_triesLaws_17 : decode cX8_triesLaws 17 = .ok (.invokevirtual 407, 3) := dk_182 1 151 (dk_at dksX8_triesLaws_0 17 rfl rfl)
theorem dX8_triesLaws_20 : decode cX8_triesLaws 20 = .ok (.invokevirtual 490, 3) := dk_182 1 234 (dk_at dksX8_triesLaws_0 20 rfl rfl)
theorem dX8_triesLaws_23 : decode cX8_triesLaws 23 = .ok (.istore_n 1, 1) := dk_60 (dk_at dksX8_triesLaws_0 23 rfl rfl)
theorem dX8_triesLaws_24 : decode cX8_triesLaws 24 = .ok (.iload_n 1, 1) := dk_27 (dk_at dksX8_triesLaws_1 0 rfl rfl)
theorem dX8_triesLaws_25 : decode cX8_triesLaws 25 = .ok (.bipush (-2), 2) := dk_16 254 (dk_at dksX8_triesLaws_1 1 rfl rfl)
theorem dX8_triesLaws_27 : decode cX8_triesLaws 27 = .ok (.if_icmp .eq 7, 3) := dk_159 0 7 (dk_at dksX8_triesLaws_1 3 rfl rfl)
theorem dX8_triesLaws_30 : decode cX8_triesLaws 30 = .ok (.iconst 1, 1) := dk_4 (dk_at dksX8_triesLaws_1 6 rfl rfl)
theorem dX8_triesLaws_31 : decode cX8_triesLaws 31 = .ok (.goto 4, 3) := dk_167 0 4 (dk_at dksX8_triesLaws_1 7 rfl rfl)
theorem dX8_triesLaws_34 : decode cX8_triesLaws 34 = .ok (.iconst 0, 1) := dk_3 (dk_at dksX8_triesLaws_1 10 rfl rfl)
theorem dX8_triesLaws_35 : decode cX8_triesLaws 35 = .ok (.istore_n 2, 1) := dk_61 (dk_at dksX8_triesLaws_1 11 rfl rfl)
theorem dX8_triesLaws_36 : decode cX8_triesLaws 36 = .ok (.iconst 0, 1) := dk_3 (dk_at dksX8_triesLaws_1 12 rfl rfl)
theorem dX8_triesLaws_37 : decode cX8_triesLaws 37 = .ok (.istore_n 3, 1) := dk_62 (dk_at dksX8_triesLaws_1 13 rfl rfl)
theorem dX8_triesLaws_38 : decode cX8_triesLaws 38 = .ok (.iload_n 3, 1) := dk_29 (dk_at dksX8_triesLaws_1 14 rfl rfl)
theorem dX8_triesLaws_39 : decode cX8_triesLaws 39 = .ok (.aload_n 0, 1) := dk_42 (dk_at dksX8_triesLaws_1 15 rfl rfl)
theorem dX8_triesLaws_40 : decode cX8_triesLaws 40 = .ok (.getfield 344, 3) := dk_180 1 88 (dk_at dksX8_triesLaws_1 16 rfl rfl)
theorem dX8_triesLaws_43 : decode cX8_triesLaws 43 = .ok (.if_icmp .ge 81, 3) := dk_162 0 81 (dk_at dksX8_triesLaws_1 19 rfl rfl)
theorem dX8_triesLaws_46 : decode cX8_triesLaws 46 = .ok (.iload_n 2, 1) := dk_28 (dk_at dksX8_triesLaws_1 22 rfl rfl)
theorem dX8_triesLaws_47 : decode cX8_triesLaws 47 = .ok (.ifCond .eq 77, 3) := dk_153 0 77 (dk_at dksX8_triesLaws_2 0 rfl rfl)
theorem dX8_triesLaws_50 : decode cX8_triesLaws 50 = .ok (.aload_n 0, 1) := dk_42 (dk_at dksX8_triesLaws_2 3 rfl rfl)
theorem dX8_triesLaws_51 : decode cX8_triesLaws 51 = .ok (.iload_n 3, 1) := dk_29 (dk_at dksX8_triesLaws_2 4 rfl rfl)
theorem dX8_triesLaws_52 : decode cX8_triesLaws 52 = .ok (.putfield 96, 3) := dk_181 0 96 (dk_at dksX8_triesLaws_2 5 rfl rfl)
theorem dX8_triesLaws_55 : decode cX8_triesLaws 55 = .ok (.aload_n 0, 1) := dk_42 (dk_at dksX8_triesLaws_2 8 rfl rfl)
theorem dX8_triesLaws_56 : decode cX8_triesLaws 56 = .ok (.aload_n 0, 1) := dk_42 (dk_at dksX8_triesLaws_2 9 rfl rfl)
theorem dX8_triesLaws_57 : decode cX8_triesLaws 57 = .ok (.invokevirtual 407, 3) := dk_182 1 151 (dk_at dksX8_triesLaws_2 10 rfl rfl)
theorem dX8_triesLaws_60 : decode cX8_triesLaws 60 = .ok (.invokevirtual 490, 3) := dk_182 1 234 (dk_at dksX8_triesLaws_2 13 rfl rfl)
theorem dX8_triesLaws_63 : decode cX8_triesLaws 63 = .ok (.istore 4, 2) := dk_54 4 (dk_at dksX8_triesLaws_2 16 rfl rfl)
theorem dX8_triesLaws_65 : decode cX8_triesLaws 65 = .ok (.iload 4, 2) := dk_21 4 (dk_at dksX8_triesLaws_2 18 rfl rfl)
theorem dX8_triesLaws_67 : decode cX8_triesLaws 67 = .ok (.bipush (-2), 2) := dk_16 254 (dk_at dksX8_triesLaws_2 20 rfl rfl)
theorem dX8_triesLaws_69 : decode cX8_triesLaws 69 = .ok (.if_icmp .eq 7, 3) := dk_159 0 7 (dk_at dksX8_triesLaws_3 0 rfl rfl)
theorem dX8_triesLaws_72 : decode cX8_triesLaws 72 = .ok (.iconst 1, 1) := dk_4 (dk_at dksX8_triesLaws_3 3 rfl rfl)
theorem dX8_triesLaws_73 : decode cX8_triesLaws 73 = .ok (.goto 4, 3) := dk_167 0 4 (dk_at dksX8_triesLaws_3 4 rfl rfl)
theorem dX8_triesLaws_76 : decode cX8_triesLaws 76 = .ok (.iconst 0, 1) := dk_3 (dk_at dksX8_triesLaws_3 7 rfl rfl)
theorem dX8_triesLaws_77 : decode cX8_triesLaws 77 = .ok (.istore_n 2, 1) := dk_61 (dk_at dksX8_triesLaws_3 8 rfl rfl)
theorem dX8_triesLaws_78 : decode cX8_triesLaws 78 = .ok (.iload 4, 2) := dk_21 4 (dk_at dksX8_triesLaws_3 9 rfl rfl)
theorem dX8_triesLaws_80 : decode cX8_triesLaws 80 = .ok (.iload_n 1, 1) := dk_27 (dk_at dksX8_triesLaws_3 11 rfl rfl)
theorem dX8_triesLaws_81 : decode cX8_triesLaws 81 = .ok (.if_icmp .ne 15, 3) := dk_160 0 15 (dk_at dksX8_triesLaws_3 12 rfl rfl)
theorem dX8_triesLaws_84 : decode cX8_triesLaws 84 = .ok (.aload_n 0, 1) := dk_42 (dk_at dksX8_triesLaws_3 15 rfl rfl)
theorem dX8_triesLaws_85 : decode cX8_triesLaws 85 = .ok (.dup, 1) := dk_89 (dk_at dksX8_triesLaws_3 16 rfl rfl)
theorem dX8_triesLaws_86 : decode cX8_triesLaws 86 = .ok (.getfield 484, 3) := dk_180 1 228 (dk_at dksX8_triesLaws_3 17 rfl rfl)
theorem dX8_triesLaws_89 : decode cX8_triesLaws 89 = .ok (.iconst 1, 1) := dk_4 (dk_at dksX8_triesLaws_3 20 rfl rfl)
theorem dX8_triesLaws_90 : decode cX8_triesLaws 90 = .ok (.iload_n 3, 1) := dk_29 (dk_at dksX8_triesLaws_3 21 rfl rfl)
theorem dX8_triesLaws_91 : decode cX8_triesLaws 91 = .ok (.ishl, 1) := dk_120 (dk_at dksX8_triesLaws_3 22 rfl rfl)
theorem dX8_triesLaws_92 : decode cX8_triesLaws 92 = .ok (.ior, 1) := dk_128 (dk_at dksX8_triesLaws_3 23 rfl rfl)
theorem dX8_triesLaws_93 : decode cX8_triesLaws 93 = .ok (.putfield 484, 3) := dk_181 1 228 (dk_at dksX8_triesLaws_4 0 rfl rfl)
theorem dX8_triesLaws_96 : decode cX8_triesLaws 96 = .ok (.iload_n 1, 1) := dk_27 (dk_at dksX8_triesLaws_4 3 rfl rfl)
theorem dX8_triesLaws_97 : decode cX8_triesLaws 97 = .ok (.iconst (-1), 1) := dk_2 (dk_at dksX8_triesLaws_4 4 rfl rfl)
theorem dX8_triesLaws_98 : decode cX8_triesLaws 98 = .ok (.if_icmp .ne 20, 3) := dk_160 0 20 (dk_at dksX8_triesLaws_4 5 rfl rfl)
theorem dX8_triesLaws_101 : decode cX8_triesLaws 101 = .ok (.iload 4, 2) := dk_21 4 (dk_at dksX8_triesLaws_4 8 rfl rfl)
theorem dX8_triesLaws_103 : decode cX8_triesLaws 103 = .ok (.ifCond .lt 15, 3) := dk_155 0 15 (dk_at dksX8_triesLaws_4 10 rfl rfl)
theorem dX8_triesLaws_106 : decode cX8_triesLaws 106 = .ok (.aload_n 0, 1) := dk_42 (dk_at dksX8_triesLaws_4 13 rfl rfl)
theorem dX8_triesLaws_107 : decode cX8_triesLaws 107 = .ok (.dup, 1) := dk_89 (dk_at dksX8_triesLaws_4 14 rfl rfl)
theorem dX8_triesLaws_108 : decode cX8_triesLaws 108 = .ok (.getfield 487, 3) := dk_180 1 231 (dk_at dksX8_triesLaws_4 15 rfl rfl)
theorem dX8_triesLaws_111 : decode cX8_triesLaws 111 = .ok (.iconst 1, 1) := dk_4 (dk_at dksX8_triesLaws_4 18 rfl rfl)
theorem dX8_triesLaws_112 : decode cX8_triesLaws 112 = .ok (.iload_n 3, 1) := dk_29 (dk_at dksX8_triesLaws_4 19 rfl rfl)
theorem dX8_triesLaws_113 : decode cX8_triesLaws 113 = .ok (.ishl, 1) := dk_120 (dk_at dksX8_triesLaws_4 20 rfl rfl)
theorem dX8_triesLaws_114 : decode cX8_triesLaws 114 = .ok (.ior, 1) := dk_128 (dk_at dksX8_triesLaws_4 21 rfl rfl)
theorem dX8_triesLaws_115 : decode cX8_triesLaws 115 = .ok (.putfield 487, 3) := dk_181 1 231 (dk_at dksX8_triesLaws_5 0 rfl rfl)
theorem dX8_triesLaws_118 : decode cX8_triesLaws 118 = .ok (.iinc 3 1, 3) := dk_132 3 1 (dk_at dksX8_triesLaws_5 3 rfl rfl)
theorem dX8_triesLaws_121 : decode cX8_triesLaws 121 = .ok (.goto (-83), 3) := dk_167 255 173 (dk_at dksX8_triesLaws_5 6 rfl rfl)
theorem dX8_triesLaws_124 : decode cX8_triesLaws 124 = .ok (.aload_n 0, 1) := dk_42 (dk_at dksX8_triesLaws_5 9 rfl rfl)
theorem dX8_triesLaws_125 : decode cX8_triesLaws 125 = .ok (.iconst (-1), 1) := dk_2 (dk_at dksX8_triesLaws_5 10 rfl rfl)
theorem dX8_triesLaws_126 : decode cX8_triesLaws 126 = .ok (.putfield 96, 3) := dk_181 0 96 (dk_at dksX8_triesLaws_5 11 rfl rfl)
theorem dX8_triesLaws_129 : decode cX8_triesLaws 129 = .ok (.aload_n 0, 1) := dk_42 (dk_at dksX8_triesLaws_5 14 rfl rfl)
theorem dX8_triesLaws_130 : decode cX8_triesLaws 130 = .ok (.iconst 0, 1) := dk_3 (dk_at dksX8_triesLaws_5 15 rfl rfl)
theorem dX8_triesLaws_131 : decode cX8_triesLaws 131 = .ok (.putfield 423, 3) := dk_181 1 167 (dk_at dksX8_triesLaws_5 16 rfl rfl)
theorem dX8_triesLaws_134 : decode cX8_triesLaws 134 = .ok (.iload_n 2, 1) := dk_28 (dk_at dksX8_triesLaws_5 19 rfl rfl)
theorem dX8_triesLaws_135 : decode cX8_triesLaws 135 = .ok (.ireturn, 1) := dk_172 (dk_at dksX8_triesLaws_5 20 rfl rfl)
abbrev cX8_seeks : ByteArray := prog_19_method_83_code
def yX8_seeks : MethodName := ⟨RX8, "seeks", "(I)I"⟩
def dkwX8_seeks_0 : List UInt8 := [42, 27, 182, 1, 190, 154, 0, 6, 16, 254, 172, 42, 182, 1, 193, 42, 180, 0, 108, 3, 46, 172]
abbrev dktX8_seeks_0 : List UInt8 := dkwX8_seeks_0 ++ []
theorem dksX8_seeks_0 : cX8_seeks.data.toList.drop 0 = dktX8_seeks_0 := by decide +kernel
theorem dX8_seeks_0 : decode cX8_seeks 0 = .ok (.aload_n 0, 1) := dk_42 (dk_at dksX8_seeks_0 0 rfl rfl)
theorem dX8_seeks_1 : decode cX8_seeks 1 = .ok (.iload_n 1, 1) := dk_27 (dk_at dksX8_seeks_0 1 rfl rfl)
theorem dX8_seeks_2 : decode cX8_seeks 2 = .ok (.invokevirtual 446, 3) := dk_182 1 190 (dk_at dksX8_seeks_0 2 rfl rfl)
theorem dX8_seeks_5 : decode cX8_seeks 5 = .ok (.ifCond .ne 6, 3) := dk_154 0 6 (dk_at dksX8_seeks_0 5 rfl rfl)
theorem dX8_seeks_8 : decode cX8_seeks 8 = .ok (.bipush (-2), 2) := dk_16 254 (dk_at dksX8_seeks_0 8 rfl rfl)
theorem dX8_seeks_10 : decode cX8_seeks 10 = .ok (.ireturn, 1) := dk_172 (dk_at dksX8_seeks_0 10 rfl rfl)
theorem dX8_seeks_11 : decode cX8_seeks 11 = .ok (.aload_n 0, 1) := dk_42 (dk_at dksX8_seeks_0 11 rfl rfl)
theorem dX8_seeks_12 : decode cX8_seeks 12 = .ok (.invokevirtual 449, 3) := dk_182 1 193 (dk_at dksX8_seeks_0 12 rfl rfl)
theorem dX8_seeks_15 : decode cX8_seeks 15 = .ok (.aload_n 0, 1) := dk_42 (dk_at dksX8_seeks_0 15 rfl rfl)
theorem dX8_seeks_16 : decode cX8_seeks 16 = .ok (.getfield 108, 3) := dk_180 0 108 (dk_at dksX8_seeks_0 16 rfl rfl)
theorem dX8_seeks_19 : decode cX8_seeks 19 = .ok (.iconst 0, 1) := dk_3 (dk_at dksX8_seeks_0 19 rfl rfl)
theorem dX8_seeks_20 : decode cX8_seeks 20 = .ok (.iaload, 1) := dk_46 (dk_at dksX8_seeks_0 20 rfl rfl)
theorem dX8_seeks_21 : decode cX8_seeks 21 = .ok (.ireturn, 1) := dk_172 (dk_at dksX8_seeks_0 21 rfl rfl)
abbrev cX8_size : ByteArray := prog_19_method_86_code
def yX8_size : MethodName := ⟨RX8, "size", "(I)I"⟩
def dkwX8_size_5 : List UInt8 := [180, 0, 155, 27, 46, 6, 100, 172]
abbrev dktX8_size_5 : List UInt8 := dkwX8_size_5 ++ []
def dkwX8_size_4 : List UInt8 := [180, 0, 26, 3, 28, 79, 167, 0, 10, 42, 180, 0, 29, 3, 28, 79, 42, 3, 181, 1, 167, 42]
abbrev dktX8_size_4 : List UInt8 := dkwX8_size_4 ++ dktX8_size_5
def dkwX8_size_3 : List UInt8 := [6, 27, 154, 0, 10, 42, 182, 1, 237, 167, 0, 7, 42, 182, 1, 240, 96, 79, 27, 154, 0, 13, 42]
abbrev dktX8_size_3 : List UInt8 := dkwX8_size_3 ++ dktX8_size_4
def dkwX8_size_2 : List UInt8 := [154, 0, 12, 42, 180, 0, 26, 3, 46, 167, 0, 9, 42, 180, 0, 29, 3, 46, 61, 42, 180, 0, 155, 27]
abbrev dktX8_size_2 : List UInt8 := dkwX8_size_2 ++ dktX8_size_3
def dkwX8_size_1 : List UInt8 := [167, 0, 4, 3, 4, 182, 1, 72, 154, 0, 5, 3, 172, 42, 180, 0, 155, 27, 46, 154, 0, 72, 27]
abbrev dktX8_size_1 : List UInt8 := dkwX8_size_1 ++ dktX8_size_2
def dkwX8_size_0 : List UInt8 := [42, 3, 181, 0, 173, 42, 27, 153, 0, 8, 27, 4, 160, 0, 14, 42, 180, 1, 85, 158, 0, 7, 4]
abbrev dktX8_size_0 : List UInt8 := dkwX8_size_0 ++ dktX8_size_1
theorem dksX8_size_0 : cX8_size.data.toList.drop 0 = dktX8_size_0 := by decide +kernel
theorem dksX8_size_1 : cX8_size.data.toList.drop 23 = dktX8_size_1 := dk_seg dksX8_size_0 23 rfl rfl
theorem dksX8_size_2 : cX8_size.data.toList.drop 46 = dktX8_size_2 := dk_seg dksX8_size_1 23 rfl rfl
theorem dksX8_size_3 : cX8_size.data.toList.drop 70 = dktX8_size_3 := dk_seg dksX8_size_2 24 rfl rfl
theorem dksX8_size_4 : cX8_size.data.toList.drop 93 = dktX8_size_4 := dk_seg dksX8_size_3 23 rfl rfl
theorem dksX8_size_5 : cX8_size.data.toList.drop 115 = dktX8_size_5 := dk_seg dksX8_size_4 22 rfl rfl
theorem dX8_size_0 : decode cX8_size 0 = .ok (.aload_n 0, 1) := dk_42 (dk_at dksX8_size_0 0 rfl rfl)
theorem dX8_size_1 : decode cX8_size 1 = .ok (.iconst 0, 1) := dk_3 (dk_at dksX8_size_0 1 rfl rfl)
theorem dX8_size_2 : decode cX8_size 2 = .ok (.putfield 173, 3) := dk_181 0 173 (dk_at dksX8_size_0 2 rfl rfl)
theorem dX8_size_5 : decode cX8_size 5 = .ok (.aload_n 0, 1) := dk_42 (dk_at dksX8_size_0 5 rfl rfl)
theorem dX8_size_6 : decode cX8_size 6 = .ok (.iload_n 1, 1) := dk_27 (dk_at dksX8_size_0 6 rfl rfl)
theorem dX8_size_7 : decode cX8_size 7 = .ok (.ifCond .eq 8, 3) := dk_153 0 8 (dk_at dksX8_size_0 7 rfl rfl)
theorem dX8_size_10 : decode cX8_size 10 = .ok (.iload_n 1, 1) := dk_27 (dk_at dksX8_size_0 10 rfl rfl)
theorem dX8_size_11 : decode cX8_size 11 = .ok (.iconst 1, 1) := dk_4 (dk_at dksX8_size_0 11 rfl rfl)
theorem dX8_size_12 : decode cX8_size 12 = .ok (.if_icmp .ne 14, 3) := dk_160 0 14 (dk_at dksX8_size_0 12 rfl rfl)
theorem dX8_size_15 : decode cX8_size 15 = .ok (.aload_n 0, 1) := dk_42 (dk_at dksX8_size_0 15 rfl rfl)
theorem dX8_size_16 : decode cX8_size 16 = .ok (.getfield 341, 3) := dk_180 1 85 (dk_at dksX8_size_0 16 rfl rfl)
theorem dX8_size_19 : decode cX8_size 19 = .ok (.ifCond .le 7, 3) := dk_158 0 7 (dk_at dksX8_size_0 19 rfl rfl)
theorem dX8_size_22 : decode cX8_size 22 = .ok (.iconst 1, 1) := dk_4 (dk_at dksX8_size_0 22 rfl rfl)
theorem dX8_size_23 : decode cX8_size 23 = .ok (.goto 4, 3) := dk_167 0 4 (dk_at dksX8_size_1 0 rfl rfl)
theorem dX8_size_26 : decode cX8_size 26 = .ok (.iconst 0, 1) := dk_3 (dk_at dksX8_size_1 3 rfl rfl)
theorem dX8_size_27 : decode cX8_size 27 = .ok (.iconst 1, 1) := dk_4 (dk_at dksX8_size_1 4 rfl rfl)
theorem dX8_size_28 : decode cX8_size 28 = .ok (.invokevirtual 328, 3) := dk_182 1 72 (dk_at dksX8_size_1 5 rfl rfl)
theorem dX8_size_31 : decode cX8_size 31 = .ok (.ifCond .ne 5, 3) := dk_154 0 5 (dk_at dksX8_size_1 8 rfl rfl)
theorem dX8_size_34 : decode cX8_size 34 = .ok (.iconst 0, 1) := dk_3 (dk_at dksX8_size_1 11 rfl rfl)
theorem dX8_size_35 : decode cX8_size 35 = .ok (.ireturn, 1) := dk_172 (dk_at dksX8_size_1 12 rfl rfl)
theorem dX8_size_36 : decode cX8_size 36 = .ok (.aload_n 0, 1) := dk_42 (dk_at dksX8_size_1 13 rfl rfl)
theorem dX8_size_37 : decode cX8_size 37 = .ok (.getfield 155, 3) := dk_180 0 155 (dk_at dksX8_size_1 14 rfl rfl)
theorem dX8_size_40 : decode cX8_size 40 = .ok (.iload_n 1, 1) := dk_27 (dk_at dksX8_size_1 17 rfl rfl)
theorem dX8_size_41 : decode cX8_size 41 = .ok (.iaload, 1) := dk_46 (dk_at dksX8_size_1 18 rfl rfl)
theorem dX8_size_42 : decode cX8_size 42 = .ok (.ifCond .ne 72, 3) := dk_154 0 72 (dk_at dksX8_size_1 19 rfl rfl)
theorem dX8_size_45 : decode cX8_size 45 = .ok (.iload_n 1, 1) := dk_27 (dk_at dksX8_size_1 22 rfl rfl)
theorem dX8_size_46 : decode cX8_size 46 = .ok (.ifCond .ne 12, 3) := dk_154 0 12 (dk_at dksX8_size_2 0 rfl rfl)
theorem dX8_size_49 : decode cX8_size 49 = .ok (.aload_n 0, 1) := dk_42 (dk_at dksX8_size_2 3 rfl rfl)
theorem dX8_size_50 : decode cX8_size 50 = .ok (.getfield 26, 3) := dk_180 0 26 (dk_at dksX8_size_2 4 rfl rfl)
theorem dX8_size_53 : decode cX8_size 53 = .ok (.iconst 0, 1) := dk_3 (dk_at dksX8_size_2 7 rfl rfl)
theorem dX8_size_54 : decode cX8_size 54 = .ok (.iaload, 1) := dk_46 (dk_at dksX8_size_2 8 rfl rfl)
theorem dX8_size_55 : decode cX8_size 55 = .ok (.goto 9, 3) := dk_167 0 9 (dk_at dksX8_size_2 9 rfl rfl)
theorem dX8_size_58 : decode cX8_size 58 = .ok (.aload_n 0, 1) := dk_42 (dk_at dksX8_size_2 12 rfl rfl)
theorem dX8_size_59 : decode cX8_size 59 = .ok (.getfield 29, 3) := dk_180 0 29 (dk_at dksX8_size_2 13 rfl rfl)
theorem dX8_size_62 : decode cX8_size 62 = .ok (.iconst 0, 1) := dk_3 (dk_at dksX8_size_2 16 rfl rfl)
theorem dX8_size_63 : decode cX8_size 63 = .ok (.iaload, 1) := dk_46 (dk_at dksX8_size_2 17 rfl rfl)
theorem dX8_size_64 : decode cX8_size 64 = .ok (.istore_n 2, 1) := dk_61 (dk_at dksX8_size_2 18 rfl rfl)
theorem dX8_size_65 : decode cX8_size 65 = .ok (.aload_n 0, 1) := dk_42 (dk_at dksX8_size_2 19 rfl rfl)
theorem dX8_size_66 : decode cX8_size 66 = .ok (.getfield 155, 3) := dk_180 0 155 (dk_at dksX8_size_2 20 rfl rfl)
theorem dX8_size_69 : decode cX8_size 69 = .ok (.iload_n 1, 1) := dk_27 (dk_at dksX8_size_2 23 rfl rfl)
theorem dX8_size_70 : decode cX8_size 70 = .ok (.iconst 3, 1) := dk_6 (dk_at dksX8_size_3 0 rfl rfl)
theorem dX8_size_71 : decode cX8_size 71 = .ok (.iload_n 1, 1) := dk_27 (dk_at dksX8_size_3 1 rfl rfl)
theorem dX8_size_72 : decode cX8_size 72 = .ok (.ifCond .ne 10, 3) := dk_154 0 10 (dk_at dksX8_size_3 2 rfl rfl)
theorem dX8_size_75 : decode cX8_size 75 = .ok (.aload_n 0, 1) := dk_42 (dk_at dksX8_size_3 5 rfl rfl)
theorem dX8_size_76 : decode cX8_size 76 = .ok (.invokevirtual 493, 3) := dk_182 1 237 (dk_at dksX8_size_3 6 rfl rfl)
theorem dX8_size_79 : decode cX8_size 79 = .ok (.goto 7, 3) := dk_167 0 7 (dk_at dksX8_size_3 9 rfl rfl)
theorem dX8_size_82 : decode cX8_size 82 = .ok (.aload_n 0, 1) := dk_42 (dk_at dksX8_size_3 12 rfl rfl)
theorem dX8_size_83 : decode cX8_size 83 = .ok (.invokevirtual 496, 3) := dk_182 1 240 (dk_at dksX8_size_3 13 rfl rfl)
theorem dX8_size_86 : decode cX8_size 86 = .ok (.iadd, 1) := dk_96 (dk_at dksX8_size_3 16 rfl rfl)
theorem dX8_size_87 : decode cX8_size 87 = .ok (.iastore, 1) := dk_79 (dk_at dksX8_size_3 17 rfl rfl)
theorem dX8_size_88 : decode cX8_size 88 = .ok (.iload_n 1, 1) := dk_27 (dk_at dksX8_size_3 18 rfl rfl)
theorem dX8_size_89 : decode cX8_size 89 = .ok (.ifCond .ne 13, 3) := dk_154 0 13 (dk_at dksX8_size_3 19 rfl rfl)
theorem dX8_size_92 : decode cX8_size 92 = .ok (.aload_n 0, 1) := dk_42 (dk_at dksX8_size_3 22 rfl rfl)
theorem dX8_size_93 : decode cX8_size 93 = .ok (.getfield 26, 3) := dk_180 0 26 (dk_at dksX8_size_4 0 rfl rfl)
theorem dX8_size_96 : decode cX8_size 96 = .ok (.iconst 0, 1) := dk_3 (dk_at dksX8_size_4 3 rfl rfl)
theorem dX8_size_97 : decode cX8_size 97 = .ok (.iload_n 2, 1) := dk_28 (dk_at dksX8_size_4 4 rfl rfl)
theorem dX8_size_98 : decode cX8_size 98 = .ok (.iastore, 1) := dk_79 (dk_at dksX8_size_4 5 rfl rfl)
theorem dX8_size_99 : decode cX8_size 99 = .ok (.goto 10, 3) := dk_167 0 10 (dk_at dksX8_size_4 6 rfl rfl)
theorem dX8_size_102 : decode cX8_size 102 = .ok (.aload_n 0, 1) := dk_42 (dk_at dksX8_size_4 9 rfl rfl)
theorem dX8_size_103 : decode cX8_size 103 = .ok (.getfield 29, 3) := dk_180 0 29 (dk_at dksX8_size_4 10 rfl rfl)
theorem dX8_size_106 : decode cX8_size 106 = .ok (.iconst 0, 1) := dk_3 (dk_at dksX8_size_4 13 rfl rfl)
theorem dX8_size_107 : decode cX8_size 107 = .ok (.iload_n 2, 1) := dk_28 (dk_at dksX8_size_4 14 rfl rfl)
theorem dX8_size_108 : decode cX8_size 108 = .ok (.iastore, 1) := dk_79 (dk_at dksX8_size_4 15 rfl rfl)
theorem dX8_size_109 : decode cX8_size 109 = .ok (.aload_n 0, 1) := dk_42 (dk_at dksX8_size_4 16 rfl rfl)
theorem dX8_size_110 : decode cX8_size 110 = .ok (.iconst 0, 1) := dk_3 (dk_at dksX8_size_4 17 rfl rfl)
theorem dX8_size_111 : decode cX8_size 111 = .ok (.putfield 423, 3) := dk_181 1 167 (dk_at dksX8_size_4 18 rfl rfl)
theorem dX8_size_114 : decode cX8_size 114 = .ok (.aload_n 0, 1) := dk_42 (dk_at dksX8_size_4 21 rfl rfl)
theorem dX8_size_115 : decode cX8_size 115 = .ok (.getfield 155, 3) := dk_180 0 155 (dk_at dksX8_size_5 0 rfl rfl)
theorem dX8_size_118 : decode cX8_size 118 = .ok (.iload_n 1, 1) := dk_27 (dk_at dksX8_size_5 3 rfl rfl)
theorem dX8_size_119 : decode cX8_size 119 = .ok (.iaload, 1) := dk_46 (dk_at dksX8_size_5 4 rfl rfl)
theorem dX8_size_120 : decode cX8_size 120 = .ok (.iconst 3, 1) := dk_6 (dk_at dksX8_size_5 5 rfl rfl)
theorem dX8_size_121 : decode cX8_size 121 = .ok (.isub, 1) := dk_100 (dk_at dksX8_size_5 6 rfl rfl)
theorem dX8_size_122 : decode cX8_size 122 = .ok (.ireturn, 1) := dk_172 (dk_at dksX8_size_5 7 rfl rfl)
abbrev cX8_leastHeld : ByteArray := prog_19_method_87_code
def yX8_leastHeld : MethodName := ⟨RX8, "leastHeld", "()I"⟩
def dkwX8_leastHeld_1 : List UInt8 := [28, 16, 254, 160, 0, 6, 16, 254, 172, 28, 155, 0, 5, 27, 172, 132, 1, 1, 167, 255, 216, 2, 172]
abbrev dktX8_leastHeld_1 : List UInt8 := dkwX8_leastHeld_1 ++ []
def dkwX8_leastHeld_0 : List UInt8 := [4, 60, 27, 16, 8, 163, 0, 40, 42, 180, 0, 26, 3, 27, 79, 42, 42, 182, 1, 151, 182, 1, 234, 61]
abbrev dktX8_leastHeld_0 : List UInt8 := dkwX8_leastHeld_0 ++ dktX8_leastHeld_1
theorem dksX8_leastHeld_0 : cX8_leastHeld.data.toList.drop 0 = dktX8_leastHeld_0 := by decide +kernel
theorem dksX8_leastHeld_1 : cX8_leastHeld.data.toList.drop 24 = dktX8_leastHeld_1 := dk_seg dksX8_leastHeld_0 24 rfl rfl
theorem dX8_leastHeld_0 : decode cX8_leastHeld 0 = .ok (.iconst 1, 1) := dk_4 (dk_at dksX8_leastHeld_0 0 rfl rfl)
theorem dX8_leastHeld_1 : decode cX8_leastHeld 1 = .ok (.istore_n 1, 1) := dk_60 (dk_at dksX8_leastHeld_0 1 rfl rfl)
theorem dX8_leastHeld_2 : decode cX8_leastHeld 2 = .ok (.iload_n 1, 1) := dk_27 (dk_at dksX8_leastHeld_0 2 rfl rfl)
theorem dX8_leastHeld_3 : decode cX8_leastHeld 3 = .ok (.bipush 8, 2) := dk_16 8 (dk_at dksX8_leastHeld_0 3 rfl rfl)
theorem dX8_leastHeld_5 : decode cX8_leastHeld 5 = .ok (.if_icmp .gt 40, 3) := dk_163 0 40 (dk_at dksX8_leastHeld_0 5 rfl rfl)
theorem dX8_leastHeld_8 : decode cX8_leastHeld 8 = .ok (.aload_n 0, 1) := dk_42 (dk_at dksX8_leastHeld_0 8 rfl rfl)
theorem dX8_leastHeld_9 : decode cX8_leastHeld 9 = .ok (.getfield 26, 3) := dk_180 0 26 (dk_at dksX8_leastHeld_0 9 rfl rfl)
theorem dX8_leastHeld_12 : decode cX8_leastHeld 12 = .ok (.iconst 0, 1) := dk_3 (dk_at dksX8_leastHeld_0 12 rfl rfl)
theorem dX8_leastHeld_13 : decode cX8_leastHeld 13 = .ok (.iload_n 1, 1) := dk_27 (dk_at dksX8_leastHeld_0 13 rfl rfl)
theorem dX8_leastHeld_14 : decode cX8_leastHeld 14 = .ok (.iastore, 1) := dk_79 (dk_at dksX8_leastHeld_0 14 rfl rfl)
theorem dX8_leastHeld_15 : decode cX8_leastHeld 15 = .ok (.aload_n 0, 1) := dk_42 (dk_at dksX8_leastHeld_0 15 rfl rfl)
theorem dX8_leastHeld_16 : decode cX8_leastHeld 16 = .ok (.aload_n 0, 1) := dk_42 (dk_at dksX8_leastHeld_0 16 rfl rfl)
theorem dX8_leastHeld_17 : decode cX8_leastHeld 17 = .ok (.invokevirtual 407, 3) := dk_182 1 151 (dk_at dksX8_leastHeld_0 17 rfl rfl)
theorem dX8_leastHeld_20 : decode cX8_leastHeld 20 = .ok (.invokevirtual 490, 3) := dk_182 1 234 (dk_at dksX8_leastHeld_0 20 rfl rfl)
theorem dX8_leastHeld_23 : decode cX8_leastHeld 23 = .ok (.istore_n 2, 1) := dk_61 (dk_at dksX8_leastHeld_0 23 rfl rfl)
theorem dX8_leastHeld_24 : decode cX8_leastHeld 24 = .ok (.iload_n 2, 1) := dk_28 (dk_at dksX8_leastHeld_1 0 rfl rfl)
theorem dX8_leastHeld_25 : decode cX8_leastHeld 25 = .ok (.bipush (-2), 2) := dk_16 254 (dk_at dksX8_leastHeld_1 1 rfl rfl)
theorem dX8_leastHeld_27 : decode cX8_leastHeld 27 = .ok (.if_icmp .ne 6, 3) := dk_160 0 6 (dk_at dksX8_leastHeld_1 3 rfl rfl)
theorem dX8_leastHeld_30 : decode cX8_leastHeld 30 = .ok (.bipush (-2), 2) := dk_16 254 (dk_at dksX8_leastHeld_1 6 rfl rfl)
theorem dX8_leastHeld_32 : decode cX8_leastHeld 32 = .ok (.ireturn, 1) := dk_172 (dk_at dksX8_leastHeld_1 8 rfl rfl)
theorem dX8_leastHeld_33 : decode cX8_leastHeld 33 = .ok (.iload_n 2, 1) := dk_28 (dk_at dksX8_leastHeld_1 9 rfl rfl)
theorem dX8_leastHeld_34 : decode cX8_leastHeld 34 = .ok (.ifCond .lt 5, 3) := dk_155 0 5 (dk_at dksX8_leastHeld_1 10 rfl rfl)
theorem dX8_leastHeld_37 : decode cX8_leastHeld 37 = .ok (.iload_n 1, 1) := dk_27 (dk_at dksX8_leastHeld_1 13 rfl rfl)
theorem dX8_leastHeld_38 : decode cX8_leastHeld 38 = .ok (.ireturn, 1) := dk_172 (dk_at dksX8_leastHeld_1 14 rfl rfl)
theorem dX8_leastHeld_39 : decode cX8_leastHeld 39 = .ok (.iinc 1 1, 3) := dk_132 1 1 (dk_at dksX8_leastHeld_1 15 rfl rfl)
theorem dX8_leastHeld_42 : decode cX8_leastHeld 42 = .ok (.goto (-40), 3) := dk_167 255 216 (dk_at dksX8_leastHeld_1 18 rfl rfl)
theorem dX8_leastHeld_45 : decode cX8_leastHeld 45 = .ok (.iconst (-1), 1) := dk_2 (dk_at dksX8_leastHeld_1 21 rfl rfl)
theorem dX8_leastHeld_46 : decode cX8_leastHeld 46 = .ok (.ireturn, 1) := dk_172 (dk_at dksX8_leastHeld_1 22 rfl rfl)
abbrev cX8_leastLoad : ByteArray := prog_19_method_88_code
def yX8_leastLoad : MethodName := ⟨RX8, "leastLoad", "()I"⟩
def dkwX8_leastLoad_3 : List UInt8 := [108, 62, 167, 255, 212, 28, 29, 96, 5, 108, 4, 96, 61, 167, 255, 201, 29, 172]
abbrev dktX8_leastLoad_3 : List UInt8 := dkwX8_leastLoad_3 ++ []
def dkwX8_leastLoad_2 : List UInt8 := [182, 1, 151, 182, 1, 234, 60, 27, 16, 254, 160, 0, 6, 16, 254, 172, 27, 155, 0, 12, 28, 29, 96, 5]
abbrev dktX8_leastLoad_2 : List UInt8 := dkwX8_leastLoad_2 ++ dktX8_leastLoad_3
def dkwX8_leastLoad_1 : List UInt8 := [3, 61, 17, 3, 231, 62, 28, 29, 162, 0, 56, 42, 180, 0, 29, 3, 28, 29, 96, 5, 108, 79, 42, 42]
abbrev dktX8_leastLoad_1 : List UInt8 := dkwX8_leastLoad_1 ++ dktX8_leastLoad_2
def dkwX8_leastLoad_0 : List UInt8 := [42, 180, 0, 29, 3, 17, 3, 231, 79, 42, 42, 182, 1, 151, 182, 1, 234, 60, 27, 156, 0, 5, 27, 172]
abbrev dktX8_leastLoad_0 : List UInt8 := dkwX8_leastLoad_0 ++ dktX8_leastLoad_1
theorem dksX8_leastLoad_0 : cX8_leastLoad.data.toList.drop 0 = dktX8_leastLoad_0 := by decide +kernel
theorem dksX8_leastLoad_1 : cX8_leastLoad.data.toList.drop 24 = dktX8_leastLoad_1 := dk_seg dksX8_leastLoad_0 24 rfl rfl
theorem dksX8_leastLoad_2 : cX8_leastLoad.data.toList.drop 48 = dktX8_leastLoad_2 := dk_seg dksX8_leastLoad_1 24 rfl rfl
theorem dksX8_leastLoad_3 : cX8_leastLoad.data.toList.drop 72 = dktX8_leastLoad_3 := dk_seg dksX8_leastLoad_2 24 rfl rfl
theorem dX8_leastLoad_0 : decode cX8_leastLoad 0 = .ok (.aload_n 0, 1) := dk_42 (dk_at dksX8_leastLoad_0 0 rfl rfl)
theorem dX8_leastLoad_1 : decode cX8_leastLoad 1 = .ok (.getfield 29, 3) := dk_180 0 29 (dk_at dksX8_leastLoad_0 1 rfl rfl)
theorem dX8_leastLoad_4 : decode cX8_leastLoad 4 = .ok (.iconst 0, 1) := dk_3 (dk_at dksX8_leastLoad_0 4 rfl rfl)
theorem dX8_leastLoad_5 : decode cX8_leastLoad 5 = .ok (.sipush 999, 3) := dk_17 3 231 (dk_at dksX8_leastLoad_0 5 rfl rfl)
theorem dX8_leastLoad_8 : decode cX8_leastLoad 8 = .ok (.iastore, 1) := dk_79 (dk_at dksX8_leastLoad_0 8 rfl rfl)
theorem dX8_leastLoad_9 : decode cX8_leastLoad 9 = .ok (.aload_n 0, 1) := dk_42 (dk_at dksX8_leastLoad_0 9 rfl rfl)
theorem dX8_leastLoad_10 : decode cX8_leastLoad 10 = .ok (.aload_n 0, 1) := dk_42 (dk_at dksX8_leastLoad_0 10 rfl rfl)
theorem dX8_leastLoad_11 : decode cX8_leastLoad 11 = .ok (.invokevirtual 407, 3) := dk_182 1 151 (dk_at dksX8_leastLoad_0 11 rfl rfl)
theorem dX8_leastLoad_14 : decode cX8_leastLoad 14 = .ok (.invokevirtual 490, 3) := dk_182 1 234 (dk_at dksX8_leastLoad_0 14 rfl rfl)
theorem dX8_leastLoad_17 : decode cX8_leastLoad 17 = .ok (.istore_n 1, 1) := dk_60 (dk_at dksX8_leastLoad_0 17 rfl rfl)
theorem dX8_leastLoad_18 : decode cX8_leastLoad 18 = .ok (.iload_n 1, 1) := dk_27 (dk_at dksX8_leastLoad_0 18 rfl rfl)
theorem dX8_leastLoad_19 : decode cX8_leastLoad 19 = .ok (.ifCond .ge 5, 3) := dk_156 0 5 (dk_at dksX8_leastLoad_0 19 rfl rfl)
theorem dX8_leastLoad_22 : decode cX8_leastLoad 22 = .ok (.iload_n 1, 1) := dk_27 (dk_at dksX8_leastLoad_0 22 rfl rfl)
theorem dX8_leastLoad_23 : decode cX8_leastLoad 23 = .ok (.ireturn, 1) := dk_172 (dk_at dksX8_leastLoad_0 23 rfl rfl)
theorem dX8_leastLoad_24 : decode cX8_leastLoad 24 = .ok (.iconst 0, 1) := dk_3 (dk_at dksX8_leastLoad_1 0 rfl rfl)
theorem dX8_leastLoad_25 : decode cX8_leastLoad 25 = .ok (.istore_n 2, 1) := dk_61 (dk_at dksX8_leastLoad_1 1 rfl rfl)
theorem dX8_leastLoad_26 : decode cX8_leastLoad 26 = .ok (.sipush 999, 3) := dk_17 3 231 (dk_at dksX8_leastLoad_1 2 rfl rfl)
theorem dX8_leastLoad_29 : decode cX8_leastLoad 29 = .ok (.istore_n 3, 1) := dk_62 (dk_at dksX8_leastLoad_1 5 rfl rfl)
theorem dX8_leastLoad_30 : decode cX8_leastLoad 30 = .ok (.iload_n 2, 1) := dk_28 (dk_at dksX8_leastLoad_1 6 rfl rfl)
theorem dX8_leastLoad_31 : decode cX8_leastLoad 31 = .ok (.iload_n 3, 1) := dk_29 (dk_at dksX8_leastLoad_1 7 rfl rfl)
theorem dX8_leastLoad_32 : decode cX8_leastLoad 32 = .ok (.if_icmp .ge 56, 3) := dk_162 0 56 (dk_at dksX8_leastLoad_1 8 rfl rfl)
theorem dX8_leastLoad_35 : decode cX8_leastLoad 35 = .ok (.aload_n 0, 1) := dk_42 (dk_at dksX8_leastLoad_1 11 rfl rfl)
theorem dX8_leastLoad_36 : decode cX8_leastLoad 36 = .ok (.getfield 29, 3) := dk_180 0 29 (dk_at dksX8_leastLoad_1 12 rfl rfl)
theorem dX8_leastLoad_39 : decode cX8_leastLoad 39 = .ok (.iconst 0, 1) := dk_3 (dk_at dksX8_leastLoad_1 15 rfl rfl)
theorem dX8_leastLoad_40 : decode cX8_leastLoad 40 = .ok (.iload_n 2, 1) := dk_28 (dk_at dksX8_leastLoad_1 16 rfl rfl)
theorem dX8_leastLoad_41 : decode cX8_leastLoad 41 = .ok (.iload_n 3, 1) := dk_29 (dk_at dksX8_leastLoad_1 17 rfl rfl)
theorem dX8_leastLoad_42 : decode cX8_leastLoad 42 = .ok (.iadd, 1) := dk_96 (dk_at dksX8_leastLoad_1 18 rfl rfl)
theorem dX8_leastLoad_43 : decode cX8_leastLoad 43 = .ok (.iconst 2, 1) := dk_5 (dk_at dksX8_leastLoad_1 19 rfl rfl)
theorem dX8_leastLoad_44 : decode cX8_leastLoad 44 = .ok (.idiv, 1) := dk_108 (dk_at dksX8_leastLoad_1 20 rfl rfl)
theorem dX8_leastLoad_45 : decode cX8_leastLoad 45 = .ok (.iastore, 1) := dk_79 (dk_at dksX8_leastLoad_1 21 rfl rfl)
theorem dX8_leastLoad_46 : decode cX8_leastLoad 46 = .ok (.aload_n 0, 1) := dk_42 (dk_at dksX8_leastLoad_1 22 rfl rfl)
theorem dX8_leastLoad_47 : decode cX8_leastLoad 47 = .ok (.aload_n 0, 1) := dk_42 (dk_at dksX8_leastLoad_1 23 rfl rfl)
theorem dX8_leastLoad_48 : decode cX8_leastLoad 48 = .ok (.invokevirtual 407, 3) := dk_182 1 151 (dk_at dksX8_leastLoad_2 0 rfl rfl)
theorem dX8_leastLoad_51 : decode cX8_leastLoad 51 = .ok (.invokevirtual 490, 3) := dk_182 1 234 (dk_at dksX8_leastLoad_2 3 rfl rfl)
theorem dX8_leastLoad_54 : decode cX8_leastLoad 54 = .ok (.istore_n 1, 1) := dk_60 (dk_at dksX8_leastLoad_2 6 rfl rfl)
theorem dX8_leastLoad_55 : decode cX8_leastLoad 55 = .ok (.iload_n 1, 1) := dk_27 (dk_at dksX8_leastLoad_2 7 rfl rfl)
theorem dX8_leastLoad_56 : decode cX8_leastLoad 56 = .ok (.bipush (-2), 2) := dk_16 254 (dk_at dksX8_leastLoad_2 8 rfl rfl)
theorem dX8_leastLoad_58 : decode cX8_leastLoad 58 = .ok (.if_icmp .ne 6, 3) := dk_160 0 6 (dk_at dksX8_leastLoad_2 10 rfl rfl)
theorem dX8_leastLoad_61 : decode cX8_leastLoad 61 = .ok (.bipush (-2), 2) := dk_16 254 (dk_at dksX8_leastLoad_2 13 rfl rfl)
theorem dX8_leastLoad_63 : decode cX8_leastLoad 63 = .ok (.ireturn, 1) := dk_172 (dk_at dksX8_leastLoad_2 15 rfl rfl)
theorem dX8_leastLoad_64 : decode cX8_leastLoad 64 = .ok (.iload_n 1, 1) := dk_27 (dk_at dksX8_leastLoad_2 16 rfl rfl)
theorem dX8_leastLoad_65 : decode cX8_leastLoad 65 = .ok (.ifCond .lt 12, 3) := dk_155 0 12 (dk_at dksX8_leastLoad_2 17 rfl rfl)
theorem dX8_leastLoad_68 : decode cX8_leastLoad 68 = .ok (.iload_n 2, 1) := dk_28 (dk_at dksX8_leastLoad_2 20 rfl rfl)
theorem dX8_leastLoad_69 : decode cX8_leastLoad 69 = .ok (.iload_n 3, 1) := dk_29 (dk_at dksX8_leastLoad_2 21 rfl rfl)
theorem dX8_leastLoad_70 : decode cX8_leastLoad 70 = .ok (.iadd, 1) := dk_96 (dk_at dksX8_leastLoad_2 22 rfl rfl)
theorem dX8_leastLoad_71 : decode cX8_leastLoad 71 = .ok (.iconst 2, 1) := dk_5 (dk_at dksX8_leastLoad_2 23 rfl rfl)
theorem dX8_leastLoad_72 : decode cX8_leastLoad 72 = .ok (.idiv, 1) := dk_108 (dk_at dksX8_leastLoad_3 0 rfl rfl)
theorem dX8_leastLoad_73 : decode cX8_leastLoad 73 = .ok (.istore_n 3, 1) := dk_62 (dk_at dksX8_leastLoad_3 1 rfl rfl)
theorem dX8_leastLoad_74 : decode cX8_leastLoad 74 = .ok (.goto (-44), 3) := dk_167 255 212 (dk_at dksX8_leastLoad_3 2 rfl rfl)
theorem dX8_leastLoad_77 : decode cX8_leastLoad 77 = .ok (.iload_n 2, 1) := dk_28 (dk_at dksX8_leastLoad_3 5 rfl rfl)
theorem dX8_leastLoad_78 : decode cX8_leastLoad 78 = .ok (.iload_n 3, 1) := dk_29 (dk_at dksX8_leastLoad_3 6 rfl rfl)
theorem dX8_leastLoad_79 : decode cX8_leastLoad 79 = .ok (.iadd, 1) := dk_96 (dk_at dksX8_leastLoad_3 7 rfl rfl)
theorem dX8_leastLoad_80 : decode cX8_leastLoad 80 = .ok (.iconst 2, 1) := dk_5 (dk_at dksX8_leastLoad_3 8 rfl rfl)
theorem dX8_leastLoad_81 : decode cX8_leastLoad 81 = .ok (.idiv, 1) := dk_108 (dk_at dksX8_leastLoad_3 9 rfl rfl)
theorem dX8_leastLoad_82 : decode cX8_leastLoad 82 = .ok (.iconst 1, 1) := dk_4 (dk_at dksX8_leastLoad_3 10 rfl rfl)
theorem dX8_leastLoad_83 : decode cX8_leastLoad 83 = .ok (.iadd, 1) := dk_96 (dk_at dksX8_leastLoad_3 11 rfl rfl)
theorem dX8_leastLoad_84 : decode cX8_leastLoad 84 = .ok (.istore_n 2, 1) := dk_61 (dk_at dksX8_leastLoad_3 12 rfl rfl)
theorem dX8_leastLoad_85 : decode cX8_leastLoad 85 = .ok (.goto (-55), 3) := dk_167 255 201 (dk_at dksX8_leastLoad_3 13 rfl rfl)
theorem dX8_leastLoad_88 : decode cX8_leastLoad 88 = .ok (.iload_n 3, 1) := dk_29 (dk_at dksX8_leastLoad_3 16 rfl rfl)
theorem dX8_leastLoad_89 : decode cX8_leastLoad 89 = .ok (.ireturn, 1) := dk_172 (dk_at dksX8_leastLoad_3 17 rfl rfl)
abbrev cX8_rounds : ByteArray := prog_19_method_91_code
def yX8_rounds : MethodName := ⟨RX8, "rounds", "()I"⟩
def dkwX8_rounds_3 : List UInt8 := [180, 1, 243, 5, 100, 172]
abbrev dktX8_rounds_3 : List UInt8 := dkwX8_rounds_3 ++ []
def dkwX8_rounds_2 : List UInt8 := [159, 0, 6, 16, 254, 172, 42, 180, 1, 243, 154, 0, 13, 42, 5, 42, 182, 1, 246, 96, 181, 1, 243, 42]
abbrev dktX8_rounds_2 : List UInt8 := dkwX8_rounds_2 ++ dktX8_rounds_3
def dkwX8_rounds_1 : List UInt8 := [180, 0, 26, 3, 46, 6, 163, 0, 21, 42, 180, 0, 26, 4, 46, 6, 163, 0, 11, 42, 180, 0, 13, 2]
abbrev dktX8_rounds_1 : List UInt8 := dkwX8_rounds_1 ++ dktX8_rounds_2
def dkwX8_rounds_0 : List UInt8 := [42, 3, 181, 0, 173, 42, 180, 0, 7, 5, 160, 0, 39, 42, 180, 1, 85, 5, 160, 0, 31, 42]
abbrev dktX8_rounds_0 : List UInt8 := dkwX8_rounds_0 ++ dktX8_rounds_1
theorem dksX8_rounds_0 : cX8_rounds.data.toList.drop 0 = dktX8_rounds_0 := by decide +kernel
theorem dksX8_rounds_1 : cX8_rounds.data.toList.drop 22 = dktX8_rounds_1 := dk_seg dksX8_rounds_0 22 rfl rfl
theorem dksX8_rounds_2 : cX8_rounds.data.toList.drop 46 = dktX8_rounds_2 := dk_seg dksX8_rounds_1 24 rfl rfl
theorem dksX8_rounds_3 : cX8_rounds.data.toList.drop 70 = dktX8_rounds_3 := dk_seg dksX8_rounds_2 24 rfl rfl
theorem dX8_rounds_0 : decode cX8_rounds 0 = .ok (.aload_n 0, 1) := dk_42 (dk_at dksX8_rounds_0 0 rfl rfl)
theorem dX8_rounds_1 : decode cX8_rounds 1 = .ok (.iconst 0, 1) := dk_3 (dk_at dksX8_rounds_0 1 rfl rfl)
theorem dX8_rounds_2 : decode cX8_rounds 2 = .ok (.putfield 173, 3) := dk_181 0 173 (dk_at dksX8_rounds_0 2 rfl rfl)
theorem dX8_rounds_5 : decode cX8_rounds 5 = .ok (.aload_n 0, 1) := dk_42 (dk_at dksX8_rounds_0 5 rfl rfl)
theorem dX8_rounds_6 : decode cX8_rounds 6 = .ok (.getfield 7, 3) := dk_180 0 7 (dk_at dksX8_rounds_0 6 rfl rfl)
theorem dX8_rounds_9 : decode cX8_rounds 9 = .ok (.iconst 2, 1) := dk_5 (dk_at dksX8_rounds_0 9 rfl rfl)
theorem dX8_rounds_10 : decode cX8_rounds 10 = .ok (.if_icmp .ne 39, 3) := dk_160 0 39 (dk_at dksX8_rounds_0 10 rfl rfl)
theorem dX8_rounds_13 : decode cX8_rounds 13 = .ok (.aload_n 0, 1) := dk_42 (dk_at dksX8_rounds_0 13 rfl rfl)
theorem dX8_rounds_14 : decode cX8_rounds 14 = .ok (.getfield 341, 3) := dk_180 1 85 (dk_at dksX8_rounds_0 14 rfl rfl)
theorem dX8_rounds_17 : decode cX8_rounds 17 = .ok (.iconst 2, 1) := dk_5 (dk_at dksX8_rounds_0 17 rfl rfl)
theorem dX8_rounds_18 : decode cX8_rounds 18 = .ok (.if_icmp .ne 31, 3) := dk_160 0 31 (dk_at dksX8_rounds_0 18 rfl rfl)
theorem dX8_rounds_21 : decode cX8_rounds 21 = .ok (.aload_n 0, 1) := dk_42 (dk_at dksX8_rounds_0 21 rfl rfl)
theorem dX8_rounds_22 : decode cX8_rounds 22 = .ok (.getfield 26, 3) := dk_180 0 26 (dk_at dksX8_rounds_1 0 rfl rfl)
theorem dX8_rounds_25 : decode cX8_rounds 25 = .ok (.iconst 0, 1) := dk_3 (dk_at dksX8_rounds_1 3 rfl rfl)
theorem dX8_rounds_26 : decode cX8_rounds 26 = .ok (.iaload, 1) := dk_46 (dk_at dksX8_rounds_1 4 rfl rfl)
theorem dX8_rounds_27 : decode cX8_rounds 27 = .ok (.iconst 3, 1) := dk_6 (dk_at dksX8_rounds_1 5 rfl rfl)
theorem dX8_rounds_28 : decode cX8_rounds 28 = .ok (.if_icmp .gt 21, 3) := dk_163 0 21 (dk_at dksX8_rounds_1 6 rfl rfl)
theorem dX8_rounds_31 : decode cX8_rounds 31 = .ok (.aload_n 0, 1) := dk_42 (dk_at dksX8_rounds_1 9 rfl rfl)
theorem dX8_rounds_32 : decode cX8_rounds 32 = .ok (.getfield 26, 3) := dk_180 0 26 (dk_at dksX8_rounds_1 10 rfl rfl)
theorem dX8_rounds_35 : decode cX8_rounds 35 = .ok (.iconst 1, 1) := dk_4 (dk_at dksX8_rounds_1 13 rfl rfl)
theorem dX8_rounds_36 : decode cX8_rounds 36 = .ok (.iaload, 1) := dk_46 (dk_at dksX8_rounds_1 14 rfl rfl)
theorem dX8_rounds_37 : decode cX8_rounds 37 = .ok (.iconst 3, 1) := dk_6 (dk_at dksX8_rounds_1 15 rfl rfl)
theorem dX8_rounds_38 : decode cX8_rounds 38 = .ok (.if_icmp .gt 11, 3) := dk_163 0 11 (dk_at dksX8_rounds_1 16 rfl rfl)
theorem dX8_rounds_41 : decode cX8_rounds 41 = .ok (.aload_n 0, 1) := dk_42 (dk_at dksX8_rounds_1 19 rfl rfl)
theorem dX8_rounds_42 : decode cX8_rounds 42 = .ok (.getfield 13, 3) := dk_180 0 13 (dk_at dksX8_rounds_1 20 rfl rfl)
theorem dX8_rounds_45 : decode cX8_rounds 45 = .ok (.iconst (-1), 1) := dk_2 (dk_at dksX8_rounds_1 23 rfl rfl)
theorem dX8_rounds_46 : decode cX8_rounds 46 = .ok (.if_icmp .eq 6, 3) := dk_159 0 6 (dk_at dksX8_rounds_2 0 rfl rfl)
theorem dX8_rounds_49 : decode cX8_rounds 49 = .ok (.bipush (-2), 2) := dk_16 254 (dk_at dksX8_rounds_2 3 rfl rfl)
theorem dX8_rounds_51 : decode cX8_rounds 51 = .ok (.ireturn, 1) := dk_172 (dk_at dksX8_rounds_2 5 rfl rfl)
theorem dX8_rounds_52 : decode cX8_rounds 52 = .ok (.aload_n 0, 1) := dk_42 (dk_at dksX8_rounds_2 6 rfl rfl)
theorem dX8_rounds_53 : decode cX8_rounds 53 = .ok (.getfield 499, 3) := dk_180 1 243 (dk_at dksX8_rounds_2 7 rfl rfl)
theorem dX8_rounds_56 : decode cX8_rounds 56 = .ok (.ifCond .ne 13, 3) := dk_154 0 13 (dk_at dksX8_rounds_2 10 rfl rfl)
theorem dX8_rounds_59 : decode cX8_rounds 59 = .ok (.aload_n 0, 1) := dk_42 (dk_at dksX8_rounds_2 13 rfl rfl)
theorem dX8_rounds_60 : decode cX8_rounds 60 = .ok (.iconst 2, 1) := dk_5 (dk_at dksX8_rounds_2 14 rfl rfl)
theorem dX8_rounds_61 : decode cX8_rounds 61 = .ok (.aload_n 0, 1) := dk_42 (dk_at dksX8_rounds_2 15 rfl rfl)
theorem dX8_rounds_62 : decode cX8_rounds 62 = .ok (.invokevirtual 502, 3) := dk_182 1 246 (dk_at dksX8_rounds_2 16 rfl rfl)
theorem dX8_rounds_65 : decode cX8_rounds 65 = .ok (.iadd, 1) := dk_96 (dk_at dksX8_rounds_2 19 rfl rfl)
theorem dX8_rounds_66 : decode cX8_rounds 66 = .ok (.putfield 499, 3) := dk_181 1 243 (dk_at dksX8_rounds_2 20 rfl rfl)
theorem dX8_rounds_69 : decode cX8_rounds 69 = .ok (.aload_n 0, 1) := dk_42 (dk_at dksX8_rounds_2 23 rfl rfl)
theorem dX8_rounds_70 : decode cX8_rounds 70 = .ok (.getfield 499, 3) := dk_180 1 243 (dk_at dksX8_rounds_3 0 rfl rfl)
theorem dX8_rounds_73 : decode cX8_rounds 73 = .ok (.iconst 2, 1) := dk_5 (dk_at dksX8_rounds_3 3 rfl rfl)
theorem dX8_rounds_74 : decode cX8_rounds 74 = .ok (.isub, 1) := dk_100 (dk_at dksX8_rounds_3 4 rfl rfl)
theorem dX8_rounds_75 : decode cX8_rounds 75 = .ok (.ireturn, 1) := dk_172 (dk_at dksX8_rounds_3 5 rfl rfl)
abbrev cX8_seeksRounds : ByteArray := prog_19_method_92_code
def yX8_seeksRounds : MethodName := ⟨RX8, "seeksRounds", "()I"⟩
def dkwX8_seeksRounds_6 : List UInt8 := [132, 2, 1, 167, 255, 191, 2, 172]
abbrev dktX8_seeksRounds_6 : List UInt8 := dkwX8_seeksRounds_6 ++ []
def dkwX8_seeksRounds_5 : List UInt8 := [153, 0, 5, 28, 172, 42, 42, 29, 182, 1, 252, 28, 4, 96, 182, 1, 255, 132, 3, 1, 167, 255, 205]
abbrev dktX8_seeksRounds_5 : List UInt8 := dkwX8_seeksRounds_5 ++ dktX8_seeksRounds_6
def dkwX8_seeksRounds_4 : List UInt8 := [180, 0, 158, 29, 46, 28, 159, 0, 6, 167, 0, 31, 4, 60, 42, 42, 29, 182, 1, 252, 182, 1, 187]
abbrev dktX8_seeksRounds_4 : List UInt8 := dkwX8_seeksRounds_4 ++ dktX8_seeksRounds_5
def dkwX8_seeksRounds_3 : List UInt8 := [42, 182, 1, 176, 4, 60, 3, 61, 27, 153, 0, 67, 3, 60, 3, 62, 29, 17, 4, 0, 162, 0, 50, 42]
abbrev dktX8_seeksRounds_3 : List UInt8 := dkwX8_seeksRounds_3 ++ dktX8_seeksRounds_4
def dkwX8_seeksRounds_2 : List UInt8 := [182, 1, 187, 153, 0, 5, 3, 172, 42, 42, 182, 1, 151, 3, 3, 3, 182, 1, 154, 153, 0, 5, 2, 172]
abbrev dktX8_seeksRounds_2 : List UInt8 := dkwX8_seeksRounds_2 ++ dktX8_seeksRounds_3
def dkwX8_seeksRounds_1 : List UInt8 := [181, 0, 96, 42, 180, 0, 158, 42, 42, 182, 1, 151, 182, 1, 249, 3, 79, 42, 42, 182, 1, 151]
abbrev dktX8_seeksRounds_1 : List UInt8 := dkwX8_seeksRounds_1 ++ dktX8_seeksRounds_2
def dkwX8_seeksRounds_0 : List UInt8 := [3, 60, 27, 17, 4, 0, 162, 0, 16, 42, 180, 0, 158, 27, 2, 79, 132, 1, 1, 167, 255, 239, 42, 2]
abbrev dktX8_seeksRounds_0 : List UInt8 := dkwX8_seeksRounds_0 ++ dktX8_seeksRounds_1
theorem dksX8_seeksRounds_0 : cX8_seeksRounds.data.toList.drop 0 = dktX8_seeksRounds_0 := by decide +kernel
theorem dksX8_seeksRounds_1 : cX8_seeksRounds.data.toList.drop 24 = dktX8_seeksRounds_1 := dk_seg dksX8_seeksRounds_0 24 rfl rfl
theorem dksX8_seeksRounds_2 : cX8_seeksRounds.data.toList.drop 46 = dktX8_seeksRounds_2 := dk_seg dksX8_seeksRounds_1 22 rfl rfl
theorem dksX8_seeksRounds_3 : cX8_seeksRounds.data.toList.drop 70 = dktX8_seeksRounds_3 := dk_seg dksX8_seeksRounds_2 24 rfl rfl
theorem dksX8_seeksRounds_4 : cX8_seeksRounds.data.toList.drop 94 = dktX8_seeksRounds_4 := dk_seg dksX8_seeksRounds_3 24 rfl rfl
theorem dksX8_seeksRounds_5 : cX8_seeksRounds.data.toList.drop 117 = dktX8_seeksRounds_5 := dk_seg dksX8_seeksRounds_4 23 rfl rfl
theorem dksX8_seeksRounds_6 : cX8_seeksRounds.data.toList.drop 140 = dktX8_seeksRounds_6 := dk_seg dksX8_seeksRounds_5 23 rfl rfl
theorem dX8_seeksRounds_0 : decode cX8_seeksRounds 0 = .ok (.iconst 0, 1) := dk_3 (dk_at dksX8_seeksRounds_0 0 rfl rfl)
theorem dX8_seeksRounds_1 : decode cX8_seeksRounds 1 = .ok (.istore_n 1, 1) := dk_60 (dk_at dksX8_seeksRounds_0 1 rfl rfl)
theorem dX8_seeksRounds_2 : decode cX8_seeksRounds 2 = .ok (.iload_n 1, 1) := dk_27 (dk_at dksX8_seeksRounds_0 2 rfl rfl)
theorem dX8_seeksRounds_3 : decode cX8_seeksRounds 3 = .ok (.sipush 1024, 3) := dk_17 4 0 (dk_at dksX8_seeksRounds_0 3 rfl rfl)
theorem dX8_seeksRounds_6 : decode cX8_seeksRounds 6 = .ok (.if_icmp .ge 16, 3) := dk_162 0 16 (dk_at dksX8_seeksRounds_0 6 rfl rfl)
theorem dX8_seeksRounds_9 : decode cX8_seeksRounds 9 = .ok (.aload_n 0, 1) := dk_42 (dk_at dksX8_seeksRounds_0 9 rfl rfl)
theorem dX8_seeksRounds_10 : decode cX8_seeksRounds 10 = .ok (.getfield 158, 3) := dk_180 0 158 (dk_at dksX8_seeksRounds_0 10 rfl rfl)
theorem dX8_seeksRounds_13 : decode cX8_seeksRounds 13 = .ok (.iload_n 1, 1) := dk_27 (dk_at dksX8_seeksRounds_0 13 rfl rfl)
theorem dX8_seeksRounds_14 : decode cX8_seeksRounds 14 = .ok (.iconst (-1), 1) := dk_2 (dk_at dksX8_seeksRounds_0 14 rfl rfl)
theorem dX8_seeksRounds_15 : decode cX8_seeksRounds 15 = .ok (.iastore, 1) := dk_79 (dk_at dksX8_seeksRounds_0 15 rfl rfl)
theorem dX8_seeksRounds_16 : decode cX8_seeksRounds 16 = .ok (.iinc 1 1, 3) := dk_132 1 1 (dk_at dksX8_seeksRounds_0 16 rfl rfl)
theorem dX8_seeksRounds_19 : decode cX8_seeksRounds 19 = .ok (.goto (-17), 3) := dk_167 255 239 (dk_at dksX8_seeksRounds_0 19 rfl rfl)
theorem dX8_seeksRounds_22 : decode cX8_seeksRounds 22 = .ok (.aload_n 0, 1) := dk_42 (dk_at dksX8_seeksRounds_0 22 rfl rfl)
theorem dX8_seeksRounds_23 : decode cX8_seeksRounds 23 = .ok (.iconst (-1), 1) := dk_2 (dk_at dksX8_seeksRounds_0 23 rfl rfl)
theorem dX8_seeksRounds_24 : decode cX8_seeksRounds 24 = .ok (.putfield 96, 3) := dk_181 0 96 (dk_at dksX8_seeksRounds_1 0 rfl rfl)
theorem dX8_seeksRounds_27 : decode cX8_seeksRounds 27 = .ok (.aload_n 0, 1) := dk_42 (dk_at dksX8_seeksRounds_1 3 rfl rfl)
theorem dX8_seeksRounds_28 : decode cX8_seeksRounds 28 = .ok (.getfield 158, 3) := dk_180 0 158 (dk_at dksX8_seeksRounds_1 4 rfl rfl)
theorem dX8_seeksRounds_31 : decode cX8_seeksRounds 31 = .ok (.aload_n 0, 1) := dk_42 (dk_at dksX8_seeksRounds_1 7 rfl rfl)
theorem dX8_seeksRounds_32 : decode cX8_seeksRounds 32 = .ok (.aload_n 0, 1) := dk_42 (dk_at dksX8_seeksRounds_1 8 rfl rfl)
theorem dX8_seeksRounds_33 : decode cX8_seeksRounds 33 = .ok (.invokevirtual 407, 3) := dk_182 1 151 (dk_at dksX8_seeksRounds_1 9 rfl rfl)
theorem dX8_seeksRounds_36 : decode cX8_seeksRounds 36 = .ok (.invokevirtual 505, 3) := dk_182 1 249 (dk_at dksX8_seeksRounds_1 12 rfl rfl)
theorem dX8_seeksRounds_39 : decode cX8_seeksRounds 39 = .ok (.iconst 0, 1) := dk_3 (dk_at dksX8_seeksRounds_1 15 rfl rfl)
theorem dX8_seeksRounds_40 : decode cX8_seeksRounds 40 = .ok (.iastore, 1) := dk_79 (dk_at dksX8_seeksRounds_1 16 rfl rfl)
theorem dX8_seeksRounds_41 : decode cX8_seeksRounds 41 = .ok (.aload_n 0, 1) := dk_42 (dk_at dksX8_seeksRounds_1 17 rfl rfl)
theorem dX8_seeksRounds_42 : decode cX8_seeksRounds 42 = .ok (.aload_n 0, 1) := dk_42 (dk_at dksX8_seeksRounds_1 18 rfl rfl)
theorem dX8_seeksRounds_43 : decode cX8_seeksRounds 43 = .ok (.invokevirtual 407, 3) := dk_182 1 151 (dk_at dksX8_seeksRounds_1 19 rfl rfl)
theorem dX8_seeksRounds_46 : decode cX8_seeksRounds 46 = .ok (.invokevirtual 443, 3) := dk_182 1 187 (dk_at dksX8_seeksRounds_2 0 rfl rfl)
theorem dX8_seeksRounds_49 : decode cX8_seeksRounds 49 = .ok (.ifCond .eq 5, 3) := dk_153 0 5 (dk_at dksX8_seeksRounds_2 3 rfl rfl)
theorem dX8_seeksRounds_52 : decode cX8_seeksRounds 52 = .ok (.iconst 0, 1) := dk_3 (dk_at dksX8_seeksRounds_2 6 rfl rfl)
theorem dX8_seeksRounds_53 : decode cX8_seeksRounds 53 = .ok (.ireturn, 1) := dk_172 (dk_at dksX8_seeksRounds_2 7 rfl rfl)
theorem dX8_seeksRounds_54 : decode cX8_seeksRounds 54 = .ok (.aload_n 0, 1) := dk_42 (dk_at dksX8_seeksRounds_2 8 rfl rfl)
theorem dX8_seeksRounds_55 : decode cX8_seeksRounds 55 = .ok (.aload_n 0, 1) := dk_42 (dk_at dksX8_seeksRounds_2 9 rfl rfl)
theorem dX8_seeksRounds_56 : decode cX8_seeksRounds 56 = .ok (.invokevirtual 407, 3) := dk_182 1 151 (dk_at dksX8_seeksRounds_2 10 rfl rfl)
theorem dX8_seeksRounds_59 : decode cX8_seeksRounds 59 = .ok (.iconst 0, 1) := dk_3 (dk_at dksX8_seeksRounds_2 13 rfl rfl)
theorem dX8_seeksRounds_60 : decode cX8_seeksRounds 60 = .ok (.iconst 0, 1) := dk_3 (dk_at dksX8_seeksRounds_2 14 rfl rfl)
theorem dX8_seeksRounds_61 : decode cX8_seeksRounds 61 = .ok (.iconst 0, 1) := dk_3 (dk_at dksX8_seeksRounds_2 15 rfl rfl)
theorem dX8_seeksRounds_62 : decode cX8_seeksRounds 62 = .ok (.invokevirtual 410, 3) := dk_182 1 154 (dk_at dksX8_seeksRounds_2 16 rfl rfl)
theorem dX8_seeksRounds_65 : decode cX8_seeksRounds 65 = .ok (.ifCond .eq 5, 3) := dk_153 0 5 (dk_at dksX8_seeksRounds_2 19 rfl rfl)
theorem dX8_seeksRounds_68 : decode cX8_seeksRounds 68 = .ok (.iconst (-1), 1) := dk_2 (dk_at dksX8_seeksRounds_2 22 rfl rfl)
theorem dX8_seeksRounds_69 : decode cX8_seeksRounds 69 = .ok (.ireturn, 1) := dk_172 (dk_at dksX8_seeksRounds_2 23 rfl rfl)
theorem dX8_seeksRounds_70 : decode cX8_seeksRounds 70 = .ok (.aload_n 0, 1) := dk_42 (dk_at dksX8_seeksRounds_3 0 rfl rfl)
theorem dX8_seeksRounds_71 : decode cX8_seeksRounds 71 = .ok (.invokevirtual 432, 3) := dk_182 1 176 (dk_at dksX8_seeksRounds_3 1 rfl rfl)
theorem dX8_seeksRounds_74 : decode cX8_seeksRounds 74 = .ok (.iconst 1, 1) := dk_4 (dk_at dksX8_seeksRounds_3 4 rfl rfl)
theorem dX8_seeksRounds_75 : decode cX8_seeksRounds 75 = .ok (.istore_n 1, 1) := dk_60 (dk_at dksX8_seeksRounds_3 5 rfl rfl)
theorem dX8_seeksRounds_76 : decode cX8_seeksRounds 76 = .ok (.iconst 0, 1) := dk_3 (dk_at dksX8_seeksRounds_3 6 rfl rfl)
theorem dX8_seeksRounds_77 : decode cX8_seeksRounds 77 = .ok (.istore_n 2, 1) := dk_61 (dk_at dksX8_seeksRounds_3 7 rfl rfl)
theorem dX8_seeksRounds_78 : decode cX8_seeksRounds 78 = .ok (.iload_n 1, 1) := dk_27 (dk_at dksX8_seeksRounds_3 8 rfl rfl)
theorem dX8_seeksRounds_79 : decode cX8_seeksRounds 79 = .ok (.ifCond .eq 67, 3) := dk_153 0 67 (dk_at dksX8_seeksRounds_3 9 rfl rfl)
theorem dX8_seeksRounds_82 : decode cX8_seeksRounds 82 = .ok (.iconst 0, 1) := dk_3 (dk_at dksX8_seeksRounds_3 12 rfl rfl)
theorem dX8_seeksRounds_83 : decode cX8_seeksRounds 83 = .ok (.istore_n 1, 1) := dk_60 (dk_at dksX8_seeksRounds_3 13 rfl rfl)
theorem dX8_seeksRounds_84 : decode cX8_seeksRounds 84 = .ok (.iconst 0, 1) := dk_3 (dk_at dksX8_seeksRounds_3 14 rfl rfl)
theorem dX8_seeksRounds_85 : decode cX8_seeksRounds 85 = .ok (.istore_n 3, 1) := dk_62 (dk_at dksX8_seeksRounds_3 15 rfl rfl)
theorem dX8_seeksRounds_86 : decode cX8_seeksRounds 86 = .ok (.iload_n 3, 1) := dk_29 (dk_at dksX8_seeksRounds_3 16 rfl rfl)
theorem dX8_seeksRounds_87 : decode cX8_seeksRounds 87 = .ok (.sipush 1024, 3) := dk_17 4 0 (dk_at dksX8_seeksRounds_3 17 rfl rfl)
theorem dX8_seeksRounds_90 : decode cX8_seeksRounds 90 = .ok (.if_icmp .ge 50, 3) := dk_162 0 50 (dk_at dksX8_seeksRounds_3 20 rfl rfl)
theorem dX8_seeksRounds_93 : decode cX8_seeksRounds 93 = .ok (.aload_n 0, 1) := dk_42 (dk_at dksX8_seeksRounds_3 23 rfl rfl)
theorem dX8_seeksRounds_94 : decode cX8_seeksRounds 94 = .ok (.getfield 158, 3) := dk_180 0 158 (dk_at dksX8_seeksRounds_4 0 rfl rfl)
theorem dX8_seeksRounds_97 : decode cX8_seeksRounds 97 = .ok (.iload_n 3, 1) := dk_29 (dk_at dksX8_seeksRounds_4 3 rfl rfl)
theorem dX8_seeksRounds_98 : decode cX8_seeksRounds 98 = .ok (.iaload, 1) := dk_46 (dk_at dksX8_seeksRounds_4 4 rfl rfl)
theorem dX8_seeksRounds_99 : decode cX8_seeksRounds 99 = .ok (.iload_n 2, 1) := dk_28 (dk_at dksX8_seeksRounds_4 5 rfl rfl)
theorem dX8_seeksRounds_100 : decode cX8_seeksRounds 100 = .ok (.if_icmp .eq 6, 3) := dk_159 0 6 (dk_at dksX8_seeksRounds_4 6 rfl rfl)
theorem dX8_seeksRounds_103 : decode cX8_seeksRounds 103 = .ok (.goto 31, 3) := dk_167 0 31 (dk_at dksX8_seeksRounds_4 9 rfl rfl)
theorem dX8_seeksRounds_106 : decode cX8_seeksRounds 106 = .ok (.iconst 1, 1) := dk_4 (dk_at dksX8_seeksRounds_4 12 rfl rfl)
theorem dX8_seeksRounds_107 : decode cX8_seeksRounds 107 = .ok (.istore_n 1, 1) := dk_60 (dk_at dksX8_seeksRounds_4 13 rfl rfl)
theorem dX8_seeksRounds_108 : decode cX8_seeksRounds 108 = .ok (.aload_n 0, 1) := dk_42 (dk_at dksX8_seeksRounds_4 14 rfl rfl)
theorem dX8_seeksRounds_109 : decode cX8_seeksRounds 109 = .ok (.aload_n 0, 1) := dk_42 (dk_at dksX8_seeksRounds_4 15 rfl rfl)
theorem dX8_seeksRounds_110 : decode cX8_seeksRounds 110 = .ok (.iload_n 3, 1) := dk_29 (dk_at dksX8_seeksRounds_4 16 rfl rfl)
theorem dX8_seeksRounds_111 : decode cX8_seeksRounds 111 = .ok (.invokevirtual 508, 3) := dk_182 1 252 (dk_at dksX8_seeksRounds_4 17 rfl rfl)
theorem dX8_seeksRounds_114 : decode cX8_seeksRounds 114 = .ok (.invokevirtual 443, 3) := dk_182 1 187 (dk_at dksX8_seeksRounds_4 20 rfl rfl)
theorem dX8_seeksRounds_117 : decode cX8_seeksRounds 117 = .ok (.ifCond .eq 5, 3) := dk_153 0 5 (dk_at dksX8_seeksRounds_5 0 rfl rfl)
theorem dX8_seeksRounds_120 : decode cX8_seeksRounds 120 = .ok (.iload_n 2, 1) := dk_28 (dk_at dksX8_seeksRounds_5 3 rfl rfl)
theorem dX8_seeksRounds_121 : decode cX8_seeksRounds 121 = .ok (.ireturn, 1) := dk_172 (dk_at dksX8_seeksRounds_5 4 rfl rfl)
theorem dX8_seeksRounds_122 : decode cX8_seeksRounds 122 = .ok (.aload_n 0, 1) := dk_42 (dk_at dksX8_seeksRounds_5 5 rfl rfl)
theorem dX8_seeksRounds_123 : decode cX8_seeksRounds 123 = .ok (.aload_n 0, 1) := dk_42 (dk_at dksX8_seeksRounds_5 6 rfl rfl)
theorem dX8_seeksRounds_124 : decode cX8_seeksRounds 124 = .ok (.iload_n 3, 1) := dk_29 (dk_at dksX8_seeksRounds_5 7 rfl rfl)
theorem dX8_seeksRounds_125 : decode cX8_seeksRounds 125 = .ok (.invokevirtual 508, 3) := dk_182 1 252 (dk_at dksX8_seeksRounds_5 8 rfl rfl)
theorem dX8_seeksRounds_128 : decode cX8_seeksRounds 128 = .ok (.iload_n 2, 1) := dk_28 (dk_at dksX8_seeksRounds_5 11 rfl rfl)
theorem dX8_seeksRounds_129 : decode cX8_seeksRounds 129 = .ok (.iconst 1, 1) := dk_4 (dk_at dksX8_seeksRounds_5 12 rfl rfl)
theorem dX8_seeksRounds_130 : decode cX8_seeksRounds 130 = .ok (.iadd, 1) := dk_96 (dk_at dksX8_seeksRounds_5 13 rfl rfl)
theorem dX8_seeksRounds_131 : decode cX8_seeksRounds 131 = .ok (.invokevirtual 511, 3) := dk_182 1 255 (dk_at dksX8_seeksRounds_5 14 rfl rfl)
theorem dX8_seeksRounds_134 : decode cX8_seeksRounds 134 = .ok (.iinc 3 1, 3) := dk_132 3 1 (dk_at dksX8_seeksRounds_5 17 rfl rfl)
theorem dX8_seeksRounds_137 : decode cX8_seeksRounds 137 = .ok (.goto (-51), 3) := dk_167 255 205 (dk_at dksX8_seeksRounds_5 20 rfl rfl)
theorem dX8_seeksRounds_140 : decode cX8_seeksRounds 140 = .ok (.iinc 2 1, 3) := dk_132 2 1 (dk_at dksX8_seeksRounds_6 0 rfl rfl)
theorem dX8_seeksRounds_143 : decode cX8_seeksRounds 143 = .ok (.goto (-65), 3) := dk_167 255 191 (dk_at dksX8_seeksRounds_6 3 rfl rfl)
theorem dX8_seeksRounds_146 : decode cX8_seeksRounds 146 = .ok (.iconst (-1), 1) := dk_2 (dk_at dksX8_seeksRounds_6 6 rfl rfl)
theorem dX8_seeksRounds_147 : decode cX8_seeksRounds 147 = .ok (.ireturn, 1) := dk_172 (dk_at dksX8_seeksRounds_6 7 rfl rfl)
abbrev cX8_small : ByteArray := prog_19_method_89_code
def yX8_small : MethodName := ⟨RX8, "small", "(I)I"⟩
def dkwX8_small_1 : List UInt8 := [172]
abbrev dktX8_small_1 : List UInt8 := dkwX8_small_1 ++ []
def dkwX8_small_0 : List UInt8 := [42, 27, 4, 182, 1, 135, 27, 3, 184, 1, 138, 16, 8, 120, 128, 27, 4, 184, 1, 138, 16, 9, 120, 128]
abbrev dktX8_small_0 : List UInt8 := dkwX8_small_0 ++ dktX8_small_1
theorem dksX8_small_0 : cX8_small.data.toList.drop 0 = dktX8_small_0 := by decide +kernel
theorem dksX8_small_1 : cX8_small.data.toList.drop 24 = dktX8_small_1 := dk_seg dksX8_small_0 24 rfl rfl
theorem dX8_small_0 : decode cX8_small 0 = .ok (.aload_n 0, 1) := dk_42 (dk_at dksX8_small_0 0 rfl rfl)
theorem dX8_small_1 : decode cX8_small 1 = .ok (.iload_n 1, 1) := dk_27 (dk_at dksX8_small_0 1 rfl rfl)
theorem dX8_small_2 : decode cX8_small 2 = .ok (.iconst 1, 1) := dk_4 (dk_at dksX8_small_0 2 rfl rfl)
theorem dX8_small_3 : decode cX8_small 3 = .ok (.invokevirtual 391, 3) := dk_182 1 135 (dk_at dksX8_small_0 3 rfl rfl)
theorem dX8_small_6 : decode cX8_small 6 = .ok (.iload_n 1, 1) := dk_27 (dk_at dksX8_small_0 6 rfl rfl)
theorem dX8_small_7 : decode cX8_small 7 = .ok (.iconst 0, 1) := dk_3 (dk_at dksX8_small_0 7 rfl rfl)
theorem dX8_small_8 : decode cX8_small 8 = .ok (.invokestatic 394, 3) := dk_184 1 138 (dk_at dksX8_small_0 8 rfl rfl)
theorem dX8_small_11 : decode cX8_small 11 = .ok (.bipush 8, 2) := dk_16 8 (dk_at dksX8_small_0 11 rfl rfl)
theorem dX8_small_13 : decode cX8_small 13 = .ok (.ishl, 1) := dk_120 (dk_at dksX8_small_0 13 rfl rfl)
theorem dX8_small_14 : decode cX8_small 14 = .ok (.ior, 1) := dk_128 (dk_at dksX8_small_0 14 rfl rfl)
theorem dX8_small_15 : decode cX8_small 15 = .ok (.iload_n 1, 1) := dk_27 (dk_at dksX8_small_0 15 rfl rfl)
theorem dX8_small_16 : decode cX8_small 16 = .ok (.iconst 1, 1) := dk_4 (dk_at dksX8_small_0 16 rfl rfl)
theorem dX8_small_17 : decode cX8_small 17 = .ok (.invokestatic 394, 3) := dk_184 1 138 (dk_at dksX8_small_0 17 rfl rfl)
theorem dX8_small_20 : decode cX8_small 20 = .ok (.bipush 9, 2) := dk_16 9 (dk_at dksX8_small_0 20 rfl rfl)
theorem dX8_small_22 : decode cX8_small 22 = .ok (.ishl, 1) := dk_120 (dk_at dksX8_small_0 22 rfl rfl)
theorem dX8_small_23 : decode cX8_small 23 = .ok (.ior, 1) := dk_128 (dk_at dksX8_small_0 23 rfl rfl)
theorem dX8_small_24 : decode cX8_small 24 = .ok (.ireturn, 1) := dk_172 (dk_at dksX8_small_1 0 rfl rfl)
abbrev cX8_large : ByteArray := prog_19_method_90_code
def yX8_large : MethodName := ⟨RX8, "large", "(I)I"⟩
def dkwX8_large_2 : List UInt8 := [28, 172]
abbrev dktX8_large_2 : List UInt8 := dkwX8_large_2 ++ []
def dkwX8_large_1 : List UInt8 := [180, 1, 82, 162, 0, 21, 28, 27, 29, 122, 4, 126, 5, 29, 104, 120, 128, 61, 132, 3, 1, 167, 255, 233]
abbrev dktX8_large_1 : List UInt8 := dkwX8_large_1 ++ dktX8_large_2
def dkwX8_large_0 : List UInt8 := [27, 16, 8, 122, 4, 126, 16, 16, 120, 27, 16, 9, 122, 4, 126, 16, 18, 120, 128, 61, 3, 62, 29, 42]
abbrev dktX8_large_0 : List UInt8 := dkwX8_large_0 ++ dktX8_large_1
theorem dksX8_large_0 : cX8_large.data.toList.drop 0 = dktX8_large_0 := by decide +kernel
theorem dksX8_large_1 : cX8_large.data.toList.drop 24 = dktX8_large_1 := dk_seg dksX8_large_0 24 rfl rfl
theorem dksX8_large_2 : cX8_large.data.toList.drop 48 = dktX8_large_2 := dk_seg dksX8_large_1 24 rfl rfl
theorem dX8_large_0 : decode cX8_large 0 = .ok (.iload_n 1, 1) := dk_27 (dk_at dksX8_large_0 0 rfl rfl)
theorem dX8_large_1 : decode cX8_large 1 = .ok (.bipush 8, 2) := dk_16 8 (dk_at dksX8_large_0 1 rfl rfl)
theorem dX8_large_3 : decode cX8_large 3 = .ok (.ishr, 1) := dk_122 (dk_at dksX8_large_0 3 rfl rfl)
theorem dX8_large_4 : decode cX8_large 4 = .ok (.iconst 1, 1) := dk_4 (dk_at dksX8_large_0 4 rfl rfl)
theorem dX8_large_5 : decode cX8_large 5 = .ok (.iand, 1) := dk_126 (dk_at dksX8_large_0 5 rfl rfl)
theorem dX8_large_6 : decode cX8_large 6 = .ok (.bipush 16, 2) := dk_16 16 (dk_at dksX8_large_0 6 rfl rfl)
theorem dX8_large_8 : decode cX8_large 8 = .ok (.ishl, 1) := dk_120 (dk_at dksX8_large_0 8 rfl rfl)
theorem dX8_large_9 : decode cX8_large 9 = .ok (.iload_n 1, 1) := dk_27 (dk_at dksX8_large_0 9 rfl rfl)
theorem dX8_large_10 : decode cX8_large 10 = .ok (.bipush 9, 2) := dk_16 9 (dk_at dksX8_large_0 10 rfl rfl)
theorem dX8_large_12 : decode cX8_large 12 = .ok (.ishr, 1) := dk_122 (dk_at dksX8_large_0 12 rfl rfl)
theorem dX8_large_13 : decode cX8_large 13 = .ok (.iconst 1, 1) := dk_4 (dk_at dksX8_large_0 13 rfl rfl)
theorem dX8_large_14 : decode cX8_large 14 = .ok (.iand, 1) := dk_126 (dk_at dksX8_large_0 14 rfl rfl)
theorem dX8_large_15 : decode cX8_large 15 = .ok (.bipush 18, 2) := dk_16 18 (dk_at dksX8_large_0 15 rfl rfl)
theorem dX8_large_17 : decode cX8_large 17 = .ok (.ishl, 1) := dk_120 (dk_at dksX8_large_0 17 rfl rfl)
theorem dX8_large_18 : decode cX8_large 18 = .ok (.ior, 1) := dk_128 (dk_at dksX8_large_0 18 rfl rfl)
theorem dX8_large_19 : decode cX8_large 19 = .ok (.istore_n 2, 1) := dk_61 (dk_at dksX8_large_0 19 rfl rfl)
theorem dX8_large_20 : decode cX8_large 20 = .ok (.iconst 0, 1) := dk_3 (dk_at dksX8_large_0 20 rfl rfl)
theorem dX8_large_21 : decode cX8_large 21 = .ok (.istore_n 3, 1) := dk_62 (dk_at dksX8_large_0 21 rfl rfl)
theorem dX8_large_22 : decode cX8_large 22 = .ok (.iload_n 3, 1) := dk_29 (dk_at dksX8_large_0 22 rfl rfl)
theorem dX8_large_23 : decode cX8_large 23 = .ok (.aload_n 0, 1) := dk_42 (dk_at dksX8_large_0 23 rfl rfl)
theorem dX8_large_24 : decode cX8_large 24 = .ok (.getfield 338, 3) := dk_180 1 82 (dk_at dksX8_large_1 0 rfl rfl)
theorem dX8_large_27 : decode cX8_large 27 = .ok (.if_icmp .ge 21, 3) := dk_162 0 21 (dk_at dksX8_large_1 3 rfl rfl)
theorem dX8_large_30 : decode cX8_large 30 = .ok (.iload_n 2, 1) := dk_28 (dk_at dksX8_large_1 6 rfl rfl)
theorem dX8_large_31 : decode cX8_large 31 = .ok (.iload_n 1, 1) := dk_27 (dk_at dksX8_large_1 7 rfl rfl)
theorem dX8_large_32 : decode cX8_large 32 = .ok (.iload_n 3, 1) := dk_29 (dk_at dksX8_large_1 8 rfl rfl)
theorem dX8_large_33 : decode cX8_large 33 = .ok (.ishr, 1) := dk_122 (dk_at dksX8_large_1 9 rfl rfl)
theorem dX8_large_34 : decode cX8_large 34 = .ok (.iconst 1, 1) := dk_4 (dk_at dksX8_large_1 10 rfl rfl)
theorem dX8_large_35 : decode cX8_large 35 = .ok (.iand, 1) := dk_126 (dk_at dksX8_large_1 11 rfl rfl)
theorem dX8_large_36 : decode cX8_large 36 = .ok (.iconst 2, 1) := dk_5 (dk_at dksX8_large_1 12 rfl rfl)
theorem dX8_large_37 : decode cX8_large 37 = .ok (.iload_n 3, 1) := dk_29 (dk_at dksX8_large_1 13 rfl rfl)
theorem dX8_large_38 : decode cX8_large 38 = .ok (.imul, 1) := dk_104 (dk_at dksX8_large_1 14 rfl rfl)
theorem dX8_large_39 : decode cX8_large 39 = .ok (.ishl, 1) := dk_120 (dk_at dksX8_large_1 15 rfl rfl)
theorem dX8_large_40 : decode cX8_large 40 = .ok (.ior, 1) := dk_128 (dk_at dksX8_large_1 16 rfl rfl)
theorem dX8_large_41 : decode cX8_large 41 = .ok (.istore_n 2, 1) := dk_61 (dk_at dksX8_large_1 17 rfl rfl)
theorem dX8_large_42 : decode cX8_large 42 = .ok (.iinc 3 1, 3) := dk_132 3 1 (dk_at dksX8_large_1 18 rfl rfl)
theorem dX8_large_45 : decode cX8_large 45 = .ok (.goto (-23), 3) := dk_167 255 233 (dk_at dksX8_large_1 21 rfl rfl)
theorem dX8_large_48 : decode cX8_large 48 = .ok (.iload_n 2, 1) := dk_28 (dk_at dksX8_large_2 0 rfl rfl)
theorem dX8_large_49 : decode cX8_large 49 = .ok (.ireturn, 1) := dk_172 (dk_at dksX8_large_2 1 rfl rfl)
abbrev cX8_goesRound : ByteArray := prog_19_method_94_code
def yX8_goesRound : MethodName := ⟨RX8, "goesRound", "(II)V"⟩
def dkwX8_goesRound_6 : List UInt8 := [167, 255, 162, 132, 3, 1, 167, 255, 112, 177]
abbrev dktX8_goesRound_6 : List UInt8 := dkwX8_goesRound_6 ++ []
def dkwX8_goesRound_5 : List UInt8 := [182, 1, 161, 28, 182, 2, 3, 29, 154, 0, 13, 42, 27, 21, 4, 21, 7, 28, 182, 2, 6, 132, 6, 1]
abbrev dktX8_goesRound_5 : List UInt8 := dkwX8_goesRound_5 ++ dktX8_goesRound_6
def dkwX8_goesRound_4 : List UInt8 := [42, 27, 21, 7, 4, 29, 120, 4, 182, 1, 154, 154, 0, 18, 42, 42, 27, 29, 21, 4, 21, 7]
abbrev dktX8_goesRound_4 : List UInt8 := dkwX8_goesRound_4 ++ dktX8_goesRound_5
def dkwX8_goesRound_3 : List UInt8 := [54, 7, 21, 7, 21, 5, 2, 130, 126, 154, 0, 58, 42, 21, 7, 182, 1, 158, 153, 0, 6, 167, 0, 46]
abbrev dktX8_goesRound_3 : List UInt8 := dkwX8_goesRound_3 ++ dktX8_goesRound_4
def dkwX8_goesRound_2 : List UInt8 := [21, 6, 42, 180, 0, 131, 29, 46, 162, 0, 89, 42, 180, 0, 134, 17, 1, 0, 29, 104, 21, 6, 96, 46]
abbrev dktX8_goesRound_2 : List UInt8 := dkwX8_goesRound_2 ++ dktX8_goesRound_3
def dkwX8_goesRound_1 : List UInt8 := [182, 1, 132, 154, 0, 6, 167, 0, 114, 42, 27, 4, 21, 4, 100, 182, 1, 135, 54, 5, 3, 54, 6]
abbrev dktX8_goesRound_1 : List UInt8 := dkwX8_goesRound_1 ++ dktX8_goesRound_2
def dkwX8_goesRound_0 : List UInt8 := [3, 62, 29, 5, 162, 0, 145, 4, 27, 29, 184, 1, 138, 100, 54, 4, 42, 4, 21, 4, 100, 21, 4]
abbrev dktX8_goesRound_0 : List UInt8 := dkwX8_goesRound_0 ++ dktX8_goesRound_1
theorem dksX8_goesRound_0 : cX8_goesRound.data.toList.drop 0 = dktX8_goesRound_0 := by decide +kernel
theorem dksX8_goesRound_1 : cX8_goesRound.data.toList.drop 23 = dktX8_goesRound_1 := dk_seg dksX8_goesRound_0 23 rfl rfl
theorem dksX8_goesRound_2 : cX8_goesRound.data.toList.drop 46 = dktX8_goesRound_2 := dk_seg dksX8_goesRound_1 23 rfl rfl
theorem dksX8_goesRound_3 : cX8_goesRound.data.toList.drop 70 = dktX8_goesRound_3 := dk_seg dksX8_goesRound_2 24 rfl rfl
theorem dksX8_goesRound_4 : cX8_goesRound.data.toList.drop 94 = dktX8_goesRound_4 := dk_seg dksX8_goesRound_3 24 rfl rfl
theorem dksX8_goesRound_5 : cX8_goesRound.data.toList.drop 116 = dktX8_goesRound_5 := dk_seg dksX8_goesRound_4 22 rfl rfl
theorem dksX8_goesRound_6 : cX8_goesRound.data.toList.drop 140 = dktX8_goesRound_6 := dk_seg dksX8_goesRound_5 24 rfl rfl
theorem dX8_goesRound_0 : decode cX8_goesRound 0 = .ok (.iconst 0, 1) := dk_3 (dk_at dksX8_goesRound_0 0 rfl rfl)
theorem dX8_goesRound_1 : decode cX8_goesRound 1 = .ok (.istore_n 3, 1) := dk_62 (dk_at dksX8_goesRound_0 1 rfl rfl)
theorem dX8_goesRound_2 : decode cX8_goesRound 2 = .ok (.iload_n 3, 1) := dk_29 (dk_at dksX8_goesRound_0 2 rfl rfl)
theorem dX8_goesRound_3 : decode cX8_goesRound 3 = .ok (.iconst 2, 1) := dk_5 (dk_at dksX8_goesRound_0 3 rfl rfl)
theorem dX8_goesRound_4 : decode cX8_goesRound 4 = .ok (.if_icmp .ge 145, 3) := dk_162 0 145 (dk_at dksX8_goesRound_0 4 rfl rfl)
theorem dX8_goesRound_7 : decode cX8_goesRound 7 = .ok (.iconst 1, 1) := dk_4 (dk_at dksX8_goesRound_0 7 rfl rfl)
theorem dX8_goesRound_8 : decode cX8_goesRound 8 = .ok (.iload_n 1, 1) := dk_27 (dk_at dksX8_goesRound_0 8 rfl rfl)
theorem dX8_goesRound_9 : decode cX8_goesRound 9 = .ok (.iload_n 3, 1) := dk_29 (dk_at dksX8_goesRound_0 9 rfl rfl)
theorem dX8_goesRound_10 : decode cX8_goesRound 10 = .ok (.invokestatic 394, 3) := dk_184 1 138 (dk_at dksX8_goesRound_0 10 rfl rfl)
theorem dX8_goesRound_13 : decode cX8_goesRound 13 = .ok (.isub, 1) := dk_100 (dk_at dksX8_goesRound_0 13 rfl rfl)
theorem dX8_goesRound_14 : decode cX8_goesRound 14 = .ok (.istore 4, 2) := dk_54 4 (dk_at dksX8_goesRound_0 14 rfl rfl)
theorem dX8_goesRound_16 : decode cX8_goesRound 16 = .ok (.aload_n 0, 1) := dk_42 (dk_at dksX8_goesRound_0 16 rfl rfl)
theorem dX8_goesRound_17 : decode cX8_goesRound 17 = .ok (.iconst 1, 1) := dk_4 (dk_at dksX8_goesRound_0 17 rfl rfl)
theorem dX8_goesRound_18 : decode cX8_goesRound 18 = .ok (.iload 4, 2) := dk_21 4 (dk_at dksX8_goesRound_0 18 rfl rfl)
theorem dX8_goesRound_20 : decode cX8_goesRound 20 = .ok (.isub, 1) := dk_100 (dk_at dksX8_goesRound_0 20 rfl rfl)
theorem dX8_goesRound_21 : decode cX8_goesRound 21 = .ok (.iload 4, 2) := dk_21 4 (dk_at dksX8_goesRound_0 21 rfl rfl)
theorem dX8_goesRound_23 : decode cX8_goesRound 23 = .ok (.invokevirtual 388, 3) := dk_182 1 132 (dk_at dksX8_goesRound_1 0 rfl rfl)
theorem dX8_goesRound_26 : decode cX8_goesRound 26 = .ok (.ifCond .ne 6, 3) := dk_154 0 6 (dk_at dksX8_goesRound_1 3 rfl rfl)
theorem dX8_goesRound_29 : decode cX8_goesRound 29 = .ok (.goto 114, 3) := dk_167 0 114 (dk_at dksX8_goesRound_1 6 rfl rfl)
theorem dX8_goesRound_32 : decode cX8_goesRound 32 = .ok (.aload_n 0, 1) := dk_42 (dk_at dksX8_goesRound_1 9 rfl rfl)
theorem dX8_goesRound_33 : decode cX8_goesRound 33 = .ok (.iload_n 1, 1) := dk_27 (dk_at dksX8_goesRound_1 10 rfl rfl)
theorem dX8_goesRound_34 : decode cX8_goesRound 34 = .ok (.iconst 1, 1) := dk_4 (dk_at dksX8_goesRound_1 11 rfl rfl)
theorem dX8_goesRound_35 : decode cX8_goesRound 35 = .ok (.iload 4, 2) := dk_21 4 (dk_at dksX8_goesRound_1 12 rfl rfl)
theorem dX8_goesRound_37 : decode cX8_goesRound 37 = .ok (.isub, 1) := dk_100 (dk_at dksX8_goesRound_1 14 rfl rfl)
theorem dX8_goesRound_38 : decode cX8_goesRound 38 = .ok (.invokevirtual 391, 3) := dk_182 1 135 (dk_at dksX8_goesRound_1 15 rfl rfl)
theorem dX8_goesRound_41 : decode cX8_goesRound 41 = .ok (.istore 5, 2) := dk_54 5 (dk_at dksX8_goesRound_1 18 rfl rfl)
theorem dX8_goesRound_43 : decode cX8_goesRound 43 = .ok (.iconst 0, 1) := dk_3 (dk_at dksX8_goesRound_1 20 rfl rfl)
theorem dX8_goesRound_44 : decode cX8_goesRound 44 = .ok (.istore 6, 2) := dk_54 6 (dk_at dksX8_goesRound_1 21 rfl rfl)
theorem dX8_goesRound_46 : decode cX8_goesRound 46 = .ok (.iload 6, 2) := dk_21 6 (dk_at dksX8_goesRound_2 0 rfl rfl)
theorem dX8_goesRound_48 : decode cX8_goesRound 48 = .ok (.aload_n 0, 1) := dk_42 (dk_at dksX8_goesRound_2 2 rfl rfl)
theorem dX8_goesRound_49 : decode cX8_goesRound 49 = .ok (.getfield 131, 3) := dk_180 0 131 (dk_at dksX8_goesRound_2 3 rfl rfl)
theorem dX8_goesRound_52 : decode cX8_goesRound 52 = .ok (.iload_n 3, 1) := dk_29 (dk_at dksX8_goesRound_2 6 rfl rfl)
theorem dX8_goesRound_53 : decode cX8_goesRound 53 = .ok (.iaload, 1) := dk_46 (dk_at dksX8_goesRound_2 7 rfl rfl)
theorem dX8_goesRound_54 : decode cX8_goesRound 54 = .ok (.if_icmp .ge 89, 3) := dk_162 0 89 (dk_at dksX8_goesRound_2 8 rfl rfl)
theorem dX8_goesRound_57 : decode cX8_goesRound 57 = .ok (.aload_n 0, 1) := dk_42 (dk_at dksX8_goesRound_2 11 rfl rfl)
theorem dX8_goesRound_58 : decode cX8_goesRound 58 = .ok (.getfield 134, 3) := dk_180 0 134 (dk_at dksX8_goesRound_2 12 rfl rfl)
theorem dX8_goesRound_61 : decode cX8_goesRound 61 = .ok (.sipush 256, 3) := dk_17 1 0 (dk_at dksX8_goesRound_2 15 rfl rfl)
theorem dX8_goesRound_64 : decode cX8_goesRound 64 = .ok (.iload_n 3, 1) := dk_29 (dk_at dksX8_goesRound_2 18 rfl rfl)
theorem dX8_goesRound_65 : decode cX8_goesRound 65 = .ok (.imul, 1) := dk_104 (dk_at dksX8_goesRound_2 19 rfl rfl)
theorem dX8_goesRound_66 : decode cX8_goesRound 66 = .ok (.iload 6, 2) := dk_21 6 (dk_at dksX8_goesRound_2 20 rfl rfl)
theorem dX8_goesRound_68 : decode cX8_goesRound 68 = .ok (.iadd, 1) := dk_96 (dk_at dksX8_goesRound_2 22 rfl rfl)
theorem dX8_goesRound_69 : decode cX8_goesRound 69 = .ok (.iaload, 1) := dk_46 (dk_at dksX8_goesRound_2 23 rfl rfl)
theorem dX8_goesRound_70 : decode cX8_goesRound 70 = .ok (.istore 7, 2) := dk_54 7 (dk_at dksX8_goesRound_3 0 rfl rfl)
theorem dX8_goesRound_72 : decode cX8_goesRound 72 = .ok (.iload 7, 2) := dk_21 7 (dk_at dksX8_goesRound_3 2 rfl rfl)
theorem dX8_goesRound_74 : decode cX8_goesRound 74 = .ok (.iload 5, 2) := dk_21 5 (dk_at dksX8_goesRound_3 4 rfl rfl)
theorem dX8_goesRound_76 : decode cX8_goesRound 76 = .ok (.iconst (-1), 1) := dk_2 (dk_at dksX8_goesRound_3 6 rfl rfl)
theorem dX8_goesRound_77 : decode cX8_goesRound 77 = .ok (.ixor, 1) := dk_130 (dk_at dksX8_goesRound_3 7 rfl rfl)
theorem dX8_goesRound_78 : decode cX8_goesRound 78 = .ok (.iand, 1) := dk_126 (dk_at dksX8_goesRound_3 8 rfl rfl)
theorem dX8_goesRound_79 : decode cX8_goesRound 79 = .ok (.ifCond .ne 58, 3) := dk_154 0 58 (dk_at dksX8_goesRound_3 9 rfl rfl)
theorem dX8_goesRound_82 : decode cX8_goesRound 82 = .ok (.aload_n 0, 1) := dk_42 (dk_at dksX8_goesRound_3 12 rfl rfl)
theorem dX8_goesRound_83 : decode cX8_goesRound 83 = .ok (.iload 7, 2) := dk_21 7 (dk_at dksX8_goesRound_3 13 rfl rfl)
theorem dX8_goesRound_85 : decode cX8_goesRound 85 = .ok (.invokevirtual 414, 3) := dk_182 1 158 (dk_at dksX8_goesRound_3 15 rfl rfl)
theorem dX8_goesRound_88 : decode cX8_goesRound 88 = .ok (.ifCond .eq 6, 3) := dk_153 0 6 (dk_at dksX8_goesRound_3 18 rfl rfl)
theorem dX8_goesRound_91 : decode cX8_goesRound 91 = .ok (.goto 46, 3) := dk_167 0 46 (dk_at dksX8_goesRound_3 21 rfl rfl)
theorem dX8_goesRound_94 : decode cX8_goesRound 94 = .ok (.aload_n 0, 1) := dk_42 (dk_at dksX8_goesRound_4 0 rfl rfl)
theorem dX8_goesRound_95 : decode cX8_goesRound 95 = .ok (.iload_n 1, 1) := dk_27 (dk_at dksX8_goesRound_4 1 rfl rfl)
theorem dX8_goesRound_96 : decode cX8_goesRound 96 = .ok (.iload 7, 2) := dk_21 7 (dk_at dksX8_goesRound_4 2 rfl rfl)
theorem dX8_goesRound_98 : decode cX8_goesRound 98 = .ok (.iconst 1, 1) := dk_4 (dk_at dksX8_goesRound_4 4 rfl rfl)
theorem dX8_goesRound_99 : decode cX8_goesRound 99 = .ok (.iload_n 3, 1) := dk_29 (dk_at dksX8_goesRound_4 5 rfl rfl)
theorem dX8_goesRound_100 : decode cX8_goesRound 100 = .ok (.ishl, 1) := dk_120 (dk_at dksX8_goesRound_4 6 rfl rfl)
theorem dX8_goesRound_101 : decode cX8_goesRound 101 = .ok (.iconst 1, 1) := dk_4 (dk_at dksX8_goesRound_4 7 rfl rfl)
theorem dX8_goesRound_102 : decode cX8_goesRound 102 = .ok (.invokevirtual 410, 3) := dk_182 1 154 (dk_at dksX8_goesRound_4 8 rfl rfl)
theorem dX8_goesRound_105 : decode cX8_goesRound 105 = .ok (.ifCond .ne 18, 3) := dk_154 0 18 (dk_at dksX8_goesRound_4 11 rfl rfl)
theorem dX8_goesRound_108 : decode cX8_goesRound 108 = .ok (.aload_n 0, 1) := dk_42 (dk_at dksX8_goesRound_4 14 rfl rfl)
theorem dX8_goesRound_109 : decode cX8_goesRound 109 = .ok (.aload_n 0, 1) := dk_42 (dk_at dksX8_goesRound_4 15 rfl rfl)
theorem dX8_goesRound_110 : decode cX8_goesRound 110 = .ok (.iload_n 1, 1) := dk_27 (dk_at dksX8_goesRound_4 16 rfl rfl)
theorem dX8_goesRound_111 : decode cX8_goesRound 111 = .ok (.iload_n 3, 1) := dk_29 (dk_at dksX8_goesRound_4 17 rfl rfl)
theorem dX8_goesRound_112 : decode cX8_goesRound 112 = .ok (.iload 4, 2) := dk_21 4 (dk_at dksX8_goesRound_4 18 rfl rfl)
theorem dX8_goesRound_114 : decode cX8_goesRound 114 = .ok (.iload 7, 2) := dk_21 7 (dk_at dksX8_goesRound_4 20 rfl rfl)
theorem dX8_goesRound_116 : decode cX8_goesRound 116 = .ok (.invokevirtual 417, 3) := dk_182 1 161 (dk_at dksX8_goesRound_5 0 rfl rfl)
theorem dX8_goesRound_119 : decode cX8_goesRound 119 = .ok (.iload_n 2, 1) := dk_28 (dk_at dksX8_goesRound_5 3 rfl rfl)
theorem dX8_goesRound_120 : decode cX8_goesRound 120 = .ok (.invokevirtual 515, 3) := dk_182 2 3 (dk_at dksX8_goesRound_5 4 rfl rfl)
theorem dX8_goesRound_123 : decode cX8_goesRound 123 = .ok (.iload_n 3, 1) := dk_29 (dk_at dksX8_goesRound_5 7 rfl rfl)
theorem dX8_goesRound_124 : decode cX8_goesRound 124 = .ok (.ifCond .ne 13, 3) := dk_154 0 13 (dk_at dksX8_goesRound_5 8 rfl rfl)
theorem dX8_goesRound_127 : decode cX8_goesRound 127 = .ok (.aload_n 0, 1) := dk_42 (dk_at dksX8_goesRound_5 11 rfl rfl)
theorem dX8_goesRound_128 : decode cX8_goesRound 128 = .ok (.iload_n 1, 1) := dk_27 (dk_at dksX8_goesRound_5 12 rfl rfl)
theorem dX8_goesRound_129 : decode cX8_goesRound 129 = .ok (.iload 4, 2) := dk_21 4 (dk_at dksX8_goesRound_5 13 rfl rfl)
theorem dX8_goesRound_131 : decode cX8_goesRound 131 = .ok (.iload 7, 2) := dk_21 7 (dk_at dksX8_goesRound_5 15 rfl rfl)
theorem dX8_goesRound_133 : decode cX8_goesRound 133 = .ok (.iload_n 2, 1) := dk_28 (dk_at dksX8_goesRound_5 17 rfl rfl)
theorem dX8_goesRound_134 : decode cX8_goesRound 134 = .ok (.invokevirtual 518, 3) := dk_182 2 6 (dk_at dksX8_goesRound_5 18 rfl rfl)
theorem dX8_goesRound_137 : decode cX8_goesRound 137 = .ok (.iinc 6 1, 3) := dk_132 6 1 (dk_at dksX8_goesRound_5 21 rfl rfl)
theorem dX8_goesRound_140 : decode cX8_goesRound 140 = .ok (.goto (-94), 3) := dk_167 255 162 (dk_at dksX8_goesRound_6 0 rfl rfl)
theorem dX8_goesRound_143 : decode cX8_goesRound 143 = .ok (.iinc 3 1, 3) := dk_132 3 1 (dk_at dksX8_goesRound_6 3 rfl rfl)
theorem dX8_goesRound_146 : decode cX8_goesRound 146 = .ok (.goto (-144), 3) := dk_167 255 112 (dk_at dksX8_goesRound_6 6 rfl rfl)
theorem dX8_goesRound_149 : decode cX8_goesRound 149 = .ok (.return_, 1) := dk_177 (dk_at dksX8_goesRound_6 9 rfl rfl)
abbrev cX8_comes : ByteArray := prog_19_method_93_code
def yX8_comes : MethodName := ⟨RX8, "comes", "(II)V"⟩
def dkwX8_comes_1 : List UInt8 := [160, 0, 14, 42, 180, 0, 158, 42, 27, 182, 1, 249, 28, 79, 177]
abbrev dktX8_comes_1 : List UInt8 := dkwX8_comes_1 ++ []
def dkwX8_comes_0 : List UInt8 := [42, 27, 3, 3, 3, 182, 1, 154, 154, 0, 28, 42, 180, 0, 158, 42, 27, 182, 1, 249, 46, 2]
abbrev dktX8_comes_0 : List UInt8 := dkwX8_comes_0 ++ dktX8_comes_1
theorem dksX8_comes_0 : cX8_comes.data.toList.drop 0 = dktX8_comes_0 := by decide +kernel
theorem dksX8_comes_1 : cX8_comes.data.toList.drop 22 = dktX8_comes_1 := dk_seg dksX8_comes_0 22 rfl rfl
theorem dX8_comes_0 : decode cX8_comes 0 = .ok (.aload_n 0, 1) := dk_42 (dk_at dksX8_comes_0 0 rfl rfl)
theorem dX8_comes_1 : decode cX8_comes 1 = .ok (.iload_n 1, 1) := dk_27 (dk_at dksX8_comes_0 1 rfl rfl)
theorem dX8_comes_2 : decode cX8_comes 2 = .ok (.iconst 0, 1) := dk_3 (dk_at dksX8_comes_0 2 rfl rfl)
theorem dX8_comes_3 : decode cX8_comes 3 = .ok (.iconst 0, 1) := dk_3 (dk_at dksX8_comes_0 3 rfl rfl)
theorem dX8_comes_4 : decode cX8_comes 4 = .ok (.iconst 0, 1) := dk_3 (dk_at dksX8_comes_0 4 rfl rfl)
theorem dX8_comes_5 : decode cX8_comes 5 = .ok (.invokevirtual 410, 3) := dk_182 1 154 (dk_at dksX8_comes_0 5 rfl rfl)
theorem dX8_comes_8 : decode cX8_comes 8 = .ok (.ifCond .ne 28, 3) := dk_154 0 28 (dk_at dksX8_comes_0 8 rfl rfl)
theorem dX8_comes_11 : decode cX8_comes 11 = .ok (.aload_n 0, 1) := dk_42 (dk_at dksX8_comes_0 11 rfl rfl)
theorem dX8_comes_12 : decode cX8_comes 12 = .ok (.getfield 158, 3) := dk_180 0 158 (dk_at dksX8_comes_0 12 rfl rfl)
theorem dX8_comes_15 : decode cX8_comes 15 = .ok (.aload_n 0, 1) := dk_42 (dk_at dksX8_comes_0 15 rfl rfl)
theorem dX8_comes_16 : decode cX8_comes 16 = .ok (.iload_n 1, 1) := dk_27 (dk_at dksX8_comes_0 16 rfl rfl)
theorem dX8_comes_17 : decode cX8_comes 17 = .ok (.invokevirtual 505, 3) := dk_182 1 249 (dk_at dksX8_comes_0 17 rfl rfl)
theorem dX8_comes_20 : decode cX8_comes 20 = .ok (.iaload, 1) := dk_46 (dk_at dksX8_comes_0 20 rfl rfl)
theorem dX8_comes_21 : decode cX8_comes 21 = .ok (.iconst (-1), 1) := dk_2 (dk_at dksX8_comes_0 21 rfl rfl)
theorem dX8_comes_22 : decode cX8_comes 22 = .ok (.if_icmp .ne 14, 3) := dk_160 0 14 (dk_at dksX8_comes_1 0 rfl rfl)
theorem dX8_comes_25 : decode cX8_comes 25 = .ok (.aload_n 0, 1) := dk_42 (dk_at dksX8_comes_1 3 rfl rfl)
theorem dX8_comes_26 : decode cX8_comes 26 = .ok (.getfield 158, 3) := dk_180 0 158 (dk_at dksX8_comes_1 4 rfl rfl)
theorem dX8_comes_29 : decode cX8_comes 29 = .ok (.aload_n 0, 1) := dk_42 (dk_at dksX8_comes_1 7 rfl rfl)
theorem dX8_comes_30 : decode cX8_comes 30 = .ok (.iload_n 1, 1) := dk_27 (dk_at dksX8_comes_1 8 rfl rfl)
theorem dX8_comes_31 : decode cX8_comes 31 = .ok (.invokevirtual 505, 3) := dk_182 1 249 (dk_at dksX8_comes_1 9 rfl rfl)
theorem dX8_comes_34 : decode cX8_comes 34 = .ok (.iload_n 2, 1) := dk_28 (dk_at dksX8_comes_1 12 rfl rfl)
theorem dX8_comes_35 : decode cX8_comes 35 = .ok (.iastore, 1) := dk_79 (dk_at dksX8_comes_1 13 rfl rfl)
theorem dX8_comes_36 : decode cX8_comes 36 = .ok (.return_, 1) := dk_177 (dk_at dksX8_comes_1 14 rfl rfl)
abbrev cX8_goesBoth : ByteArray := prog_19_method_95_code
def yX8_goesBoth : MethodName := ⟨RX8, "goesBoth", "(IIII)V"⟩
def dkwX8_goesBoth_5 : List UInt8 := [182, 1, 161, 21, 4, 182, 2, 3, 132, 7, 1, 167, 255, 163, 177]
abbrev dktX8_goesBoth_5 : List UInt8 := dkwX8_goesBoth_5 ++ []
def dkwX8_goesBoth_4 : List UInt8 := [182, 1, 154, 153, 0, 6, 167, 0, 26, 42, 42, 42, 27, 3, 28, 29, 182, 1, 161, 4, 21, 5, 21, 8]
abbrev dktX8_goesBoth_4 : List UInt8 := dkwX8_goesBoth_4 ++ dktX8_goesBoth_5
def dkwX8_goesBoth_3 : List UInt8 := [21, 8, 29, 126, 154, 0, 52, 42, 21, 8, 182, 1, 158, 154, 0, 43, 42, 27, 29, 21, 8, 128, 6, 4]
abbrev dktX8_goesBoth_3 : List UInt8 := dkwX8_goesBoth_3 ++ dktX8_goesBoth_4
def dkwX8_goesBoth_2 : List UInt8 := [42, 180, 0, 134, 17, 1, 0, 21, 7, 96, 46, 54, 8, 21, 8, 21, 6, 2, 130, 126, 154, 0, 59]
abbrev dktX8_goesBoth_2 : List UInt8 := dkwX8_goesBoth_2 ++ dktX8_goesBoth_3
def dkwX8_goesBoth_1 : List UInt8 := [27, 4, 21, 5, 100, 182, 1, 135, 54, 6, 3, 54, 7, 21, 7, 42, 180, 0, 131, 4, 46, 162, 0, 88]
abbrev dktX8_goesBoth_1 : List UInt8 := dkwX8_goesBoth_1 ++ dktX8_goesBoth_2
def dkwX8_goesBoth_0 : List UInt8 := [4, 27, 4, 184, 1, 138, 100, 54, 5, 42, 4, 21, 5, 100, 21, 5, 182, 1, 132, 154, 0, 4, 177, 42]
abbrev dktX8_goesBoth_0 : List UInt8 := dkwX8_goesBoth_0 ++ dktX8_goesBoth_1
theorem dksX8_goesBoth_0 : cX8_goesBoth.data.toList.drop 0 = dktX8_goesBoth_0 := by decide +kernel
theorem dksX8_goesBoth_1 : cX8_goesBoth.data.toList.drop 24 = dktX8_goesBoth_1 := dk_seg dksX8_goesBoth_0 24 rfl rfl
theorem dksX8_goesBoth_2 : cX8_goesBoth.data.toList.drop 48 = dktX8_goesBoth_2 := dk_seg dksX8_goesBoth_1 24 rfl rfl
theorem dksX8_goesBoth_3 : cX8_goesBoth.data.toList.drop 71 = dktX8_goesBoth_3 := dk_seg dksX8_goesBoth_2 23 rfl rfl
theorem dksX8_goesBoth_4 : cX8_goesBoth.data.toList.drop 95 = dktX8_goesBoth_4 := dk_seg dksX8_goesBoth_3 24 rfl rfl
theorem dksX8_goesBoth_5 : cX8_goesBoth.data.toList.drop 119 = dktX8_goesBoth_5 := dk_seg dksX8_goesBoth_4 24 rfl rfl
theorem dX8_goesBoth_0 : decode cX8_goesBoth 0 = .ok (.iconst 1, 1) := dk_4 (dk_at dksX8_goesBoth_0 0 rfl rfl)
theorem dX8_goesBoth_1 : decode cX8_goesBoth 1 = .ok (.iload_n 1, 1) := dk_27 (dk_at dksX8_goesBoth_0 1 rfl rfl)
theorem dX8_goesBoth_2 : decode cX8_goesBoth 2 = .ok (.iconst 1, 1) := dk_4 (dk_at dksX8_goesBoth_0 2 rfl rfl)
theorem dX8_goesBoth_3 : decode cX8_goesBoth 3 = .ok (.invokestatic 394, 3) := dk_184 1 138 (dk_at dksX8_goesBoth_0 3 rfl rfl)
theorem dX8_goesBoth_6 : decode cX8_goesBoth 6 = .ok (.isub, 1) := dk_100 (dk_at dksX8_goesBoth_0 6 rfl rfl)
theorem dX8_goesBoth_7 : decode cX8_goesBoth 7 = .ok (.istore 5, 2) := dk_54 5 (dk_at dksX8_goesBoth_0 7 rfl rfl)
theorem dX8_goesBoth_9 : decode cX8_goesBoth 9 = .ok (.aload_n 0, 1) := dk_42 (dk_at dksX8_goesBoth_0 9 rfl rfl)
theorem dX8_goesBoth_10 : decode cX8_goesBoth 10 = .ok (.iconst 1, 1) := dk_4 (dk_at dksX8_goesBoth_0 10 rfl rfl)
theorem dX8_goesBoth_11 : decode cX8_goesBoth 11 = .ok (.iload 5, 2) := dk_21 5 (dk_at dksX8_goesBoth_0 11 rfl rfl)
theorem dX8_goesBoth_13 : decode cX8_goesBoth 13 = .ok (.isub, 1) := dk_100 (dk_at dksX8_goesBoth_0 13 rfl rfl)
theorem dX8_goesBoth_14 : decode cX8_goesBoth 14 = .ok (.iload 5, 2) := dk_21 5 (dk_at dksX8_goesBoth_0 14 rfl rfl)
theorem dX8_goesBoth_16 : decode cX8_goesBoth 16 = .ok (.invokevirtual 388, 3) := dk_182 1 132 (dk_at dksX8_goesBoth_0 16 rfl rfl)
theorem dX8_goesBoth_19 : decode cX8_goesBoth 19 = .ok (.ifCond .ne 4, 3) := dk_154 0 4 (dk_at dksX8_goesBoth_0 19 rfl rfl)
theorem dX8_goesBoth_22 : decode cX8_goesBoth 22 = .ok (.return_, 1) := dk_177 (dk_at dksX8_goesBoth_0 22 rfl rfl)
theorem dX8_goesBoth_23 : decode cX8_goesBoth 23 = .ok (.aload_n 0, 1) := dk_42 (dk_at dksX8_goesBoth_0 23 rfl rfl)
theorem dX8_goesBoth_24 : decode cX8_goesBoth 24 = .ok (.iload_n 1, 1) := dk_27 (dk_at dksX8_goesBoth_1 0 rfl rfl)
theorem dX8_goesBoth_25 : decode cX8_goesBoth 25 = .ok (.iconst 1, 1) := dk_4 (dk_at dksX8_goesBoth_1 1 rfl rfl)
theorem dX8_goesBoth_26 : decode cX8_goesBoth 26 = .ok (.iload 5, 2) := dk_21 5 (dk_at dksX8_goesBoth_1 2 rfl rfl)
theorem dX8_goesBoth_28 : decode cX8_goesBoth 28 = .ok (.isub, 1) := dk_100 (dk_at dksX8_goesBoth_1 4 rfl rfl)
theorem dX8_goesBoth_29 : decode cX8_goesBoth 29 = .ok (.invokevirtual 391, 3) := dk_182 1 135 (dk_at dksX8_goesBoth_1 5 rfl rfl)
theorem dX8_goesBoth_32 : decode cX8_goesBoth 32 = .ok (.istore 6, 2) := dk_54 6 (dk_at dksX8_goesBoth_1 8 rfl rfl)
theorem dX8_goesBoth_34 : decode cX8_goesBoth 34 = .ok (.iconst 0, 1) := dk_3 (dk_at dksX8_goesBoth_1 10 rfl rfl)
theorem dX8_goesBoth_35 : decode cX8_goesBoth 35 = .ok (.istore 7, 2) := dk_54 7 (dk_at dksX8_goesBoth_1 11 rfl rfl)
theorem dX8_goesBoth_37 : decode cX8_goesBoth 37 = .ok (.iload 7, 2) := dk_21 7 (dk_at dksX8_goesBoth_1 13 rfl rfl)
theorem dX8_goesBoth_39 : decode cX8_goesBoth 39 = .ok (.aload_n 0, 1) := dk_42 (dk_at dksX8_goesBoth_1 15 rfl rfl)
theorem dX8_goesBoth_40 : decode cX8_goesBoth 40 = .ok (.getfield 131, 3) := dk_180 0 131 (dk_at dksX8_goesBoth_1 16 rfl rfl)
theorem dX8_goesBoth_43 : decode cX8_goesBoth 43 = .ok (.iconst 1, 1) := dk_4 (dk_at dksX8_goesBoth_1 19 rfl rfl)
theorem dX8_goesBoth_44 : decode cX8_goesBoth 44 = .ok (.iaload, 1) := dk_46 (dk_at dksX8_goesBoth_1 20 rfl rfl)
theorem dX8_goesBoth_45 : decode cX8_goesBoth 45 = .ok (.if_icmp .ge 88, 3) := dk_162 0 88 (dk_at dksX8_goesBoth_1 21 rfl rfl)
theorem dX8_goesBoth_48 : decode cX8_goesBoth 48 = .ok (.aload_n 0, 1) := dk_42 (dk_at dksX8_goesBoth_2 0 rfl rfl)
theorem dX8_goesBoth_49 : decode cX8_goesBoth 49 = .ok (.getfield 134, 3) := dk_180 0 134 (dk_at dksX8_goesBoth_2 1 rfl rfl)
theorem dX8_goesBoth_52 : decode cX8_goesBoth 52 = .ok (.sipush 256, 3) := dk_17 1 0 (dk_at dksX8_goesBoth_2 4 rfl rfl)
theorem dX8_goesBoth_55 : decode cX8_goesBoth 55 = .ok (.iload 7, 2) := dk_21 7 (dk_at dksX8_goesBoth_2 7 rfl rfl)
theorem dX8_goesBoth_57 : decode cX8_goesBoth 57 = .ok (.iadd, 1) := dk_96 (dk_at dksX8_goesBoth_2 9 rfl rfl)
theorem dX8_goesBoth_58 : decode cX8_goesBoth 58 = .ok (.iaload, 1) := dk_46 (dk_at dksX8_goesBoth_2 10 rfl rfl)
theorem dX8_goesBoth_59 : decode cX8_goesBoth 59 = .ok (.istore 8, 2) := dk_54 8 (dk_at dksX8_goesBoth_2 11 rfl rfl)
theorem dX8_goesBoth_61 : decode cX8_goesBoth 61 = .ok (.iload 8, 2) := dk_21 8 (dk_at dksX8_goesBoth_2 13 rfl rfl)
theorem dX8_goesBoth_63 : decode cX8_goesBoth 63 = .ok (.iload 6, 2) := dk_21 6 (dk_at dksX8_goesBoth_2 15 rfl rfl)
theorem dX8_goesBoth_65 : decode cX8_goesBoth 65 = .ok (.iconst (-1), 1) := dk_2 (dk_at dksX8_goesBoth_2 17 rfl rfl)
theorem dX8_goesBoth_66 : decode cX8_goesBoth 66 = .ok (.ixor, 1) := dk_130 (dk_at dksX8_goesBoth_2 18 rfl rfl)
theorem dX8_goesBoth_67 : decode cX8_goesBoth 67 = .ok (.iand, 1) := dk_126 (dk_at dksX8_goesBoth_2 19 rfl rfl)
theorem dX8_goesBoth_68 : decode cX8_goesBoth 68 = .ok (.ifCond .ne 59, 3) := dk_154 0 59 (dk_at dksX8_goesBoth_2 20 rfl rfl)
theorem dX8_goesBoth_71 : decode cX8_goesBoth 71 = .ok (.iload 8, 2) := dk_21 8 (dk_at dksX8_goesBoth_3 0 rfl rfl)
theorem dX8_goesBoth_73 : decode cX8_goesBoth 73 = .ok (.iload_n 3, 1) := dk_29 (dk_at dksX8_goesBoth_3 2 rfl rfl)
theorem dX8_goesBoth_74 : decode cX8_goesBoth 74 = .ok (.iand, 1) := dk_126 (dk_at dksX8_goesBoth_3 3 rfl rfl)
theorem dX8_goesBoth_75 : decode cX8_goesBoth 75 = .ok (.ifCond .ne 52, 3) := dk_154 0 52 (dk_at dksX8_goesBoth_3 4 rfl rfl)
theorem dX8_goesBoth_78 : decode cX8_goesBoth 78 = .ok (.aload_n 0, 1) := dk_42 (dk_at dksX8_goesBoth_3 7 rfl rfl)
theorem dX8_goesBoth_79 : decode cX8_goesBoth 79 = .ok (.iload 8, 2) := dk_21 8 (dk_at dksX8_goesBoth_3 8 rfl rfl)
theorem dX8_goesBoth_81 : decode cX8_goesBoth 81 = .ok (.invokevirtual 414, 3) := dk_182 1 158 (dk_at dksX8_goesBoth_3 10 rfl rfl)
theorem dX8_goesBoth_84 : decode cX8_goesBoth 84 = .ok (.ifCond .ne 43, 3) := dk_154 0 43 (dk_at dksX8_goesBoth_3 13 rfl rfl)
theorem dX8_goesBoth_87 : decode cX8_goesBoth 87 = .ok (.aload_n 0, 1) := dk_42 (dk_at dksX8_goesBoth_3 16 rfl rfl)
theorem dX8_goesBoth_88 : decode cX8_goesBoth 88 = .ok (.iload_n 1, 1) := dk_27 (dk_at dksX8_goesBoth_3 17 rfl rfl)
theorem dX8_goesBoth_89 : decode cX8_goesBoth 89 = .ok (.iload_n 3, 1) := dk_29 (dk_at dksX8_goesBoth_3 18 rfl rfl)
theorem dX8_goesBoth_90 : decode cX8_goesBoth 90 = .ok (.iload 8, 2) := dk_21 8 (dk_at dksX8_goesBoth_3 19 rfl rfl)
theorem dX8_goesBoth_92 : decode cX8_goesBoth 92 = .ok (.ior, 1) := dk_128 (dk_at dksX8_goesBoth_3 21 rfl rfl)
theorem dX8_goesBoth_93 : decode cX8_goesBoth 93 = .ok (.iconst 3, 1) := dk_6 (dk_at dksX8_goesBoth_3 22 rfl rfl)
theorem dX8_goesBoth_94 : decode cX8_goesBoth 94 = .ok (.iconst 1, 1) := dk_4 (dk_at dksX8_goesBoth_3 23 rfl rfl)
theorem dX8_goesBoth_95 : decode cX8_goesBoth 95 = .ok (.invokevirtual 410, 3) := dk_182 1 154 (dk_at dksX8_goesBoth_4 0 rfl rfl)
theorem dX8_goesBoth_98 : decode cX8_goesBoth 98 = .ok (.ifCond .eq 6, 3) := dk_153 0 6 (dk_at dksX8_goesBoth_4 3 rfl rfl)
theorem dX8_goesBoth_101 : decode cX8_goesBoth 101 = .ok (.goto 26, 3) := dk_167 0 26 (dk_at dksX8_goesBoth_4 6 rfl rfl)
theorem dX8_goesBoth_104 : decode cX8_goesBoth 104 = .ok (.aload_n 0, 1) := dk_42 (dk_at dksX8_goesBoth_4 9 rfl rfl)
theorem dX8_goesBoth_105 : decode cX8_goesBoth 105 = .ok (.aload_n 0, 1) := dk_42 (dk_at dksX8_goesBoth_4 10 rfl rfl)
theorem dX8_goesBoth_106 : decode cX8_goesBoth 106 = .ok (.aload_n 0, 1) := dk_42 (dk_at dksX8_goesBoth_4 11 rfl rfl)
theorem dX8_goesBoth_107 : decode cX8_goesBoth 107 = .ok (.iload_n 1, 1) := dk_27 (dk_at dksX8_goesBoth_4 12 rfl rfl)
theorem dX8_goesBoth_108 : decode cX8_goesBoth 108 = .ok (.iconst 0, 1) := dk_3 (dk_at dksX8_goesBoth_4 13 rfl rfl)
theorem dX8_goesBoth_109 : decode cX8_goesBoth 109 = .ok (.iload_n 2, 1) := dk_28 (dk_at dksX8_goesBoth_4 14 rfl rfl)
theorem dX8_goesBoth_110 : decode cX8_goesBoth 110 = .ok (.iload_n 3, 1) := dk_29 (dk_at dksX8_goesBoth_4 15 rfl rfl)
theorem dX8_goesBoth_111 : decode cX8_goesBoth 111 = .ok (.invokevirtual 417, 3) := dk_182 1 161 (dk_at dksX8_goesBoth_4 16 rfl rfl)
theorem dX8_goesBoth_114 : decode cX8_goesBoth 114 = .ok (.iconst 1, 1) := dk_4 (dk_at dksX8_goesBoth_4 19 rfl rfl)
theorem dX8_goesBoth_115 : decode cX8_goesBoth 115 = .ok (.iload 5, 2) := dk_21 5 (dk_at dksX8_goesBoth_4 20 rfl rfl)
theorem dX8_goesBoth_117 : decode cX8_goesBoth 117 = .ok (.iload 8, 2) := dk_21 8 (dk_at dksX8_goesBoth_4 22 rfl rfl)
theorem dX8_goesBoth_119 : decode cX8_goesBoth 119 = .ok (.invokevirtual 417, 3) := dk_182 1 161 (dk_at dksX8_goesBoth_5 0 rfl rfl)
theorem dX8_goesBoth_122 : decode cX8_goesBoth 122 = .ok (.iload 4, 2) := dk_21 4 (dk_at dksX8_goesBoth_5 3 rfl rfl)
theorem dX8_goesBoth_124 : decode cX8_goesBoth 124 = .ok (.invokevirtual 515, 3) := dk_182 2 3 (dk_at dksX8_goesBoth_5 5 rfl rfl)
theorem dX8_goesBoth_127 : decode cX8_goesBoth 127 = .ok (.iinc 7 1, 3) := dk_132 7 1 (dk_at dksX8_goesBoth_5 8 rfl rfl)
theorem dX8_goesBoth_130 : decode cX8_goesBoth 130 = .ok (.goto (-93), 3) := dk_167 255 163 (dk_at dksX8_goesBoth_5 11 rfl rfl)
theorem dX8_goesBoth_133 : decode cX8_goesBoth 133 = .ok (.return_, 1) := dk_177 (dk_at dksX8_goesBoth_5 14 rfl rfl)
abbrev cX8_cross : ByteArray := prog_19_method_97_code
def yX8_cross : MethodName := ⟨RX8, "cross", "(III)I"⟩
def dkwX8_cross_6 : List UInt8 := [29, 182, 1, 205, 96, 79, 42, 89, 180, 1, 129, 4, 96, 181, 1, 129, 3, 172]
abbrev dktX8_cross_6 : List UInt8 := dkwX8_cross_6 ++ []
def dkwX8_cross_5 : List UInt8 := [182, 1, 161, 79, 42, 180, 0, 167, 42, 180, 1, 129, 4, 96, 42, 180, 0, 167, 42, 180, 1, 129, 46, 42]
abbrev dktX8_cross_5 : List UInt8 := dkwX8_cross_5 ++ dktX8_cross_6
def dkwX8_cross_4 : List UInt8 := [42, 180, 0, 164, 42, 180, 1, 129, 4, 96, 42, 42, 180, 0, 164, 42, 180, 1, 129, 46, 27, 28, 29]
abbrev dktX8_cross_4 : List UInt8 := dkwX8_cross_4 ++ dktX8_cross_5
def dkwX8_cross_3 : List UInt8 := [154, 0, 16, 42, 89, 180, 0, 161, 4, 96, 181, 0, 161, 167, 255, 232, 21, 4, 153, 0, 6, 21, 4, 172]
abbrev dktX8_cross_3 : List UInt8 := dkwX8_cross_3 ++ dktX8_cross_4
def dkwX8_cross_2 : List UInt8 := [21, 4, 16, 8, 160, 0, 35, 42, 3, 181, 0, 161, 42, 180, 1, 145, 42, 180, 0, 161, 122, 4, 126]
abbrev dktX8_cross_2 : List UInt8 := dkwX8_cross_2 ++ dktX8_cross_3
def dkwX8_cross_1 : List UInt8 := [180, 0, 164, 42, 180, 1, 129, 46, 27, 28, 29, 182, 2, 10, 54, 4, 21, 4, 16, 7, 159, 0, 10]
abbrev dktX8_cross_1 : List UInt8 := dkwX8_cross_1 ++ dktX8_cross_2
def dkwX8_cross_0 : List UInt8 := [42, 3, 181, 0, 173, 42, 2, 181, 0, 161, 42, 180, 1, 129, 16, 60, 160, 0, 6, 16, 9, 172, 42, 42]
abbrev dktX8_cross_0 : List UInt8 := dkwX8_cross_0 ++ dktX8_cross_1
theorem dksX8_cross_0 : cX8_cross.data.toList.drop 0 = dktX8_cross_0 := by decide +kernel
theorem dksX8_cross_1 : cX8_cross.data.toList.drop 24 = dktX8_cross_1 := dk_seg dksX8_cross_0 24 rfl rfl
theorem dksX8_cross_2 : cX8_cross.data.toList.drop 47 = dktX8_cross_2 := dk_seg dksX8_cross_1 23 rfl rfl
theorem dksX8_cross_3 : cX8_cross.data.toList.drop 70 = dktX8_cross_3 := dk_seg dksX8_cross_2 23 rfl rfl
theorem dksX8_cross_4 : cX8_cross.data.toList.drop 94 = dktX8_cross_4 := dk_seg dksX8_cross_3 24 rfl rfl
theorem dksX8_cross_5 : cX8_cross.data.toList.drop 117 = dktX8_cross_5 := dk_seg dksX8_cross_4 23 rfl rfl
theorem dksX8_cross_6 : cX8_cross.data.toList.drop 141 = dktX8_cross_6 := dk_seg dksX8_cross_5 24 rfl rfl
theorem dX8_cross_0 : decode cX8_cross 0 = .ok (.aload_n 0, 1) := dk_42 (dk_at dksX8_cross_0 0 rfl rfl)
theorem dX8_cross_1 : decode cX8_cross 1 = .ok (.iconst 0, 1) := dk_3 (dk_at dksX8_cross_0 1 rfl rfl)
theorem dX8_cross_2 : decode cX8_cross 2 = .ok (.putfield 173, 3) := dk_181 0 173 (dk_at dksX8_cross_0 2 rfl rfl)
theorem dX8_cross_5 : decode cX8_cross 5 = .ok (.aload_n 0, 1) := dk_42 (dk_at dksX8_cross_0 5 rfl rfl)
theorem dX8_cross_6 : decode cX8_cross 6 = .ok (.iconst (-1), 1) := dk_2 (dk_at dksX8_cross_0 6 rfl rfl)
theorem dX8_cross_7 : decode cX8_cross 7 = .ok (.putfield 161, 3) := dk_181 0 161 (dk_at dksX8_cross_0 7 rfl rfl)
theorem dX8_cross_10 : decode cX8_cross 10 = .ok (.aload_n 0, 1) := dk_42 (dk_at dksX8_cross_0 10 rfl rfl)
theorem dX8_cross_11 : decode cX8_cross 11 = .ok (.getfield 385, 3) := dk_180 1 129 (dk_at dksX8_cross_0 11 rfl rfl)
theorem dX8_cross_14 : decode cX8_cross 14 = .ok (.bipush 60, 2) := dk_16 60 (dk_at dksX8_cross_0 14 rfl rfl)
theorem dX8_cross_16 : decode cX8_cross 16 = .ok (.if_icmp .ne 6, 3) := dk_160 0 6 (dk_at dksX8_cross_0 16 rfl rfl)
theorem dX8_cross_19 : decode cX8_cross 19 = .ok (.bipush 9, 2) := dk_16 9 (dk_at dksX8_cross_0 19 rfl rfl)
theorem dX8_cross_21 : decode cX8_cross 21 = .ok (.ireturn, 1) := dk_172 (dk_at dksX8_cross_0 21 rfl rfl)
theorem dX8_cross_22 : decode cX8_cross 22 = .ok (.aload_n 0, 1) := dk_42 (dk_at dksX8_cross_0 22 rfl rfl)
theorem dX8_cross_23 : decode cX8_cross 23 = .ok (.aload_n 0, 1) := dk_42 (dk_at dksX8_cross_0 23 rfl rfl)
theorem dX8_cross_24 : decode cX8_cross 24 = .ok (.getfield 164, 3) := dk_180 0 164 (dk_at dksX8_cross_1 0 rfl rfl)
theorem dX8_cross_27 : decode cX8_cross 27 = .ok (.aload_n 0, 1) := dk_42 (dk_at dksX8_cross_1 3 rfl rfl)
theorem dX8_cross_28 : decode cX8_cross 28 = .ok (.getfield 385, 3) := dk_180 1 129 (dk_at dksX8_cross_1 4 rfl rfl)
theorem dX8_cross_31 : decode cX8_cross 31 = .ok (.iaload, 1) := dk_46 (dk_at dksX8_cross_1 7 rfl rfl)
theorem dX8_cross_32 : decode cX8_cross 32 = .ok (.iload_n 1, 1) := dk_27 (dk_at dksX8_cross_1 8 rfl rfl)
theorem dX8_cross_33 : decode cX8_cross 33 = .ok (.iload_n 2, 1) := dk_28 (dk_at dksX8_cross_1 9 rfl rfl)
theorem dX8_cross_34 : decode cX8_cross 34 = .ok (.iload_n 3, 1) := dk_29 (dk_at dksX8_cross_1 10 rfl rfl)
theorem dX8_cross_35 : decode cX8_cross 35 = .ok (.invokevirtual 522, 3) := dk_182 2 10 (dk_at dksX8_cross_1 11 rfl rfl)
theorem dX8_cross_38 : decode cX8_cross 38 = .ok (.istore 4, 2) := dk_54 4 (dk_at dksX8_cross_1 14 rfl rfl)
theorem dX8_cross_40 : decode cX8_cross 40 = .ok (.iload 4, 2) := dk_21 4 (dk_at dksX8_cross_1 16 rfl rfl)
theorem dX8_cross_42 : decode cX8_cross 42 = .ok (.bipush 7, 2) := dk_16 7 (dk_at dksX8_cross_1 18 rfl rfl)
theorem dX8_cross_44 : decode cX8_cross 44 = .ok (.if_icmp .eq 10, 3) := dk_159 0 10 (dk_at dksX8_cross_1 20 rfl rfl)
theorem dX8_cross_47 : decode cX8_cross 47 = .ok (.iload 4, 2) := dk_21 4 (dk_at dksX8_cross_2 0 rfl rfl)
theorem dX8_cross_49 : decode cX8_cross 49 = .ok (.bipush 8, 2) := dk_16 8 (dk_at dksX8_cross_2 2 rfl rfl)
theorem dX8_cross_51 : decode cX8_cross 51 = .ok (.if_icmp .ne 35, 3) := dk_160 0 35 (dk_at dksX8_cross_2 4 rfl rfl)
theorem dX8_cross_54 : decode cX8_cross 54 = .ok (.aload_n 0, 1) := dk_42 (dk_at dksX8_cross_2 7 rfl rfl)
theorem dX8_cross_55 : decode cX8_cross 55 = .ok (.iconst 0, 1) := dk_3 (dk_at dksX8_cross_2 8 rfl rfl)
theorem dX8_cross_56 : decode cX8_cross 56 = .ok (.putfield 161, 3) := dk_181 0 161 (dk_at dksX8_cross_2 9 rfl rfl)
theorem dX8_cross_59 : decode cX8_cross 59 = .ok (.aload_n 0, 1) := dk_42 (dk_at dksX8_cross_2 12 rfl rfl)
theorem dX8_cross_60 : decode cX8_cross 60 = .ok (.getfield 401, 3) := dk_180 1 145 (dk_at dksX8_cross_2 13 rfl rfl)
theorem dX8_cross_63 : decode cX8_cross 63 = .ok (.aload_n 0, 1) := dk_42 (dk_at dksX8_cross_2 16 rfl rfl)
theorem dX8_cross_64 : decode cX8_cross 64 = .ok (.getfield 161, 3) := dk_180 0 161 (dk_at dksX8_cross_2 17 rfl rfl)
theorem dX8_cross_67 : decode cX8_cross 67 = .ok (.ishr, 1) := dk_122 (dk_at dksX8_cross_2 20 rfl rfl)
theorem dX8_cross_68 : decode cX8_cross 68 = .ok (.iconst 1, 1) := dk_4 (dk_at dksX8_cross_2 21 rfl rfl)
theorem dX8_cross_69 : decode cX8_cross 69 = .ok (.iand, 1) := dk_126 (dk_at dksX8_cross_2 22 rfl rfl)
theorem dX8_cross_70 : decode cX8_cross 70 = .ok (.ifCond .ne 16, 3) := dk_154 0 16 (dk_at dksX8_cross_3 0 rfl rfl)
theorem dX8_cross_73 : decode cX8_cross 73 = .ok (.aload_n 0, 1) := dk_42 (dk_at dksX8_cross_3 3 rfl rfl)
theorem dX8_cross_74 : decode cX8_cross 74 = .ok (.dup, 1) := dk_89 (dk_at dksX8_cross_3 4 rfl rfl)
theorem dX8_cross_75 : decode cX8_cross 75 = .ok (.getfield 161, 3) := dk_180 0 161 (dk_at dksX8_cross_3 5 rfl rfl)
theorem dX8_cross_78 : decode cX8_cross 78 = .ok (.iconst 1, 1) := dk_4 (dk_at dksX8_cross_3 8 rfl rfl)
theorem dX8_cross_79 : decode cX8_cross 79 = .ok (.iadd, 1) := dk_96 (dk_at dksX8_cross_3 9 rfl rfl)
theorem dX8_cross_80 : decode cX8_cross 80 = .ok (.putfield 161, 3) := dk_181 0 161 (dk_at dksX8_cross_3 10 rfl rfl)
theorem dX8_cross_83 : decode cX8_cross 83 = .ok (.goto (-24), 3) := dk_167 255 232 (dk_at dksX8_cross_3 13 rfl rfl)
theorem dX8_cross_86 : decode cX8_cross 86 = .ok (.iload 4, 2) := dk_21 4 (dk_at dksX8_cross_3 16 rfl rfl)
theorem dX8_cross_88 : decode cX8_cross 88 = .ok (.ifCond .eq 6, 3) := dk_153 0 6 (dk_at dksX8_cross_3 18 rfl rfl)
theorem dX8_cross_91 : decode cX8_cross 91 = .ok (.iload 4, 2) := dk_21 4 (dk_at dksX8_cross_3 21 rfl rfl)
theorem dX8_cross_93 : decode cX8_cross 93 = .ok (.ireturn, 1) := dk_172 (dk_at dksX8_cross_3 23 rfl rfl)
theorem dX8_cross_94 : decode cX8_cross 94 = .ok (.aload_n 0, 1) := dk_42 (dk_at dksX8_cross_4 0 rfl rfl)
theorem dX8_cross_95 : decode cX8_cross 95 = .ok (.getfield 164, 3) := dk_180 0 164 (dk_at dksX8_cross_4 1 rfl rfl)
theorem dX8_cross_98 : decode cX8_cross 98 = .ok (.aload_n 0, 1) := dk_42 (dk_at dksX8_cross_4 4 rfl rfl)
theorem dX8_cross_99 : decode cX8_cross 99 = .ok (.getfield 385, 3) := dk_180 1 129 (dk_at dksX8_cross_4 5 rfl rfl)
theorem dX8_cross_102 : decode cX8_cross 102 = .ok (.iconst 1, 1) := dk_4 (dk_at dksX8_cross_4 8 rfl rfl)
theorem dX8_cross_103 : decode cX8_cross 103 = .ok (.iadd, 1) := dk_96 (dk_at dksX8_cross_4 9 rfl rfl)
theorem dX8_cross_104 : decode cX8_cross 104 = .ok (.aload_n 0, 1) := dk_42 (dk_at dksX8_cross_4 10 rfl rfl)
theorem dX8_cross_105 : decode cX8_cross 105 = .ok (.aload_n 0, 1) := dk_42 (dk_at dksX8_cross_4 11 rfl rfl)
theorem dX8_cross_106 : decode cX8_cross 106 = .ok (.getfield 164, 3) := dk_180 0 164 (dk_at dksX8_cross_4 12 rfl rfl)
theorem dX8_cross_109 : decode cX8_cross 109 = .ok (.aload_n 0, 1) := dk_42 (dk_at dksX8_cross_4 15 rfl rfl)
theorem dX8_cross_110 : decode cX8_cross 110 = .ok (.getfield 385, 3) := dk_180 1 129 (dk_at dksX8_cross_4 16 rfl rfl)
theorem dX8_cross_113 : decode cX8_cross 113 = .ok (.iaload, 1) := dk_46 (dk_at dksX8_cross_4 19 rfl rfl)
theorem dX8_cross_114 : decode cX8_cross 114 = .ok (.iload_n 1, 1) := dk_27 (dk_at dksX8_cross_4 20 rfl rfl)
theorem dX8_cross_115 : decode cX8_cross 115 = .ok (.iload_n 2, 1) := dk_28 (dk_at dksX8_cross_4 21 rfl rfl)
theorem dX8_cross_116 : decode cX8_cross 116 = .ok (.iload_n 3, 1) := dk_29 (dk_at dksX8_cross_4 22 rfl rfl)
theorem dX8_cross_117 : decode cX8_cross 117 = .ok (.invokevirtual 417, 3) := dk_182 1 161 (dk_at dksX8_cross_5 0 rfl rfl)
theorem dX8_cross_120 : decode cX8_cross 120 = .ok (.iastore, 1) := dk_79 (dk_at dksX8_cross_5 3 rfl rfl)
theorem dX8_cross_121 : decode cX8_cross 121 = .ok (.aload_n 0, 1) := dk_42 (dk_at dksX8_cross_5 4 rfl rfl)
theorem dX8_cross_122 : decode cX8_cross 122 = .ok (.getfield 167, 3) := dk_180 0 167 (dk_at dksX8_cross_5 5 rfl rfl)
theorem dX8_cross_125 : decode cX8_cross 125 = .ok (.aload_n 0, 1) := dk_42 (dk_at dksX8_cross_5 8 rfl rfl)
theorem dX8_cross_126 : decode cX8_cross 126 = .ok (.getfield 385, 3) := dk_180 1 129 (dk_at dksX8_cross_5 9 rfl rfl)
theorem dX8_cross_129 : decode cX8_cross 129 = .ok (.iconst 1, 1) := dk_4 (dk_at dksX8_cross_5 12 rfl rfl)
theorem dX8_cross_130 : decode cX8_cross 130 = .ok (.iadd, 1) := dk_96 (dk_at dksX8_cross_5 13 rfl rfl)
theorem dX8_cross_131 : decode cX8_cross 131 = .ok (.aload_n 0, 1) := dk_42 (dk_at dksX8_cross_5 14 rfl rfl)
theorem dX8_cross_132 : decode cX8_cross 132 = .ok (.getfield 167, 3) := dk_180 0 167 (dk_at dksX8_cross_5 15 rfl rfl)
theorem dX8_cross_135 : decode cX8_cross 135 = .ok (.aload_n 0, 1) := dk_42 (dk_at dksX8_cross_5 18 rfl rfl)
theorem dX8_cross_136 : decode cX8_cross 136 = .ok (.getfield 385, 3) := dk_180 1 129 (dk_at dksX8_cross_5 19 rfl rfl)
theorem dX8_cross_139 : decode cX8_cross 139 = .ok (.iaload, 1) := dk_46 (dk_at dksX8_cross_5 22 rfl rfl)
theorem dX8_cross_140 : decode cX8_cross 140 = .ok (.aload_n 0, 1) := dk_42 (dk_at dksX8_cross_5 23 rfl rfl)
theorem dX8_cross_141 : decode cX8_cross 141 = .ok (.iload_n 3, 1) := dk_29 (dk_at dksX8_cross_6 0 rfl rfl)
theorem dX8_cross_142 : decode cX8_cross 142 = .ok (.invokevirtual 461, 3) := dk_182 1 205 (dk_at dksX8_cross_6 1 rfl rfl)
theorem dX8_cross_145 : decode cX8_cross 145 = .ok (.iadd, 1) := dk_96 (dk_at dksX8_cross_6 4 rfl rfl)
theorem dX8_cross_146 : decode cX8_cross 146 = .ok (.iastore, 1) := dk_79 (dk_at dksX8_cross_6 5 rfl rfl)
theorem dX8_cross_147 : decode cX8_cross 147 = .ok (.aload_n 0, 1) := dk_42 (dk_at dksX8_cross_6 6 rfl rfl)
theorem dX8_cross_148 : decode cX8_cross 148 = .ok (.dup, 1) := dk_89 (dk_at dksX8_cross_6 7 rfl rfl)
theorem dX8_cross_149 : decode cX8_cross 149 = .ok (.getfield 385, 3) := dk_180 1 129 (dk_at dksX8_cross_6 8 rfl rfl)
theorem dX8_cross_152 : decode cX8_cross 152 = .ok (.iconst 1, 1) := dk_4 (dk_at dksX8_cross_6 11 rfl rfl)
theorem dX8_cross_153 : decode cX8_cross 153 = .ok (.iadd, 1) := dk_96 (dk_at dksX8_cross_6 12 rfl rfl)
theorem dX8_cross_154 : decode cX8_cross 154 = .ok (.putfield 385, 3) := dk_181 1 129 (dk_at dksX8_cross_6 13 rfl rfl)
theorem dX8_cross_157 : decode cX8_cross 157 = .ok (.iconst 0, 1) := dk_3 (dk_at dksX8_cross_6 16 rfl rfl)
theorem dX8_cross_158 : decode cX8_cross 158 = .ok (.ireturn, 1) := dk_172 (dk_at dksX8_cross_6 17 rfl rfl)
abbrev cX8_judges : ByteArray := prog_19_method_65_code
def yX8_judges : MethodName := ⟨RX8, "judges", "(IIII)I"⟩
def dkwX8_judges_4 : List UInt8 := [182, 1, 154, 181, 1, 145, 42, 180, 1, 145, 153, 0, 8, 16, 8, 167, 0, 4, 3, 172]
abbrev dktX8_judges_4 : List UInt8 := dkwX8_judges_4 ++ []
def dkwX8_judges_3 : List UInt8 := [180, 1, 145, 153, 0, 6, 16, 7, 172, 42, 42, 42, 27, 28, 29, 21, 4, 182, 1, 161, 3, 3, 3]
abbrev dktX8_judges_3 : List UInt8 := dkwX8_judges_3 ++ dktX8_judges_4
def dkwX8_judges_2 : List UInt8 := [172, 42, 42, 21, 4, 182, 1, 158, 42, 27, 21, 4, 4, 28, 120, 4, 182, 1, 154, 128, 181, 1, 145, 42]
abbrev dktX8_judges_2 : List UInt8 := dkwX8_judges_2 ++ dktX8_judges_3
def dkwX8_judges_1 : List UInt8 := [42, 42, 42, 182, 1, 151, 3, 3, 3, 182, 1, 154, 181, 1, 145, 42, 180, 1, 145, 153, 0, 6, 16, 7]
abbrev dktX8_judges_1 : List UInt8 := dkwX8_judges_1 ++ dktX8_judges_2
def dkwX8_judges_0 : List UInt8 := [42, 3, 181, 1, 145, 42, 27, 28, 29, 21, 4, 182, 1, 148, 54, 5, 21, 5, 153, 0, 6, 21, 5, 172]
abbrev dktX8_judges_0 : List UInt8 := dkwX8_judges_0 ++ dktX8_judges_1
theorem dksX8_judges_0 : cX8_judges.data.toList.drop 0 = dktX8_judges_0 := by decide +kernel
theorem dksX8_judges_1 : cX8_judges.data.toList.drop 24 = dktX8_judges_1 := dk_seg dksX8_judges_0 24 rfl rfl
theorem dksX8_judges_2 : cX8_judges.data.toList.drop 48 = dktX8_judges_2 := dk_seg dksX8_judges_1 24 rfl rfl
theorem dksX8_judges_3 : cX8_judges.data.toList.drop 72 = dktX8_judges_3 := dk_seg dksX8_judges_2 24 rfl rfl
theorem dksX8_judges_4 : cX8_judges.data.toList.drop 95 = dktX8_judges_4 := dk_seg dksX8_judges_3 23 rfl rfl
theorem dX8_judges_0 : decode cX8_judges 0 = .ok (.aload_n 0, 1) := dk_42 (dk_at dksX8_judges_0 0 rfl rfl)
theorem dX8_judges_1 : decode cX8_judges 1 = .ok (.iconst 0, 1) := dk_3 (dk_at dksX8_judges_0 1 rfl rfl)
theorem dX8_judges_2 : decode cX8_judges 2 = .ok (.putfield 401, 3) := dk_181 1 145 (dk_at dksX8_judges_0 2 rfl rfl)
theorem dX8_judges_5 : decode cX8_judges 5 = .ok (.aload_n 0, 1) := dk_42 (dk_at dksX8_judges_0 5 rfl rfl)
theorem dX8_judges_6 : decode cX8_judges 6 = .ok (.iload_n 1, 1) := dk_27 (dk_at dksX8_judges_0 6 rfl rfl)
theorem dX8_judges_7 : decode cX8_judges 7 = .ok (.iload_n 2, 1) := dk_28 (dk_at dksX8_judges_0 7 rfl rfl)
theorem dX8_judges_8 : decode cX8_judges 8 = .ok (.iload_n 3, 1) := dk_29 (dk_at dksX8_judges_0 8 rfl rfl)
theorem dX8_judges_9 : decode cX8_judges 9 = .ok (.iload 4, 2) := dk_21 4 (dk_at dksX8_judges_0 9 rfl rfl)
theorem dX8_judges_11 : decode cX8_judges 11 = .ok (.invokevirtual 404, 3) := dk_182 1 148 (dk_at dksX8_judges_0 11 rfl rfl)
theorem dX8_judges_14 : decode cX8_judges 14 = .ok (.istore 5, 2) := dk_54 5 (dk_at dksX8_judges_0 14 rfl rfl)
theorem dX8_judges_16 : decode cX8_judges 16 = .ok (.iload 5, 2) := dk_21 5 (dk_at dksX8_judges_0 16 rfl rfl)
theorem dX8_judges_18 : decode cX8_judges 18 = .ok (.ifCond .eq 6, 3) := dk_153 0 6 (dk_at dksX8_judges_0 18 rfl rfl)
theorem dX8_judges_21 : decode cX8_judges 21 = .ok (.iload 5, 2) := dk_21 5 (dk_at dksX8_judges_0 21 rfl rfl)
theorem dX8_judges_23 : decode cX8_judges 23 = .ok (.ireturn, 1) := dk_172 (dk_at dksX8_judges_0 23 rfl rfl)
theorem dX8_judges_24 : decode cX8_judges 24 = .ok (.aload_n 0, 1) := dk_42 (dk_at dksX8_judges_1 0 rfl rfl)
theorem dX8_judges_25 : decode cX8_judges 25 = .ok (.aload_n 0, 1) := dk_42 (dk_at dksX8_judges_1 1 rfl rfl)
theorem dX8_judges_26 : decode cX8_judges 26 = .ok (.aload_n 0, 1) := dk_42 (dk_at dksX8_judges_1 2 rfl rfl)
theorem dX8_judges_27 : decode cX8_judges 27 = .ok (.invokevirtual 407, 3) := dk_182 1 151 (dk_at dksX8_judges_1 3 rfl rfl)
theorem dX8_judges_30 : decode cX8_judges 30 = .ok (.iconst 0, 1) := dk_3 (dk_at dksX8_judges_1 6 rfl rfl)
theorem dX8_judges_31 : decode cX8_judges 31 = .ok (.iconst 0, 1) := dk_3 (dk_at dksX8_judges_1 7 rfl rfl)
theorem dX8_judges_32 : decode cX8_judges 32 = .ok (.iconst 0, 1) := dk_3 (dk_at dksX8_judges_1 8 rfl rfl)
theorem dX8_judges_33 : decode cX8_judges 33 = .ok (.invokevirtual 410, 3) := dk_182 1 154 (dk_at dksX8_judges_1 9 rfl rfl)
theorem dX8_judges_36 : decode cX8_judges 36 = .ok (.putfield 401, 3) := dk_181 1 145 (dk_at dksX8_judges_1 12 rfl rfl)
theorem dX8_judges_39 : decode cX8_judges 39 = .ok (.aload_n 0, 1) := dk_42 (dk_at dksX8_judges_1 15 rfl rfl)
theorem dX8_judges_40 : decode cX8_judges 40 = .ok (.getfield 401, 3) := dk_180 1 145 (dk_at dksX8_judges_1 16 rfl rfl)
theorem dX8_judges_43 : decode cX8_judges 43 = .ok (.ifCond .eq 6, 3) := dk_153 0 6 (dk_at dksX8_judges_1 19 rfl rfl)
theorem dX8_judges_46 : decode cX8_judges 46 = .ok (.bipush 7, 2) := dk_16 7 (dk_at dksX8_judges_1 22 rfl rfl)
theorem dX8_judges_48 : decode cX8_judges 48 = .ok (.ireturn, 1) := dk_172 (dk_at dksX8_judges_2 0 rfl rfl)
theorem dX8_judges_49 : decode cX8_judges 49 = .ok (.aload_n 0, 1) := dk_42 (dk_at dksX8_judges_2 1 rfl rfl)
theorem dX8_judges_50 : decode cX8_judges 50 = .ok (.aload_n 0, 1) := dk_42 (dk_at dksX8_judges_2 2 rfl rfl)
theorem dX8_judges_51 : decode cX8_judges 51 = .ok (.iload 4, 2) := dk_21 4 (dk_at dksX8_judges_2 3 rfl rfl)
theorem dX8_judges_53 : decode cX8_judges 53 = .ok (.invokevirtual 414, 3) := dk_182 1 158 (dk_at dksX8_judges_2 5 rfl rfl)
theorem dX8_judges_56 : decode cX8_judges 56 = .ok (.aload_n 0, 1) := dk_42 (dk_at dksX8_judges_2 8 rfl rfl)
theorem dX8_judges_57 : decode cX8_judges 57 = .ok (.iload_n 1, 1) := dk_27 (dk_at dksX8_judges_2 9 rfl rfl)
theorem dX8_judges_58 : decode cX8_judges 58 = .ok (.iload 4, 2) := dk_21 4 (dk_at dksX8_judges_2 10 rfl rfl)
theorem dX8_judges_60 : decode cX8_judges 60 = .ok (.iconst 1, 1) := dk_4 (dk_at dksX8_judges_2 12 rfl rfl)
theorem dX8_judges_61 : decode cX8_judges 61 = .ok (.iload_n 2, 1) := dk_28 (dk_at dksX8_judges_2 13 rfl rfl)
theorem dX8_judges_62 : decode cX8_judges 62 = .ok (.ishl, 1) := dk_120 (dk_at dksX8_judges_2 14 rfl rfl)
theorem dX8_judges_63 : decode cX8_judges 63 = .ok (.iconst 1, 1) := dk_4 (dk_at dksX8_judges_2 15 rfl rfl)
theorem dX8_judges_64 : decode cX8_judges 64 = .ok (.invokevirtual 410, 3) := dk_182 1 154 (dk_at dksX8_judges_2 16 rfl rfl)
theorem dX8_judges_67 : decode cX8_judges 67 = .ok (.ior, 1) := dk_128 (dk_at dksX8_judges_2 19 rfl rfl)
theorem dX8_judges_68 : decode cX8_judges 68 = .ok (.putfield 401, 3) := dk_181 1 145 (dk_at dksX8_judges_2 20 rfl rfl)
theorem dX8_judges_71 : decode cX8_judges 71 = .ok (.aload_n 0, 1) := dk_42 (dk_at dksX8_judges_2 23 rfl rfl)
theorem dX8_judges_72 : decode cX8_judges 72 = .ok (.getfield 401, 3) := dk_180 1 145 (dk_at dksX8_judges_3 0 rfl rfl)
theorem dX8_judges_75 : decode cX8_judges 75 = .ok (.ifCond .eq 6, 3) := dk_153 0 6 (dk_at dksX8_judges_3 3 rfl rfl)
theorem dX8_judges_78 : decode cX8_judges 78 = .ok (.bipush 7, 2) := dk_16 7 (dk_at dksX8_judges_3 6 rfl rfl)
theorem dX8_judges_80 : decode cX8_judges 80 = .ok (.ireturn, 1) := dk_172 (dk_at dksX8_judges_3 8 rfl rfl)
theorem dX8_judges_81 : decode cX8_judges 81 = .ok (.aload_n 0, 1) := dk_42 (dk_at dksX8_judges_3 9 rfl rfl)
theorem dX8_judges_82 : decode cX8_judges 82 = .ok (.aload_n 0, 1) := dk_42 (dk_at dksX8_judges_3 10 rfl rfl)
theorem dX8_judges_83 : decode cX8_judges 83 = .ok (.aload_n 0, 1) := dk_42 (dk_at dksX8_judges_3 11 rfl rfl)
theorem dX8_judges_84 : decode cX8_judges 84 = .ok (.iload_n 1, 1) := dk_27 (dk_at dksX8_judges_3 12 rfl rfl)
theorem dX8_judges_85 : decode cX8_judges 85 = .ok (.iload_n 2, 1) := dk_28 (dk_at dksX8_judges_3 13 rfl rfl)
theorem dX8_judges_86 : decode cX8_judges 86 = .ok (.iload_n 3, 1) := dk_29 (dk_at dksX8_judges_3 14 rfl rfl)
theorem dX8_judges_87 : decode cX8_judges 87 = .ok (.iload 4, 2) := dk_21 4 (dk_at dksX8_judges_3 15 rfl rfl)
theorem dX8_judges_89 : decode cX8_judges 89 = .ok (.invokevirtual 417, 3) := dk_182 1 161 (dk_at dksX8_judges_3 17 rfl rfl)
theorem dX8_judges_92 : decode cX8_judges 92 = .ok (.iconst 0, 1) := dk_3 (dk_at dksX8_judges_3 20 rfl rfl)
theorem dX8_judges_93 : decode cX8_judges 93 = .ok (.iconst 0, 1) := dk_3 (dk_at dksX8_judges_3 21 rfl rfl)
theorem dX8_judges_94 : decode cX8_judges 94 = .ok (.iconst 0, 1) := dk_3 (dk_at dksX8_judges_3 22 rfl rfl)
theorem dX8_judges_95 : decode cX8_judges 95 = .ok (.invokevirtual 410, 3) := dk_182 1 154 (dk_at dksX8_judges_4 0 rfl rfl)
theorem dX8_judges_98 : decode cX8_judges 98 = .ok (.putfield 401, 3) := dk_181 1 145 (dk_at dksX8_judges_4 3 rfl rfl)
theorem dX8_judges_101 : decode cX8_judges 101 = .ok (.aload_n 0, 1) := dk_42 (dk_at dksX8_judges_4 6 rfl rfl)
theorem dX8_judges_102 : decode cX8_judges 102 = .ok (.getfield 401, 3) := dk_180 1 145 (dk_at dksX8_judges_4 7 rfl rfl)
theorem dX8_judges_105 : decode cX8_judges 105 = .ok (.ifCond .eq 8, 3) := dk_153 0 8 (dk_at dksX8_judges_4 10 rfl rfl)
theorem dX8_judges_108 : decode cX8_judges 108 = .ok (.bipush 8, 2) := dk_16 8 (dk_at dksX8_judges_4 13 rfl rfl)
theorem dX8_judges_110 : decode cX8_judges 110 = .ok (.goto 4, 3) := dk_167 0 4 (dk_at dksX8_judges_4 15 rfl rfl)
theorem dX8_judges_113 : decode cX8_judges 113 = .ok (.iconst 0, 1) := dk_3 (dk_at dksX8_judges_4 18 rfl rfl)
theorem dX8_judges_114 : decode cX8_judges 114 = .ok (.ireturn, 1) := dk_172 (dk_at dksX8_judges_4 19 rfl rfl)
abbrev cX8_bare : ByteArray := prog_19_method_63_code
def yX8_bare : MethodName := ⟨RX8, "bare", "(IIII)I"⟩
def dkwX8_bare_5 : List UInt8 := [159, 0, 19, 27, 16, 20, 122, 6, 126, 21, 5, 159, 0, 8, 16, 6, 167, 0, 4, 3, 172]
abbrev dktX8_bare_5 : List UInt8 := dkwX8_bare_5 ++ []
def dkwX8_bare_4 : List UInt8 := [180, 0, 16, 182, 1, 97, 42, 180, 0, 29, 28, 46, 164, 0, 5, 8, 172, 42, 180, 0, 13, 2]
abbrev dktX8_bare_4 : List UInt8 := dkwX8_bare_4 ++ dktX8_bare_5
def dkwX8_bare_3 : List UInt8 := [6, 172, 21, 4, 184, 1, 94, 42, 180, 0, 26, 28, 46, 164, 0, 5, 7, 172, 42, 21, 4, 42]
abbrev dktX8_bare_3 : List UInt8 := dkwX8_bare_3 ++ dktX8_bare_4
def dkwX8_bare_2 : List UInt8 := [42, 27, 21, 5, 182, 1, 135, 2, 130, 126, 153, 0, 5, 5, 172, 42, 21, 4, 182, 1, 101, 154, 0, 5]
abbrev dktX8_bare_2 : List UInt8 := dkwX8_bare_2 ++ dktX8_bare_3
def dkwX8_bare_1 : List UInt8 := [42, 27, 28, 184, 1, 138, 29, 182, 1, 132, 154, 0, 5, 4, 172, 27, 28, 184, 1, 138, 54, 5, 21, 4]
abbrev dktX8_bare_1 : List UInt8 := dkwX8_bare_1 ++ dktX8_bare_2
def dkwX8_bare_0 : List UInt8 := [28, 155, 0, 36, 28, 42, 180, 1, 85, 162, 0, 28, 29, 155, 0, 24, 29, 42, 180, 0, 7, 162, 0, 16]
abbrev dktX8_bare_0 : List UInt8 := dkwX8_bare_0 ++ dktX8_bare_1
theorem dksX8_bare_0 : cX8_bare.data.toList.drop 0 = dktX8_bare_0 := by decide +kernel
theorem dksX8_bare_1 : cX8_bare.data.toList.drop 24 = dktX8_bare_1 := dk_seg dksX8_bare_0 24 rfl rfl
theorem dksX8_bare_2 : cX8_bare.data.toList.drop 48 = dktX8_bare_2 := dk_seg dksX8_bare_1 24 rfl rfl
theorem dksX8_bare_3 : cX8_bare.data.toList.drop 72 = dktX8_bare_3 := dk_seg dksX8_bare_2 24 rfl rfl
theorem dksX8_bare_4 : cX8_bare.data.toList.drop 94 = dktX8_bare_4 := dk_seg dksX8_bare_3 22 rfl rfl
theorem dksX8_bare_5 : cX8_bare.data.toList.drop 116 = dktX8_bare_5 := dk_seg dksX8_bare_4 22 rfl rfl
theorem dX8_bare_0 : decode cX8_bare 0 = .ok (.iload_n 2, 1) := dk_28 (dk_at dksX8_bare_0 0 rfl rfl)
theorem dX8_bare_1 : decode cX8_bare 1 = .ok (.ifCond .lt 36, 3) := dk_155 0 36 (dk_at dksX8_bare_0 1 rfl rfl)
theorem dX8_bare_4 : decode cX8_bare 4 = .ok (.iload_n 2, 1) := dk_28 (dk_at dksX8_bare_0 4 rfl rfl)
theorem dX8_bare_5 : decode cX8_bare 5 = .ok (.aload_n 0, 1) := dk_42 (dk_at dksX8_bare_0 5 rfl rfl)
theorem dX8_bare_6 : decode cX8_bare 6 = .ok (.getfield 341, 3) := dk_180 1 85 (dk_at dksX8_bare_0 6 rfl rfl)
theorem dX8_bare_9 : decode cX8_bare 9 = .ok (.if_icmp .ge 28, 3) := dk_162 0 28 (dk_at dksX8_bare_0 9 rfl rfl)
theorem dX8_bare_12 : decode cX8_bare 12 = .ok (.iload_n 3, 1) := dk_29 (dk_at dksX8_bare_0 12 rfl rfl)
theorem dX8_bare_13 : decode cX8_bare 13 = .ok (.ifCond .lt 24, 3) := dk_155 0 24 (dk_at dksX8_bare_0 13 rfl rfl)
theorem dX8_bare_16 : decode cX8_bare 16 = .ok (.iload_n 3, 1) := dk_29 (dk_at dksX8_bare_0 16 rfl rfl)
theorem dX8_bare_17 : decode cX8_bare 17 = .ok (.aload_n 0, 1) := dk_42 (dk_at dksX8_bare_0 17 rfl rfl)
theorem dX8_bare_18 : decode cX8_bare 18 = .ok (.getfield 7, 3) := dk_180 0 7 (dk_at dksX8_bare_0 18 rfl rfl)
theorem dX8_bare_21 : decode cX8_bare 21 = .ok (.if_icmp .ge 16, 3) := dk_162 0 16 (dk_at dksX8_bare_0 21 rfl rfl)
theorem dX8_bare_24 : decode cX8_bare 24 = .ok (.aload_n 0, 1) := dk_42 (dk_at dksX8_bare_1 0 rfl rfl)
theorem dX8_bare_25 : decode cX8_bare 25 = .ok (.iload_n 1, 1) := dk_27 (dk_at dksX8_bare_1 1 rfl rfl)
theorem dX8_bare_26 : decode cX8_bare 26 = .ok (.iload_n 2, 1) := dk_28 (dk_at dksX8_bare_1 2 rfl rfl)
theorem dX8_bare_27 : decode cX8_bare 27 = .ok (.invokestatic 394, 3) := dk_184 1 138 (dk_at dksX8_bare_1 3 rfl rfl)
theorem dX8_bare_30 : decode cX8_bare 30 = .ok (.iload_n 3, 1) := dk_29 (dk_at dksX8_bare_1 6 rfl rfl)
theorem dX8_bare_31 : decode cX8_bare 31 = .ok (.invokevirtual 388, 3) := dk_182 1 132 (dk_at dksX8_bare_1 7 rfl rfl)
theorem dX8_bare_34 : decode cX8_bare 34 = .ok (.ifCond .ne 5, 3) := dk_154 0 5 (dk_at dksX8_bare_1 10 rfl rfl)
theorem dX8_bare_37 : decode cX8_bare 37 = .ok (.iconst 1, 1) := dk_4 (dk_at dksX8_bare_1 13 rfl rfl)
theorem dX8_bare_38 : decode cX8_bare 38 = .ok (.ireturn, 1) := dk_172 (dk_at dksX8_bare_1 14 rfl rfl)
theorem dX8_bare_39 : decode cX8_bare 39 = .ok (.iload_n 1, 1) := dk_27 (dk_at dksX8_bare_1 15 rfl rfl)
theorem dX8_bare_40 : decode cX8_bare 40 = .ok (.iload_n 2, 1) := dk_28 (dk_at dksX8_bare_1 16 rfl rfl)
theorem dX8_bare_41 : decode cX8_bare 41 = .ok (.invokestatic 394, 3) := dk_184 1 138 (dk_at dksX8_bare_1 17 rfl rfl)
theorem dX8_bare_44 : decode cX8_bare 44 = .ok (.istore 5, 2) := dk_54 5 (dk_at dksX8_bare_1 20 rfl rfl)
theorem dX8_bare_46 : decode cX8_bare 46 = .ok (.iload 4, 2) := dk_21 4 (dk_at dksX8_bare_1 22 rfl rfl)
theorem dX8_bare_48 : decode cX8_bare 48 = .ok (.aload_n 0, 1) := dk_42 (dk_at dksX8_bare_2 0 rfl rfl)
theorem dX8_bare_49 : decode cX8_bare 49 = .ok (.iload_n 1, 1) := dk_27 (dk_at dksX8_bare_2 1 rfl rfl)
theorem dX8_bare_50 : decode cX8_bare 50 = .ok (.iload 5, 2) := dk_21 5 (dk_at dksX8_bare_2 2 rfl rfl)
theorem dX8_bare_52 : decode cX8_bare 52 = .ok (.invokevirtual 391, 3) := dk_182 1 135 (dk_at dksX8_bare_2 4 rfl rfl)
theorem dX8_bare_55 : decode cX8_bare 55 = .ok (.iconst (-1), 1) := dk_2 (dk_at dksX8_bare_2 7 rfl rfl)
theorem dX8_bare_56 : decode cX8_bare 56 = .ok (.ixor, 1) := dk_130 (dk_at dksX8_bare_2 8 rfl rfl)
theorem dX8_bare_57 : decode cX8_bare 57 = .ok (.iand, 1) := dk_126 (dk_at dksX8_bare_2 9 rfl rfl)
theorem dX8_bare_58 : decode cX8_bare 58 = .ok (.ifCond .eq 5, 3) := dk_153 0 5 (dk_at dksX8_bare_2 10 rfl rfl)
theorem dX8_bare_61 : decode cX8_bare 61 = .ok (.iconst 2, 1) := dk_5 (dk_at dksX8_bare_2 13 rfl rfl)
theorem dX8_bare_62 : decode cX8_bare 62 = .ok (.ireturn, 1) := dk_172 (dk_at dksX8_bare_2 14 rfl rfl)
theorem dX8_bare_63 : decode cX8_bare 63 = .ok (.aload_n 0, 1) := dk_42 (dk_at dksX8_bare_2 15 rfl rfl)
theorem dX8_bare_64 : decode cX8_bare 64 = .ok (.iload 4, 2) := dk_21 4 (dk_at dksX8_bare_2 16 rfl rfl)
theorem dX8_bare_66 : decode cX8_bare 66 = .ok (.invokevirtual 357, 3) := dk_182 1 101 (dk_at dksX8_bare_2 18 rfl rfl)
theorem dX8_bare_69 : decode cX8_bare 69 = .ok (.ifCond .ne 5, 3) := dk_154 0 5 (dk_at dksX8_bare_2 21 rfl rfl)
theorem dX8_bare_72 : decode cX8_bare 72 = .ok (.iconst 3, 1) := dk_6 (dk_at dksX8_bare_3 0 rfl rfl)
theorem dX8_bare_73 : decode cX8_bare 73 = .ok (.ireturn, 1) := dk_172 (dk_at dksX8_bare_3 1 rfl rfl)
theorem dX8_bare_74 : decode cX8_bare 74 = .ok (.iload 4, 2) := dk_21 4 (dk_at dksX8_bare_3 2 rfl rfl)
theorem dX8_bare_76 : decode cX8_bare 76 = .ok (.invokestatic 350, 3) := dk_184 1 94 (dk_at dksX8_bare_3 4 rfl rfl)
theorem dX8_bare_79 : decode cX8_bare 79 = .ok (.aload_n 0, 1) := dk_42 (dk_at dksX8_bare_3 7 rfl rfl)
theorem dX8_bare_80 : decode cX8_bare 80 = .ok (.getfield 26, 3) := dk_180 0 26 (dk_at dksX8_bare_3 8 rfl rfl)
theorem dX8_bare_83 : decode cX8_bare 83 = .ok (.iload_n 2, 1) := dk_28 (dk_at dksX8_bare_3 11 rfl rfl)
theorem dX8_bare_84 : decode cX8_bare 84 = .ok (.iaload, 1) := dk_46 (dk_at dksX8_bare_3 12 rfl rfl)
theorem dX8_bare_85 : decode cX8_bare 85 = .ok (.if_icmp .le 5, 3) := dk_164 0 5 (dk_at dksX8_bare_3 13 rfl rfl)
theorem dX8_bare_88 : decode cX8_bare 88 = .ok (.iconst 4, 1) := dk_7 (dk_at dksX8_bare_3 16 rfl rfl)
theorem dX8_bare_89 : decode cX8_bare 89 = .ok (.ireturn, 1) := dk_172 (dk_at dksX8_bare_3 17 rfl rfl)
theorem dX8_bare_90 : decode cX8_bare 90 = .ok (.aload_n 0, 1) := dk_42 (dk_at dksX8_bare_3 18 rfl rfl)
theorem dX8_bare_91 : decode cX8_bare 91 = .ok (.iload 4, 2) := dk_21 4 (dk_at dksX8_bare_3 19 rfl rfl)
theorem dX8_bare_93 : decode cX8_bare 93 = .ok (.aload_n 0, 1) := dk_42 (dk_at dksX8_bare_3 21 rfl rfl)
theorem dX8_bare_94 : decode cX8_bare 94 = .ok (.getfield 16, 3) := dk_180 0 16 (dk_at dksX8_bare_4 0 rfl rfl)
theorem dX8_bare_97 : decode cX8_bare 97 = .ok (.invokevirtual 353, 3) := dk_182 1 97 (dk_at dksX8_bare_4 3 rfl rfl)
theorem dX8_bare_100 : decode cX8_bare 100 = .ok (.aload_n 0, 1) := dk_42 (dk_at dksX8_bare_4 6 rfl rfl)
theorem dX8_bare_101 : decode cX8_bare 101 = .ok (.getfield 29, 3) := dk_180 0 29 (dk_at dksX8_bare_4 7 rfl rfl)
theorem dX8_bare_104 : decode cX8_bare 104 = .ok (.iload_n 2, 1) := dk_28 (dk_at dksX8_bare_4 10 rfl rfl)
theorem dX8_bare_105 : decode cX8_bare 105 = .ok (.iaload, 1) := dk_46 (dk_at dksX8_bare_4 11 rfl rfl)
theorem dX8_bare_106 : decode cX8_bare 106 = .ok (.if_icmp .le 5, 3) := dk_164 0 5 (dk_at dksX8_bare_4 12 rfl rfl)
theorem dX8_bare_109 : decode cX8_bare 109 = .ok (.iconst 5, 1) := dk_8 (dk_at dksX8_bare_4 15 rfl rfl)
theorem dX8_bare_110 : decode cX8_bare 110 = .ok (.ireturn, 1) := dk_172 (dk_at dksX8_bare_4 16 rfl rfl)
theorem dX8_bare_111 : decode cX8_bare 111 = .ok (.aload_n 0, 1) := dk_42 (dk_at dksX8_bare_4 17 rfl rfl)
theorem dX8_bare_112 : decode cX8_bare 112 = .ok (.getfield 13, 3) := dk_180 0 13 (dk_at dksX8_bare_4 18 rfl rfl)
theorem dX8_bare_115 : decode cX8_bare 115 = .ok (.iconst (-1), 1) := dk_2 (dk_at dksX8_bare_4 21 rfl rfl)
theorem dX8_bare_116 : decode cX8_bare 116 = .ok (.if_icmp .eq 19, 3) := dk_159 0 19 (dk_at dksX8_bare_5 0 rfl rfl)
theorem dX8_bare_119 : decode cX8_bare 119 = .ok (.iload_n 1, 1) := dk_27 (dk_at dksX8_bare_5 3 rfl rfl)
theorem dX8_bare_120 : decode cX8_bare 120 = .ok (.bipush 20, 2) := dk_16 20 (dk_at dksX8_bare_5 4 rfl rfl)
theorem dX8_bare_122 : decode cX8_bare 122 = .ok (.ishr, 1) := dk_122 (dk_at dksX8_bare_5 6 rfl rfl)
theorem dX8_bare_123 : decode cX8_bare 123 = .ok (.iconst 3, 1) := dk_6 (dk_at dksX8_bare_5 7 rfl rfl)
theorem dX8_bare_124 : decode cX8_bare 124 = .ok (.iand, 1) := dk_126 (dk_at dksX8_bare_5 8 rfl rfl)
theorem dX8_bare_125 : decode cX8_bare 125 = .ok (.iload 5, 2) := dk_21 5 (dk_at dksX8_bare_5 9 rfl rfl)
theorem dX8_bare_127 : decode cX8_bare 127 = .ok (.if_icmp .eq 8, 3) := dk_159 0 8 (dk_at dksX8_bare_5 11 rfl rfl)
theorem dX8_bare_130 : decode cX8_bare 130 = .ok (.bipush 6, 2) := dk_16 6 (dk_at dksX8_bare_5 14 rfl rfl)
theorem dX8_bare_132 : decode cX8_bare 132 = .ok (.goto 4, 3) := dk_167 0 4 (dk_at dksX8_bare_5 16 rfl rfl)
theorem dX8_bare_135 : decode cX8_bare 135 = .ok (.iconst 0, 1) := dk_3 (dk_at dksX8_bare_5 19 rfl rfl)
theorem dX8_bare_136 : decode cX8_bare 136 = .ok (.ireturn, 1) := dk_172 (dk_at dksX8_bare_5 20 rfl rfl)
abbrev cX8_law : ByteArray := prog_19_method_98_code
def yX8_law : MethodName := ⟨RX8, "law", "()I"⟩
def dkwX8_law_0 : List UInt8 := [42, 3, 181, 0, 173, 42, 180, 0, 161, 172]
abbrev dktX8_law_0 : List UInt8 := dkwX8_law_0 ++ []
theorem dksX8_law_0 : cX8_law.data.toList.drop 0 = dktX8_law_0 := by decide +kernel
theorem dX8_law_0 : decode cX8_law 0 = .ok (.aload_n 0, 1) := dk_42 (dk_at dksX8_law_0 0 rfl rfl)
theorem dX8_law_1 : decode cX8_law 1 = .ok (.iconst 0, 1) := dk_3 (dk_at dksX8_law_0 1 rfl rfl)
theorem dX8_law_2 : decode cX8_law 2 = .ok (.putfield 173, 3) := dk_181 0 173 (dk_at dksX8_law_0 2 rfl rfl)
theorem dX8_law_5 : decode cX8_law 5 = .ok (.aload_n 0, 1) := dk_42 (dk_at dksX8_law_0 5 rfl rfl)
theorem dX8_law_6 : decode cX8_law 6 = .ok (.getfield 161, 3) := dk_180 0 161 (dk_at dksX8_law_0 6 rfl rfl)
theorem dX8_law_9 : decode cX8_law 9 = .ok (.ireturn, 1) := dk_172 (dk_at dksX8_law_0 9 rfl rfl)
abbrev cX8_back : ByteArray := prog_19_method_99_code
def yX8_back : MethodName := ⟨RX8, "back", "()I"⟩
def dkwX8_back_1 : List UInt8 := [42, 180, 1, 129, 172]
abbrev dktX8_back_1 : List UInt8 := dkwX8_back_1 ++ []
def dkwX8_back_0 : List UInt8 := [42, 3, 181, 0, 173, 42, 180, 1, 129, 154, 0, 5, 2, 172, 42, 89, 180, 1, 129, 4, 100, 181, 1, 129]
abbrev dktX8_back_0 : List UInt8 := dkwX8_back_0 ++ dktX8_back_1
theorem dksX8_back_0 : cX8_back.data.toList.drop 0 = dktX8_back_0 := by decide +kernel
theorem dksX8_back_1 : cX8_back.data.toList.drop 24 = dktX8_back_1 := dk_seg dksX8_back_0 24 rfl rfl
theorem dX8_back_0 : decode cX8_back 0 = .ok (.aload_n 0, 1) := dk_42 (dk_at dksX8_back_0 0 rfl rfl)
theorem dX8_back_1 : decode cX8_back 1 = .ok (.iconst 0, 1) := dk_3 (dk_at dksX8_back_0 1 rfl rfl)
theorem dX8_back_2 : decode cX8_back 2 = .ok (.putfield 173, 3) := dk_181 0 173 (dk_at dksX8_back_0 2 rfl rfl)
theorem dX8_back_5 : decode cX8_back 5 = .ok (.aload_n 0, 1) := dk_42 (dk_at dksX8_back_0 5 rfl rfl)
theorem dX8_back_6 : decode cX8_back 6 = .ok (.getfield 385, 3) := dk_180 1 129 (dk_at dksX8_back_0 6 rfl rfl)
theorem dX8_back_9 : decode cX8_back 9 = .ok (.ifCond .ne 5, 3) := dk_154 0 5 (dk_at dksX8_back_0 9 rfl rfl)
theorem dX8_back_12 : decode cX8_back 12 = .ok (.iconst (-1), 1) := dk_2 (dk_at dksX8_back_0 12 rfl rfl)
theorem dX8_back_13 : decode cX8_back 13 = .ok (.ireturn, 1) := dk_172 (dk_at dksX8_back_0 13 rfl rfl)
theorem dX8_back_14 : decode cX8_back 14 = .ok (.aload_n 0, 1) := dk_42 (dk_at dksX8_back_0 14 rfl rfl)
theorem dX8_back_15 : decode cX8_back 15 = .ok (.dup, 1) := dk_89 (dk_at dksX8_back_0 15 rfl rfl)
theorem dX8_back_16 : decode cX8_back 16 = .ok (.getfield 385, 3) := dk_180 1 129 (dk_at dksX8_back_0 16 rfl rfl)
theorem dX8_back_19 : decode cX8_back 19 = .ok (.iconst 1, 1) := dk_4 (dk_at dksX8_back_0 19 rfl rfl)
theorem dX8_back_20 : decode cX8_back 20 = .ok (.isub, 1) := dk_100 (dk_at dksX8_back_0 20 rfl rfl)
theorem dX8_back_21 : decode cX8_back 21 = .ok (.putfield 385, 3) := dk_181 1 129 (dk_at dksX8_back_0 21 rfl rfl)
theorem dX8_back_24 : decode cX8_back 24 = .ok (.aload_n 0, 1) := dk_42 (dk_at dksX8_back_1 0 rfl rfl)
theorem dX8_back_25 : decode cX8_back 25 = .ok (.getfield 385, 3) := dk_180 1 129 (dk_at dksX8_back_1 1 rfl rfl)
theorem dX8_back_28 : decode cX8_back 28 = .ok (.ireturn, 1) := dk_172 (dk_at dksX8_back_1 4 rfl rfl)
abbrev cX8_play : ByteArray := prog_19_method_100_code
def yX8_play : MethodName := ⟨RX8, "play", "(I)I"⟩
def dkwX8_play_6 : List UInt8 := [184, 1, 138, 167, 0, 13, 29, 5, 27, 16, 8, 100, 104, 122, 6, 126, 172]
abbrev dktX8_play_6 : List UInt8 := dkwX8_play_6 ++ []
def dkwX8_play_5 : List UInt8 := [160, 0, 7, 2, 167, 0, 9, 29, 16, 20, 122, 6, 126, 172, 27, 16, 8, 162, 0, 13, 29, 27, 7, 100]
abbrev dktX8_play_5 : List UInt8 := dkwX8_play_5 ++ dktX8_play_6
def dkwX8_play_4 : List UInt8 := [42, 29, 182, 1, 187, 153, 0, 7, 4, 167, 0, 4, 3, 172, 27, 5, 160, 0, 22, 42, 180, 0, 13, 2]
abbrev dktX8_play_4 : List UInt8 := dkwX8_play_4 ++ dktX8_play_5
def dkwX8_play_3 : List UInt8 := [180, 1, 129, 46, 62, 27, 154, 0, 13, 42, 180, 0, 167, 42, 180, 1, 129, 46, 172, 27, 4, 160, 0, 17]
abbrev dktX8_play_3 : List UInt8 := dkwX8_play_3 ++ dktX8_play_4
def dkwX8_play_2 : List UInt8 := [4, 167, 0, 4, 3, 61, 42, 28, 4, 182, 1, 72, 154, 0, 5, 3, 172, 42, 180, 0, 164, 42]
abbrev dktX8_play_2 : List UInt8 := dkwX8_play_2 ++ dktX8_play_3
def dkwX8_play_1 : List UInt8 := [180, 1, 85, 96, 161, 0, 20, 27, 16, 8, 161, 0, 18, 27, 16, 8, 42, 180, 1, 82, 96, 162, 0, 7]
abbrev dktX8_play_1 : List UInt8 := dkwX8_play_1 ++ dktX8_play_2
def dkwX8_play_0 : List UInt8 := [42, 3, 181, 0, 173, 27, 3, 5, 184, 2, 13, 154, 0, 35, 27, 7, 161, 0, 13, 27, 7, 42]
abbrev dktX8_play_0 : List UInt8 := dkwX8_play_0 ++ dktX8_play_1
theorem dksX8_play_0 : cX8_play.data.toList.drop 0 = dktX8_play_0 := by decide +kernel
theorem dksX8_play_1 : cX8_play.data.toList.drop 22 = dktX8_play_1 := dk_seg dksX8_play_0 22 rfl rfl
theorem dksX8_play_2 : cX8_play.data.toList.drop 46 = dktX8_play_2 := dk_seg dksX8_play_1 24 rfl rfl
theorem dksX8_play_3 : cX8_play.data.toList.drop 68 = dktX8_play_3 := dk_seg dksX8_play_2 22 rfl rfl
theorem dksX8_play_4 : cX8_play.data.toList.drop 92 = dktX8_play_4 := dk_seg dksX8_play_3 24 rfl rfl
theorem dksX8_play_5 : cX8_play.data.toList.drop 116 = dktX8_play_5 := dk_seg dksX8_play_4 24 rfl rfl
theorem dksX8_play_6 : cX8_play.data.toList.drop 140 = dktX8_play_6 := dk_seg dksX8_play_5 24 rfl rfl
theorem dX8_play_0 : decode cX8_play 0 = .ok (.aload_n 0, 1) := dk_42 (dk_at dksX8_play_0 0 rfl rfl)
theorem dX8_play_1 : decode cX8_play 1 = .ok (.iconst 0, 1) := dk_3 (dk_at dksX8_play_0 1 rfl rfl)
theorem dX8_play_2 : decode cX8_play 2 = .ok (.putfield 173, 3) := dk_181 0 173 (dk_at dksX8_play_0 2 rfl rfl)
theorem dX8_play_5 : decode cX8_play 5 = .ok (.iload_n 1, 1) := dk_27 (dk_at dksX8_play_0 5 rfl rfl)
theorem dX8_play_6 : decode cX8_play 6 = .ok (.iconst 0, 1) := dk_3 (dk_at dksX8_play_0 6 rfl rfl)
theorem dX8_play_7 : decode cX8_play 7 = .ok (.iconst 2, 1) := dk_5 (dk_at dksX8_play_0 7 rfl rfl)
theorem dX8_play_8 : decode cX8_play 8 = .ok (.invokestatic 525, 3) := dk_184 2 13 (dk_at dksX8_play_0 8 rfl rfl)
theorem dX8_play_11 : decode cX8_play 11 = .ok (.ifCond .ne 35, 3) := dk_154 0 35 (dk_at dksX8_play_0 11 rfl rfl)
theorem dX8_play_14 : decode cX8_play 14 = .ok (.iload_n 1, 1) := dk_27 (dk_at dksX8_play_0 14 rfl rfl)
theorem dX8_play_15 : decode cX8_play 15 = .ok (.iconst 4, 1) := dk_7 (dk_at dksX8_play_0 15 rfl rfl)
theorem dX8_play_16 : decode cX8_play 16 = .ok (.if_icmp .lt 13, 3) := dk_161 0 13 (dk_at dksX8_play_0 16 rfl rfl)
theorem dX8_play_19 : decode cX8_play 19 = .ok (.iload_n 1, 1) := dk_27 (dk_at dksX8_play_0 19 rfl rfl)
theorem dX8_play_20 : decode cX8_play 20 = .ok (.iconst 4, 1) := dk_7 (dk_at dksX8_play_0 20 rfl rfl)
theorem dX8_play_21 : decode cX8_play 21 = .ok (.aload_n 0, 1) := dk_42 (dk_at dksX8_play_0 21 rfl rfl)
theorem dX8_play_22 : decode cX8_play 22 = .ok (.getfield 341, 3) := dk_180 1 85 (dk_at dksX8_play_1 0 rfl rfl)
theorem dX8_play_25 : decode cX8_play 25 = .ok (.iadd, 1) := dk_96 (dk_at dksX8_play_1 3 rfl rfl)
theorem dX8_play_26 : decode cX8_play 26 = .ok (.if_icmp .lt 20, 3) := dk_161 0 20 (dk_at dksX8_play_1 4 rfl rfl)
theorem dX8_play_29 : decode cX8_play 29 = .ok (.iload_n 1, 1) := dk_27 (dk_at dksX8_play_1 7 rfl rfl)
theorem dX8_play_30 : decode cX8_play 30 = .ok (.bipush 8, 2) := dk_16 8 (dk_at dksX8_play_1 8 rfl rfl)
theorem dX8_play_32 : decode cX8_play 32 = .ok (.if_icmp .lt 18, 3) := dk_161 0 18 (dk_at dksX8_play_1 10 rfl rfl)
theorem dX8_play_35 : decode cX8_play 35 = .ok (.iload_n 1, 1) := dk_27 (dk_at dksX8_play_1 13 rfl rfl)
theorem dX8_play_36 : decode cX8_play 36 = .ok (.bipush 8, 2) := dk_16 8 (dk_at dksX8_play_1 14 rfl rfl)
theorem dX8_play_38 : decode cX8_play 38 = .ok (.aload_n 0, 1) := dk_42 (dk_at dksX8_play_1 16 rfl rfl)
theorem dX8_play_39 : decode cX8_play 39 = .ok (.getfield 338, 3) := dk_180 1 82 (dk_at dksX8_play_1 17 rfl rfl)
theorem dX8_play_42 : decode cX8_play 42 = .ok (.iadd, 1) := dk_96 (dk_at dksX8_play_1 20 rfl rfl)
theorem dX8_play_43 : decode cX8_play 43 = .ok (.if_icmp .ge 7, 3) := dk_162 0 7 (dk_at dksX8_play_1 21 rfl rfl)
theorem dX8_play_46 : decode cX8_play 46 = .ok (.iconst 1, 1) := dk_4 (dk_at dksX8_play_2 0 rfl rfl)
theorem dX8_play_47 : decode cX8_play 47 = .ok (.goto 4, 3) := dk_167 0 4 (dk_at dksX8_play_2 1 rfl rfl)
theorem dX8_play_50 : decode cX8_play 50 = .ok (.iconst 0, 1) := dk_3 (dk_at dksX8_play_2 4 rfl rfl)
theorem dX8_play_51 : decode cX8_play 51 = .ok (.istore_n 2, 1) := dk_61 (dk_at dksX8_play_2 5 rfl rfl)
theorem dX8_play_52 : decode cX8_play 52 = .ok (.aload_n 0, 1) := dk_42 (dk_at dksX8_play_2 6 rfl rfl)
theorem dX8_play_53 : decode cX8_play 53 = .ok (.iload_n 2, 1) := dk_28 (dk_at dksX8_play_2 7 rfl rfl)
theorem dX8_play_54 : decode cX8_play 54 = .ok (.iconst 1, 1) := dk_4 (dk_at dksX8_play_2 8 rfl rfl)
theorem dX8_play_55 : decode cX8_play 55 = .ok (.invokevirtual 328, 3) := dk_182 1 72 (dk_at dksX8_play_2 9 rfl rfl)
theorem dX8_play_58 : decode cX8_play 58 = .ok (.ifCond .ne 5, 3) := dk_154 0 5 (dk_at dksX8_play_2 12 rfl rfl)
theorem dX8_play_61 : decode cX8_play 61 = .ok (.iconst 0, 1) := dk_3 (dk_at dksX8_play_2 15 rfl rfl)
theorem dX8_play_62 : decode cX8_play 62 = .ok (.ireturn, 1) := dk_172 (dk_at dksX8_play_2 16 rfl rfl)
theorem dX8_play_63 : decode cX8_play 63 = .ok (.aload_n 0, 1) := dk_42 (dk_at dksX8_play_2 17 rfl rfl)
theorem dX8_play_64 : decode cX8_play 64 = .ok (.getfield 164, 3) := dk_180 0 164 (dk_at dksX8_play_2 18 rfl rfl)
theorem dX8_play_67 : decode cX8_play 67 = .ok (.aload_n 0, 1) := dk_42 (dk_at dksX8_play_2 21 rfl rfl)
theorem dX8_play_68 : decode cX8_play 68 = .ok (.getfield 385, 3) := dk_180 1 129 (dk_at dksX8_play_3 0 rfl rfl)
theorem dX8_play_71 : decode cX8_play 71 = .ok (.iaload, 1) := dk_46 (dk_at dksX8_play_3 3 rfl rfl)
theorem dX8_play_72 : decode cX8_play 72 = .ok (.istore_n 3, 1) := dk_62 (dk_at dksX8_play_3 4 rfl rfl)
theorem dX8_play_73 : decode cX8_play 73 = .ok (.iload_n 1, 1) := dk_27 (dk_at dksX8_play_3 5 rfl rfl)
theorem dX8_play_74 : decode cX8_play 74 = .ok (.ifCond .ne 13, 3) := dk_154 0 13 (dk_at dksX8_play_3 6 rfl rfl)
theorem dX8_play_77 : decode cX8_play 77 = .ok (.aload_n 0, 1) := dk_42 (dk_at dksX8_play_3 9 rfl rfl)
theorem dX8_play_78 : decode cX8_play 78 = .ok (.getfield 167, 3) := dk_180 0 167 (dk_at dksX8_play_3 10 rfl rfl)
theorem dX8_play_81 : decode cX8_play 81 = .ok (.aload_n 0, 1) := dk_42 (dk_at dksX8_play_3 13 rfl rfl)
theorem dX8_play_82 : decode cX8_play 82 = .ok (.getfield 385, 3) := dk_180 1 129 (dk_at dksX8_play_3 14 rfl rfl)
theorem dX8_play_85 : decode cX8_play 85 = .ok (.iaload, 1) := dk_46 (dk_at dksX8_play_3 17 rfl rfl)
theorem dX8_play_86 : decode cX8_play 86 = .ok (.ireturn, 1) := dk_172 (dk_at dksX8_play_3 18 rfl rfl)
theorem dX8_play_87 : decode cX8_play 87 = .ok (.iload_n 1, 1) := dk_27 (dk_at dksX8_play_3 19 rfl rfl)
theorem dX8_play_88 : decode cX8_play 88 = .ok (.iconst 1, 1) := dk_4 (dk_at dksX8_play_3 20 rfl rfl)
theorem dX8_play_89 : decode cX8_play 89 = .ok (.if_icmp .ne 17, 3) := dk_160 0 17 (dk_at dksX8_play_3 21 rfl rfl)
theorem dX8_play_92 : decode cX8_play 92 = .ok (.aload_n 0, 1) := dk_42 (dk_at dksX8_play_4 0 rfl rfl)
theorem dX8_play_93 : decode cX8_play 93 = .ok (.iload_n 3, 1) := dk_29 (dk_at dksX8_play_4 1 rfl rfl)
theorem dX8_play_94 : decode cX8_play 94 = .ok (.invokevirtual 443, 3) := dk_182 1 187 (dk_at dksX8_play_4 2 rfl rfl)
theorem dX8_play_97 : decode cX8_play 97 = .ok (.ifCond .eq 7, 3) := dk_153 0 7 (dk_at dksX8_play_4 5 rfl rfl)
theorem dX8_play_100 : decode cX8_play 100 = .ok (.iconst 1, 1) := dk_4 (dk_at dksX8_play_4 8 rfl rfl)
theorem dX8_play_101 : decode cX8_play 101 = .ok (.goto 4, 3) := dk_167 0 4 (dk_at dksX8_play_4 9 rfl rfl)
theorem dX8_play_104 : decode cX8_play 104 = .ok (.iconst 0, 1) := dk_3 (dk_at dksX8_play_4 12 rfl rfl)
theorem dX8_play_105 : decode cX8_play 105 = .ok (.ireturn, 1) := dk_172 (dk_at dksX8_play_4 13 rfl rfl)
theorem dX8_play_106 : decode cX8_play 106 = .ok (.iload_n 1, 1) := dk_27 (dk_at dksX8_play_4 14 rfl rfl)
theorem dX8_play_107 : decode cX8_play 107 = .ok (.iconst 2, 1) := dk_5 (dk_at dksX8_play_4 15 rfl rfl)
theorem dX8_play_108 : decode cX8_play 108 = .ok (.if_icmp .ne 22, 3) := dk_160 0 22 (dk_at dksX8_play_4 16 rfl rfl)
theorem dX8_play_111 : decode cX8_play 111 = .ok (.aload_n 0, 1) := dk_42 (dk_at dksX8_play_4 19 rfl rfl)
theorem dX8_play_112 : decode cX8_play 112 = .ok (.getfield 13, 3) := dk_180 0 13 (dk_at dksX8_play_4 20 rfl rfl)
theorem dX8_play_115 : decode cX8_play 115 = .ok (.iconst (-1), 1) := dk_2 (dk_at dksX8_play_4 23 rfl rfl)
theorem dX8_play_116 : decode cX8_play 116 = .ok (.if_icmp .ne 7, 3) := dk_160 0 7 (dk_at dksX8_play_5 0 rfl rfl)
theorem dX8_play_119 : decode cX8_play 119 = .ok (.iconst (-1), 1) := dk_2 (dk_at dksX8_play_5 3 rfl rfl)
theorem dX8_play_120 : decode cX8_play 120 = .ok (.goto 9, 3) := dk_167 0 9 (dk_at dksX8_play_5 4 rfl rfl)
theorem dX8_play_123 : decode cX8_play 123 = .ok (.iload_n 3, 1) := dk_29 (dk_at dksX8_play_5 7 rfl rfl)
theorem dX8_play_124 : decode cX8_play 124 = .ok (.bipush 20, 2) := dk_16 20 (dk_at dksX8_play_5 8 rfl rfl)
theorem dX8_play_126 : decode cX8_play 126 = .ok (.ishr, 1) := dk_122 (dk_at dksX8_play_5 10 rfl rfl)
theorem dX8_play_127 : decode cX8_play 127 = .ok (.iconst 3, 1) := dk_6 (dk_at dksX8_play_5 11 rfl rfl)
theorem dX8_play_128 : decode cX8_play 128 = .ok (.iand, 1) := dk_126 (dk_at dksX8_play_5 12 rfl rfl)
theorem dX8_play_129 : decode cX8_play 129 = .ok (.ireturn, 1) := dk_172 (dk_at dksX8_play_5 13 rfl rfl)
theorem dX8_play_130 : decode cX8_play 130 = .ok (.iload_n 1, 1) := dk_27 (dk_at dksX8_play_5 14 rfl rfl)
theorem dX8_play_131 : decode cX8_play 131 = .ok (.bipush 8, 2) := dk_16 8 (dk_at dksX8_play_5 15 rfl rfl)
theorem dX8_play_133 : decode cX8_play 133 = .ok (.if_icmp .ge 13, 3) := dk_162 0 13 (dk_at dksX8_play_5 17 rfl rfl)
theorem dX8_play_136 : decode cX8_play 136 = .ok (.iload_n 3, 1) := dk_29 (dk_at dksX8_play_5 20 rfl rfl)
theorem dX8_play_137 : decode cX8_play 137 = .ok (.iload_n 1, 1) := dk_27 (dk_at dksX8_play_5 21 rfl rfl)
theorem dX8_play_138 : decode cX8_play 138 = .ok (.iconst 4, 1) := dk_7 (dk_at dksX8_play_5 22 rfl rfl)
theorem dX8_play_139 : decode cX8_play 139 = .ok (.isub, 1) := dk_100 (dk_at dksX8_play_5 23 rfl rfl)
theorem dX8_play_140 : decode cX8_play 140 = .ok (.invokestatic 394, 3) := dk_184 1 138 (dk_at dksX8_play_6 0 rfl rfl)
theorem dX8_play_143 : decode cX8_play 143 = .ok (.goto 13, 3) := dk_167 0 13 (dk_at dksX8_play_6 3 rfl rfl)
theorem dX8_play_146 : decode cX8_play 146 = .ok (.iload_n 3, 1) := dk_29 (dk_at dksX8_play_6 6 rfl rfl)
theorem dX8_play_147 : decode cX8_play 147 = .ok (.iconst 2, 1) := dk_5 (dk_at dksX8_play_6 7 rfl rfl)
theorem dX8_play_148 : decode cX8_play 148 = .ok (.iload_n 1, 1) := dk_27 (dk_at dksX8_play_6 8 rfl rfl)
theorem dX8_play_149 : decode cX8_play 149 = .ok (.bipush 8, 2) := dk_16 8 (dk_at dksX8_play_6 9 rfl rfl)
theorem dX8_play_151 : decode cX8_play 151 = .ok (.isub, 1) := dk_100 (dk_at dksX8_play_6 11 rfl rfl)
theorem dX8_play_152 : decode cX8_play 152 = .ok (.imul, 1) := dk_104 (dk_at dksX8_play_6 12 rfl rfl)
theorem dX8_play_153 : decode cX8_play 153 = .ok (.ishr, 1) := dk_122 (dk_at dksX8_play_6 13 rfl rfl)
theorem dX8_play_154 : decode cX8_play 154 = .ok (.iconst 3, 1) := dk_6 (dk_at dksX8_play_6 14 rfl rfl)
theorem dX8_play_155 : decode cX8_play 155 = .ok (.iand, 1) := dk_126 (dk_at dksX8_play_6 15 rfl rfl)
theorem dX8_play_156 : decode cX8_play 156 = .ok (.ireturn, 1) := dk_172 (dk_at dksX8_play_6 16 rfl rfl)
abbrev cX8_within : ByteArray := prog_19_method_4_code
def yX8_within : MethodName := ⟨RX8, "within", "(III)Z"⟩
def dkwX8_within_0 : List UInt8 := [26, 27, 161, 0, 12, 26, 28, 163, 0, 7, 4, 167, 0, 4, 3, 172]
abbrev dktX8_within_0 : List UInt8 := dkwX8_within_0 ++ []
theorem dksX8_within_0 : cX8_within.data.toList.drop 0 = dktX8_within_0 := by decide +kernel
theorem dX8_within_0 : decode cX8_within 0 = .ok (.iload_n 0, 1) := dk_26 (dk_at dksX8_within_0 0 rfl rfl)
theorem dX8_within_1 : decode cX8_within 1 = .ok (.iload_n 1, 1) := dk_27 (dk_at dksX8_within_0 1 rfl rfl)
theorem dX8_within_2 : decode cX8_within 2 = .ok (.if_icmp .lt 12, 3) := dk_161 0 12 (dk_at dksX8_within_0 2 rfl rfl)
theorem dX8_within_5 : decode cX8_within 5 = .ok (.iload_n 0, 1) := dk_26 (dk_at dksX8_within_0 5 rfl rfl)
theorem dX8_within_6 : decode cX8_within 6 = .ok (.iload_n 2, 1) := dk_28 (dk_at dksX8_within_0 6 rfl rfl)
theorem dX8_within_7 : decode cX8_within 7 = .ok (.if_icmp .gt 7, 3) := dk_163 0 7 (dk_at dksX8_within_0 7 rfl rfl)
theorem dX8_within_10 : decode cX8_within 10 = .ok (.iconst 1, 1) := dk_4 (dk_at dksX8_within_0 10 rfl rfl)
theorem dX8_within_11 : decode cX8_within 11 = .ok (.goto 4, 3) := dk_167 0 4 (dk_at dksX8_within_0 11 rfl rfl)
theorem dX8_within_14 : decode cX8_within 14 = .ok (.iconst 0, 1) := dk_3 (dk_at dksX8_within_0 14 rfl rfl)
theorem dX8_within_15 : decode cX8_within 15 = .ok (.ireturn, 1) := dk_172 (dk_at dksX8_within_0 15 rfl rfl)
abbrev cX8_hint : ByteArray := prog_19_method_101_code
def yX8_hint : MethodName := ⟨RX8, "hint", "(I)I"⟩
def dkwX8_hint_6 : List UInt8 := [21, 4, 46, 167, 0, 10, 42, 180, 0, 121, 21, 4, 46, 172]
abbrev dktX8_hint_6 : List UInt8 := dkwX8_hint_6 ++ []
def dkwX8_hint_5 : List UInt8 := [27, 4, 160, 0, 13, 42, 180, 0, 115, 21, 4, 46, 167, 0, 25, 27, 5, 160, 0, 13, 42, 180, 0, 118]
abbrev dktX8_hint_5 : List UInt8 := dkwX8_hint_5 ++ dktX8_hint_6
def dkwX8_hint_4 : List UInt8 := [42, 180, 0, 108, 42, 180, 0, 124, 21, 4, 46, 46, 29, 4, 100, 159, 0, 9, 132, 4, 1, 167, 255, 235]
abbrev dktX8_hint_4 : List UInt8 := dkwX8_hint_4 ++ dktX8_hint_5
def dkwX8_hint_3 : List UInt8 := [29, 155, 0, 7, 27, 154, 0, 5, 29, 172, 29, 154, 0, 5, 2, 172, 42, 180, 0, 102, 28, 46, 54, 4]
abbrev dktX8_hint_3 : List UInt8 := dkwX8_hint_3 ++ dktX8_hint_4
def dkwX8_hint_2 : List UInt8 := [180, 0, 164, 42, 180, 1, 129, 46, 159, 0, 9, 132, 2, 1, 167, 255, 235, 42, 180, 0, 108, 28, 46, 62]
abbrev dktX8_hint_2 : List UInt8 := dkwX8_hint_2 ++ dktX8_hint_3
def dkwX8_hint_1 : List UInt8 := [154, 0, 5, 3, 172, 42, 182, 1, 196, 154, 0, 6, 16, 254, 172, 3, 61, 42, 180, 0, 99, 28, 46, 42]
abbrev dktX8_hint_1 : List UInt8 := dkwX8_hint_1 ++ dktX8_hint_2
def dkwX8_hint_0 : List UInt8 := [42, 3, 181, 0, 173, 42, 27, 155, 0, 12, 27, 6, 163, 0, 7, 4, 167, 0, 4, 3, 4, 182, 1, 72]
abbrev dktX8_hint_0 : List UInt8 := dkwX8_hint_0 ++ dktX8_hint_1
theorem dksX8_hint_0 : cX8_hint.data.toList.drop 0 = dktX8_hint_0 := by decide +kernel
theorem dksX8_hint_1 : cX8_hint.data.toList.drop 24 = dktX8_hint_1 := dk_seg dksX8_hint_0 24 rfl rfl
theorem dksX8_hint_2 : cX8_hint.data.toList.drop 48 = dktX8_hint_2 := dk_seg dksX8_hint_1 24 rfl rfl
theorem dksX8_hint_3 : cX8_hint.data.toList.drop 72 = dktX8_hint_3 := dk_seg dksX8_hint_2 24 rfl rfl
theorem dksX8_hint_4 : cX8_hint.data.toList.drop 96 = dktX8_hint_4 := dk_seg dksX8_hint_3 24 rfl rfl
theorem dksX8_hint_5 : cX8_hint.data.toList.drop 120 = dktX8_hint_5 := dk_seg dksX8_hint_4 24 rfl rfl
theorem dksX8_hint_6 : cX8_hint.data.toList.drop 144 = dktX8_hint_6 := dk_seg dksX8_hint_5 24 rfl rfl
theorem dX8_hint_0 : decode cX8_hint 0 = .ok (.aload_n 0, 1) := dk_42 (dk_at dksX8_hint_0 0 rfl rfl)
theorem dX8_hint_1 : decode cX8_hint 1 = .ok (.iconst 0, 1) := dk_3 (dk_at dksX8_hint_0 1 rfl rfl)
theorem dX8_hint_2 : decode cX8_hint 2 = .ok (.putfield 173, 3) := dk_181 0 173 (dk_at dksX8_hint_0 2 rfl rfl)
theorem dX8_hint_5 : decode cX8_hint 5 = .ok (.aload_n 0, 1) := dk_42 (dk_at dksX8_hint_0 5 rfl rfl)
theorem dX8_hint_6 : decode cX8_hint 6 = .ok (.iload_n 1, 1) := dk_27 (dk_at dksX8_hint_0 6 rfl rfl)
theorem dX8_hint_7 : decode cX8_hint 7 = .ok (.ifCond .lt 12, 3) := dk_155 0 12 (dk_at dksX8_hint_0 7 rfl rfl)
theorem dX8_hint_10 : decode cX8_hint 10 = .ok (.iload_n 1, 1) := dk_27 (dk_at dksX8_hint_0 10 rfl rfl)
theorem dX8_hint_11 : decode cX8_hint 11 = .ok (.iconst 3, 1) := dk_6 (dk_at dksX8_hint_0 11 rfl rfl)
theorem dX8_hint_12 : decode cX8_hint 12 = .ok (.if_icmp .gt 7, 3) := dk_163 0 7 (dk_at dksX8_hint_0 12 rfl rfl)
theorem dX8_hint_15 : decode cX8_hint 15 = .ok (.iconst 1, 1) := dk_4 (dk_at dksX8_hint_0 15 rfl rfl)
theorem dX8_hint_16 : decode cX8_hint 16 = .ok (.goto 4, 3) := dk_167 0 4 (dk_at dksX8_hint_0 16 rfl rfl)
theorem dX8_hint_19 : decode cX8_hint 19 = .ok (.iconst 0, 1) := dk_3 (dk_at dksX8_hint_0 19 rfl rfl)
theorem dX8_hint_20 : decode cX8_hint 20 = .ok (.iconst 1, 1) := dk_4 (dk_at dksX8_hint_0 20 rfl rfl)
theorem dX8_hint_21 : decode cX8_hint 21 = .ok (.invokevirtual 328, 3) := dk_182 1 72 (dk_at dksX8_hint_0 21 rfl rfl)
theorem dX8_hint_24 : decode cX8_hint 24 = .ok (.ifCond .ne 5, 3) := dk_154 0 5 (dk_at dksX8_hint_1 0 rfl rfl)
theorem dX8_hint_27 : decode cX8_hint 27 = .ok (.iconst 0, 1) := dk_3 (dk_at dksX8_hint_1 3 rfl rfl)
theorem dX8_hint_28 : decode cX8_hint 28 = .ok (.ireturn, 1) := dk_172 (dk_at dksX8_hint_1 4 rfl rfl)
theorem dX8_hint_29 : decode cX8_hint 29 = .ok (.aload_n 0, 1) := dk_42 (dk_at dksX8_hint_1 5 rfl rfl)
theorem dX8_hint_30 : decode cX8_hint 30 = .ok (.invokevirtual 452, 3) := dk_182 1 196 (dk_at dksX8_hint_1 6 rfl rfl)
theorem dX8_hint_33 : decode cX8_hint 33 = .ok (.ifCond .ne 6, 3) := dk_154 0 6 (dk_at dksX8_hint_1 9 rfl rfl)
theorem dX8_hint_36 : decode cX8_hint 36 = .ok (.bipush (-2), 2) := dk_16 254 (dk_at dksX8_hint_1 12 rfl rfl)
theorem dX8_hint_38 : decode cX8_hint 38 = .ok (.ireturn, 1) := dk_172 (dk_at dksX8_hint_1 14 rfl rfl)
theorem dX8_hint_39 : decode cX8_hint 39 = .ok (.iconst 0, 1) := dk_3 (dk_at dksX8_hint_1 15 rfl rfl)
theorem dX8_hint_40 : decode cX8_hint 40 = .ok (.istore_n 2, 1) := dk_61 (dk_at dksX8_hint_1 16 rfl rfl)
theorem dX8_hint_41 : decode cX8_hint 41 = .ok (.aload_n 0, 1) := dk_42 (dk_at dksX8_hint_1 17 rfl rfl)
theorem dX8_hint_42 : decode cX8_hint 42 = .ok (.getfield 99, 3) := dk_180 0 99 (dk_at dksX8_hint_1 18 rfl rfl)
theorem dX8_hint_45 : decode cX8_hint 45 = .ok (.iload_n 2, 1) := dk_28 (dk_at dksX8_hint_1 21 rfl rfl)
theorem dX8_hint_46 : decode cX8_hint 46 = .ok (.iaload, 1) := dk_46 (dk_at dksX8_hint_1 22 rfl rfl)
theorem dX8_hint_47 : decode cX8_hint 47 = .ok (.aload_n 0, 1) := dk_42 (dk_at dksX8_hint_1 23 rfl rfl)
theorem dX8_hint_48 : decode cX8_hint 48 = .ok (.getfield 164, 3) := dk_180 0 164 (dk_at dksX8_hint_2 0 rfl rfl)
theorem dX8_hint_51 : decode cX8_hint 51 = .ok (.aload_n 0, 1) := dk_42 (dk_at dksX8_hint_2 3 rfl rfl)
theorem dX8_hint_52 : decode cX8_hint 52 = .ok (.getfield 385, 3) := dk_180 1 129 (dk_at dksX8_hint_2 4 rfl rfl)
theorem dX8_hint_55 : decode cX8_hint 55 = .ok (.iaload, 1) := dk_46 (dk_at dksX8_hint_2 7 rfl rfl)
theorem dX8_hint_56 : decode cX8_hint 56 = .ok (.if_icmp .eq 9, 3) := dk_159 0 9 (dk_at dksX8_hint_2 8 rfl rfl)
theorem dX8_hint_59 : decode cX8_hint 59 = .ok (.iinc 2 1, 3) := dk_132 2 1 (dk_at dksX8_hint_2 11 rfl rfl)
theorem dX8_hint_62 : decode cX8_hint 62 = .ok (.goto (-21), 3) := dk_167 255 235 (dk_at dksX8_hint_2 14 rfl rfl)
theorem dX8_hint_65 : decode cX8_hint 65 = .ok (.aload_n 0, 1) := dk_42 (dk_at dksX8_hint_2 17 rfl rfl)
theorem dX8_hint_66 : decode cX8_hint 66 = .ok (.getfield 108, 3) := dk_180 0 108 (dk_at dksX8_hint_2 18 rfl rfl)
theorem dX8_hint_69 : decode cX8_hint 69 = .ok (.iload_n 2, 1) := dk_28 (dk_at dksX8_hint_2 21 rfl rfl)
theorem dX8_hint_70 : decode cX8_hint 70 = .ok (.iaload, 1) := dk_46 (dk_at dksX8_hint_2 22 rfl rfl)
theorem dX8_hint_71 : decode cX8_hint 71 = .ok (.istore_n 3, 1) := dk_62 (dk_at dksX8_hint_2 23 rfl rfl)
theorem dX8_hint_72 : decode cX8_hint 72 = .ok (.iload_n 3, 1) := dk_29 (dk_at dksX8_hint_3 0 rfl rfl)
theorem dX8_hint_73 : decode cX8_hint 73 = .ok (.ifCond .lt 7, 3) := dk_155 0 7 (dk_at dksX8_hint_3 1 rfl rfl)
theorem dX8_hint_76 : decode cX8_hint 76 = .ok (.iload_n 1, 1) := dk_27 (dk_at dksX8_hint_3 4 rfl rfl)
theorem dX8_hint_77 : decode cX8_hint 77 = .ok (.ifCond .ne 5, 3) := dk_154 0 5 (dk_at dksX8_hint_3 5 rfl rfl)
theorem dX8_hint_80 : decode cX8_hint 80 = .ok (.iload_n 3, 1) := dk_29 (dk_at dksX8_hint_3 8 rfl rfl)
theorem dX8_hint_81 : decode cX8_hint 81 = .ok (.ireturn, 1) := dk_172 (dk_at dksX8_hint_3 9 rfl rfl)
theorem dX8_hint_82 : decode cX8_hint 82 = .ok (.iload_n 3, 1) := dk_29 (dk_at dksX8_hint_3 10 rfl rfl)
theorem dX8_hint_83 : decode cX8_hint 83 = .ok (.ifCond .ne 5, 3) := dk_154 0 5 (dk_at dksX8_hint_3 11 rfl rfl)
theorem dX8_hint_86 : decode cX8_hint 86 = .ok (.iconst (-1), 1) := dk_2 (dk_at dksX8_hint_3 14 rfl rfl)
theorem dX8_hint_87 : decode cX8_hint 87 = .ok (.ireturn, 1) := dk_172 (dk_at dksX8_hint_3 15 rfl rfl)
theorem dX8_hint_88 : decode cX8_hint 88 = .ok (.aload_n 0, 1) := dk_42 (dk_at dksX8_hint_3 16 rfl rfl)
theorem dX8_hint_89 : decode cX8_hint 89 = .ok (.getfield 102, 3) := dk_180 0 102 (dk_at dksX8_hint_3 17 rfl rfl)
theorem dX8_hint_92 : decode cX8_hint 92 = .ok (.iload_n 2, 1) := dk_28 (dk_at dksX8_hint_3 20 rfl rfl)
theorem dX8_hint_93 : decode cX8_hint 93 = .ok (.iaload, 1) := dk_46 (dk_at dksX8_hint_3 21 rfl rfl)
theorem dX8_hint_94 : decode cX8_hint 94 = .ok (.istore 4, 2) := dk_54 4 (dk_at dksX8_hint_3 22 rfl rfl)
theorem dX8_hint_96 : decode cX8_hint 96 = .ok (.aload_n 0, 1) := dk_42 (dk_at dksX8_hint_4 0 rfl rfl)
theorem dX8_hint_97 : decode cX8_hint 97 = .ok (.getfield 108, 3) := dk_180 0 108 (dk_at dksX8_hint_4 1 rfl rfl)
theorem dX8_hint_100 : decode cX8_hint 100 = .ok (.aload_n 0, 1) := dk_42 (dk_at dksX8_hint_4 4 rfl rfl)
theorem dX8_hint_101 : decode cX8_hint 101 = .ok (.getfield 124, 3) := dk_180 0 124 (dk_at dksX8_hint_4 5 rfl rfl)
theorem dX8_hint_104 : decode cX8_hint 104 = .ok (.iload 4, 2) := dk_21 4 (dk_at dksX8_hint_4 8 rfl rfl)
theorem dX8_hint_106 : decode cX8_hint 106 = .ok (.iaload, 1) := dk_46 (dk_at dksX8_hint_4 10 rfl rfl)
theorem dX8_hint_107 : decode cX8_hint 107 = .ok (.iaload, 1) := dk_46 (dk_at dksX8_hint_4 11 rfl rfl)
theorem dX8_hint_108 : decode cX8_hint 108 = .ok (.iload_n 3, 1) := dk_29 (dk_at dksX8_hint_4 12 rfl rfl)
theorem dX8_hint_109 : decode cX8_hint 109 = .ok (.iconst 1, 1) := dk_4 (dk_at dksX8_hint_4 13 rfl rfl)
theorem dX8_hint_110 : decode cX8_hint 110 = .ok (.isub, 1) := dk_100 (dk_at dksX8_hint_4 14 rfl rfl)
theorem dX8_hint_111 : decode cX8_hint 111 = .ok (.if_icmp .eq 9, 3) := dk_159 0 9 (dk_at dksX8_hint_4 15 rfl rfl)
theorem dX8_hint_114 : decode cX8_hint 114 = .ok (.iinc 4 1, 3) := dk_132 4 1 (dk_at dksX8_hint_4 18 rfl rfl)
theorem dX8_hint_117 : decode cX8_hint 117 = .ok (.goto (-21), 3) := dk_167 255 235 (dk_at dksX8_hint_4 21 rfl rfl)
theorem dX8_hint_120 : decode cX8_hint 120 = .ok (.iload_n 1, 1) := dk_27 (dk_at dksX8_hint_5 0 rfl rfl)
theorem dX8_hint_121 : decode cX8_hint 121 = .ok (.iconst 1, 1) := dk_4 (dk_at dksX8_hint_5 1 rfl rfl)
theorem dX8_hint_122 : decode cX8_hint 122 = .ok (.if_icmp .ne 13, 3) := dk_160 0 13 (dk_at dksX8_hint_5 2 rfl rfl)
theorem dX8_hint_125 : decode cX8_hint 125 = .ok (.aload_n 0, 1) := dk_42 (dk_at dksX8_hint_5 5 rfl rfl)
theorem dX8_hint_126 : decode cX8_hint 126 = .ok (.getfield 115, 3) := dk_180 0 115 (dk_at dksX8_hint_5 6 rfl rfl)
theorem dX8_hint_129 : decode cX8_hint 129 = .ok (.iload 4, 2) := dk_21 4 (dk_at dksX8_hint_5 9 rfl rfl)
theorem dX8_hint_131 : decode cX8_hint 131 = .ok (.iaload, 1) := dk_46 (dk_at dksX8_hint_5 11 rfl rfl)
theorem dX8_hint_132 : decode cX8_hint 132 = .ok (.goto 25, 3) := dk_167 0 25 (dk_at dksX8_hint_5 12 rfl rfl)
theorem dX8_hint_135 : decode cX8_hint 135 = .ok (.iload_n 1, 1) := dk_27 (dk_at dksX8_hint_5 15 rfl rfl)
theorem dX8_hint_136 : decode cX8_hint 136 = .ok (.iconst 2, 1) := dk_5 (dk_at dksX8_hint_5 16 rfl rfl)
theorem dX8_hint_137 : decode cX8_hint 137 = .ok (.if_icmp .ne 13, 3) := dk_160 0 13 (dk_at dksX8_hint_5 17 rfl rfl)
theorem dX8_hint_140 : decode cX8_hint 140 = .ok (.aload_n 0, 1) := dk_42 (dk_at dksX8_hint_5 20 rfl rfl)
theorem dX8_hint_141 : decode cX8_hint 141 = .ok (.getfield 118, 3) := dk_180 0 118 (dk_at dksX8_hint_5 21 rfl rfl)
theorem dX8_hint_144 : decode cX8_hint 144 = .ok (.iload 4, 2) := dk_21 4 (dk_at dksX8_hint_6 0 rfl rfl)
theorem dX8_hint_146 : decode cX8_hint 146 = .ok (.iaload, 1) := dk_46 (dk_at dksX8_hint_6 2 rfl rfl)
theorem dX8_hint_147 : decode cX8_hint 147 = .ok (.goto 10, 3) := dk_167 0 10 (dk_at dksX8_hint_6 3 rfl rfl)
theorem dX8_hint_150 : decode cX8_hint 150 = .ok (.aload_n 0, 1) := dk_42 (dk_at dksX8_hint_6 6 rfl rfl)
theorem dX8_hint_151 : decode cX8_hint 151 = .ok (.getfield 121, 3) := dk_180 0 121 (dk_at dksX8_hint_6 7 rfl rfl)
theorem dX8_hint_154 : decode cX8_hint 154 = .ok (.iload 4, 2) := dk_21 4 (dk_at dksX8_hint_6 10 rfl rfl)
theorem dX8_hint_156 : decode cX8_hint 156 = .ok (.iaload, 1) := dk_46 (dk_at dksX8_hint_6 12 rfl rfl)
theorem dX8_hint_157 : decode cX8_hint 157 = .ok (.ireturn, 1) := dk_172 (dk_at dksX8_hint_6 13 rfl rfl)
theorem q136 : (Jvm.Cond.initialized "FerryHallModel") ∈ lw_all := lw_g (lw_at lw_m1 18 rfl) rfl
theorem q870 : (Jvm.Cond.selects "FerryHallModel" ({ cls := "java/lang/Object", name := "getClass", desc := "()Ljava/lang/Class;" } : Jvm.MethodName) ({ cls := "java/lang/Object", name := "getClass", desc := "()Ljava/lang/Class;" } : Jvm.MethodName)) ∈ lw_all := lw_g (lw_at lw_m4 32 rfl) rfl
theorem q1902 : (Jvm.Cond.instantiable "FerryHallModel" (88 : Nat)) ∈ lw_all := lw_g (lw_at lw_m8 104 rfl) rfl
theorem q1904 : (Jvm.Cond.instanceMethod ({ cls := "FerryHallModel", name := "<init>", desc := "()V" } : Jvm.MethodName)) ∈ lw_all := lw_g (lw_at lw_m8 106 rfl) rfl
theorem q1905 : (Jvm.Cond.code ({ cls := "FerryHallModel", name := "<init>", desc := "()V" } : Jvm.MethodName) prog_19_method_1_code (1 : Nat) (Option.none : Option Jvm.ClassFile.FieldType)) ∈ lw_all := lw_g (lw_at lw_m8 107 rfl) rfl
theorem q1906 : (Jvm.Cond.methodLink "FerryHallModel" (1 : Nat) ({ cls := "java/lang/Object", name := "<init>", desc := "()V" } : Jvm.MethodName)) ∈ lw_all := lw_g (lw_at lw_m8 108 rfl) rfl
theorem q1907 : (Jvm.Cond.constant "FerryHallModel" (114 : Nat) (40001 : Int32)) ∈ lw_all := lw_g (lw_at lw_m8 109 rfl) rfl
theorem q1908 : (Jvm.Cond.methodLink "FerryHallModel" (170 : Nat) ({ cls := "FerryHallModel", name := "begins", desc := "()V" } : Jvm.MethodName)) ∈ lw_all := lw_g (lw_at lw_m8 110 rfl) rfl
theorem q1909 : (Jvm.Cond.privateMethod ({ cls := "FerryHallModel", name := "begins", desc := "()V" } : Jvm.MethodName)) ∈ lw_tbl := lw_at lw_m8 111 rfl
theorem q1910 : (Jvm.Cond.instanceMethod ({ cls := "FerryHallModel", name := "begins", desc := "()V" } : Jvm.MethodName)) ∈ lw_all := lw_g (lw_at lw_m8 112 rfl) rfl
theorem q1911 : (Jvm.Cond.code ({ cls := "FerryHallModel", name := "begins", desc := "()V" } : Jvm.MethodName) prog_19_method_96_code (2 : Nat) (Option.none : Option Jvm.ClassFile.FieldType)) ∈ lw_all := lw_g (lw_at lw_m8 113 rfl) rfl
theorem q1912 : (Jvm.Cond.methodLink "FerryHallModel" (407 : Nat) ({ cls := "FerryHallModel", name := "start", desc := "()I" } : Jvm.MethodName)) ∈ lw_all := lw_g (lw_at lw_m8 114 rfl) rfl
theorem q1913 : (Jvm.Cond.privateMethod ({ cls := "FerryHallModel", name := "start", desc := "()I" } : Jvm.MethodName)) ∈ lw_tbl := lw_at lw_m8 115 rfl
theorem q1914 : (Jvm.Cond.instanceMethod ({ cls := "FerryHallModel", name := "start", desc := "()I" } : Jvm.MethodName)) ∈ lw_all := lw_g (lw_at lw_m8 116 rfl) rfl
theorem q1915 : (Jvm.Cond.code ({ cls := "FerryHallModel", name := "start", desc := "()I" } : Jvm.MethodName) prog_19_method_56_code (3 : Nat) (Option.some Jvm.ClassFile.FieldType.int)) ∈ lw_all := lw_g (lw_at lw_m8 117 rfl) rfl
theorem q1916 : (Jvm.Cond.fieldLink "FerryHallModel" (173 : Nat) "FerryHallModel" "thrown" "I") ∈ lw_all := lw_g (lw_at lw_m8 118 rfl) rfl
theorem q1917 : (Jvm.Cond.fieldLink "FerryHallModel" (7 : Nat) "FerryHallModel" "shores" "I") ∈ lw_all := lw_g (lw_at lw_m8 119 rfl) rfl
theorem q1918 : (Jvm.Cond.fieldLink "FerryHallModel" (338 : Nat) "FerryHallModel" "things" "I") ∈ lw_all := lw_g (lw_at lw_m8 120 rfl) rfl
theorem q1919 : (Jvm.Cond.fieldLink "FerryHallModel" (341 : Nat) "FerryHallModel" "boats" "I") ∈ lw_all := lw_g (lw_at lw_m8 121 rfl) rfl
theorem q1920 : (Jvm.Cond.fieldLink "FerryHallModel" (344 : Nat) "FerryHallModel" "laws" "I") ∈ lw_all := lw_g (lw_at lw_m8 122 rfl) rfl
theorem q1921 : (Jvm.Cond.fieldLink "FerryHallModel" (13 : Nat) "FerryHallModel" "lampAt" "I") ∈ lw_all := lw_g (lw_at lw_m8 123 rfl) rfl
theorem q1922 : (Jvm.Cond.fieldLink "FerryHallModel" (16 : Nat) "FerryHallModel" "weight" "[I") ∈ lw_all := lw_g (lw_at lw_m8 124 rfl) rfl
theorem q1923 : (Jvm.Cond.fieldLink "FerryHallModel" (20 : Nat) "FerryHallModel" "minutes" "[I") ∈ lw_all := lw_g (lw_at lw_m8 125 rfl) rfl
theorem q1924 : (Jvm.Cond.fieldLink "FerryHallModel" (23 : Nat) "FerryHallModel" "letter" "[I") ∈ lw_all := lw_g (lw_at lw_m8 126 rfl) rfl
theorem q1925 : (Jvm.Cond.fieldLink "FerryHallModel" (26 : Nat) "FerryHallModel" "holds" "[I") ∈ lw_all := lw_g (lw_at lw_m8 127 rfl) rfl
theorem q1926 : (Jvm.Cond.fieldLink "FerryHallModel" (29 : Nat) "FerryHallModel" "loads" "[I") ∈ lw_all := lw_g (lw_at lw_m8 128 rfl) rfl
theorem q1927 : (Jvm.Cond.fieldLink "FerryHallModel" (32 : Nat) "FerryHallModel" "boatAt" "[I") ∈ lw_all := lw_g (lw_at lw_m8 129 rfl) rfl
theorem q1928 : (Jvm.Cond.fieldLink "FerryHallModel" (35 : Nat) "FerryHallModel" "wet" "[Z") ∈ lw_all := lw_g (lw_at lw_m8 130 rfl) rfl
theorem q1929 : (Jvm.Cond.fieldLink "FerryHallModel" (347 : Nat) "FerryHallModel" "anyWet" "Z") ∈ lw_all := lw_g (lw_at lw_m8 131 rfl) rfl
theorem q1930 : (Jvm.Cond.fieldLink "FerryHallModel" (39 : Nat) "FerryHallModel" "scope" "[I") ∈ lw_all := lw_g (lw_at lw_m8 132 rfl) rfl
theorem q1931 : (Jvm.Cond.fieldLink "FerryHallModel" (42 : Nat) "FerryHallModel" "lawAt" "[I") ∈ lw_all := lw_g (lw_at lw_m8 133 rfl) rfl
theorem q1932 : (Jvm.Cond.fieldLink "FerryHallModel" (45 : Nat) "FerryHallModel" "code" "[I") ∈ lw_all := lw_g (lw_at lw_m8 134 rfl) rfl
theorem q1933 : (Jvm.Cond.fieldLink "FerryHallModel" (48 : Nat) "FerryHallModel" "tape" "[I") ∈ lw_all := lw_g (lw_at lw_m8 135 rfl) rfl
theorem q1934 : (Jvm.Cond.fieldLink "FerryHallModel" (176 : Nat) "FerryHallModel" "taped" "I") ∈ lw_all := lw_g (lw_at lw_m8 136 rfl) rfl
theorem q1935 : (Jvm.Cond.fieldLink "FerryHallModel" (227 : Nat) "FerryHallModel" "faultKind" "I") ∈ lw_all := lw_g (lw_at lw_m8 137 rfl) rfl
theorem q1936 : (Jvm.Cond.fieldLink "FerryHallModel" (51 : Nat) "FerryHallModel" "faultPlace" "I") ∈ lw_all := lw_g (lw_at lw_m8 138 rfl) rfl
theorem q1937 : (Jvm.Cond.fieldLink "FerryHallModel" (183 : Nat) "FerryHallModel" "size" "I") ∈ lw_all := lw_g (lw_at lw_m8 139 rfl) rfl
theorem q1938 : (Jvm.Cond.fieldLink "FerryHallModel" (186 : Nat) "FerryHallModel" "next" "I") ∈ lw_all := lw_g (lw_at lw_m8 140 rfl) rfl
theorem q1939 : (Jvm.Cond.fieldLink "FerryHallModel" (206 : Nat) "FerryHallModel" "sort" "I") ∈ lw_all := lw_g (lw_at lw_m8 141 rfl) rfl
theorem q1940 : (Jvm.Cond.fieldLink "FerryHallModel" (193 : Nat) "FerryHallModel" "place" "I") ∈ lw_all := lw_g (lw_at lw_m8 142 rfl) rfl
theorem q1941 : (Jvm.Cond.fieldLink "FerryHallModel" (216 : Nat) "FerryHallModel" "long0" "I") ∈ lw_all := lw_g (lw_at lw_m8 143 rfl) rfl
theorem q1942 : (Jvm.Cond.fieldLink "FerryHallModel" (200 : Nat) "FerryHallModel" "value" "I") ∈ lw_all := lw_g (lw_at lw_m8 144 rfl) rfl
theorem q1943 : (Jvm.Cond.fieldLink "FerryHallModel" (203 : Nat) "FerryHallModel" "sign" "I") ∈ lw_all := lw_g (lw_at lw_m8 145 rfl) rfl
theorem q1944 : (Jvm.Cond.fieldLink "FerryHallModel" (196 : Nat) "FerryHallModel" "word" "J") ∈ lw_all := lw_g (lw_at lw_m8 146 rfl) rfl
theorem q1945 : (Jvm.Cond.fieldLink "FerryHallModel" (244 : Nat) "FerryHallModel" "readShores" "I") ∈ lw_all := lw_g (lw_at lw_m8 147 rfl) rfl
theorem q1946 : (Jvm.Cond.fieldLink "FerryHallModel" (247 : Nat) "FerryHallModel" "readThings" "I") ∈ lw_all := lw_g (lw_at lw_m8 148 rfl) rfl
theorem q1947 : (Jvm.Cond.fieldLink "FerryHallModel" (260 : Nat) "FerryHallModel" "readBoats" "I") ∈ lw_all := lw_g (lw_at lw_m8 149 rfl) rfl
theorem q1948 : (Jvm.Cond.fieldLink "FerryHallModel" (273 : Nat) "FerryHallModel" "readLaws" "I") ∈ lw_all := lw_g (lw_at lw_m8 150 rfl) rfl
theorem q1949 : (Jvm.Cond.fieldLink "FerryHallModel" (270 : Nat) "FerryHallModel" "readLamp" "I") ∈ lw_all := lw_g (lw_at lw_m8 151 rfl) rfl
theorem q1950 : (Jvm.Cond.fieldLink "FerryHallModel" (298 : Nat) "FerryHallModel" "top" "I") ∈ lw_all := lw_g (lw_at lw_m8 152 rfl) rfl
theorem q1951 : (Jvm.Cond.fieldLink "FerryHallModel" (301 : Nat) "FerryHallModel" "waiting" "I") ∈ lw_all := lw_g (lw_at lw_m8 153 rfl) rfl
theorem q1952 : (Jvm.Cond.fieldLink "FerryHallModel" (310 : Nat) "FerryHallModel" "depth" "I") ∈ lw_all := lw_g (lw_at lw_m8 154 rfl) rfl
theorem q1953 : (Jvm.Cond.fieldLink "FerryHallModel" (266 : Nat) "FerryHallModel" "readWet" "Z") ∈ lw_all := lw_g (lw_at lw_m8 155 rfl) rfl
theorem q1954 : (Jvm.Cond.fieldLink "FerryHallModel" (54 : Nat) "FerryHallModel" "readWeight" "[I") ∈ lw_all := lw_g (lw_at lw_m8 156 rfl) rfl
theorem q1955 : (Jvm.Cond.fieldLink "FerryHallModel" (57 : Nat) "FerryHallModel" "readMinutes" "[I") ∈ lw_all := lw_g (lw_at lw_m8 157 rfl) rfl
theorem q1956 : (Jvm.Cond.fieldLink "FerryHallModel" (60 : Nat) "FerryHallModel" "readLetter" "[I") ∈ lw_all := lw_g (lw_at lw_m8 158 rfl) rfl
theorem q1957 : (Jvm.Cond.fieldLink "FerryHallModel" (63 : Nat) "FerryHallModel" "readHolds" "[I") ∈ lw_all := lw_g (lw_at lw_m8 159 rfl) rfl
theorem q1958 : (Jvm.Cond.fieldLink "FerryHallModel" (66 : Nat) "FerryHallModel" "readLoads" "[I") ∈ lw_all := lw_g (lw_at lw_m8 160 rfl) rfl
theorem q1959 : (Jvm.Cond.fieldLink "FerryHallModel" (69 : Nat) "FerryHallModel" "readBoatAt" "[I") ∈ lw_all := lw_g (lw_at lw_m8 161 rfl) rfl
theorem q1960 : (Jvm.Cond.fieldLink "FerryHallModel" (72 : Nat) "FerryHallModel" "readScope" "[I") ∈ lw_all := lw_g (lw_at lw_m8 162 rfl) rfl
theorem q1961 : (Jvm.Cond.fieldLink "FerryHallModel" (75 : Nat) "FerryHallModel" "readLawAt" "[I") ∈ lw_all := lw_g (lw_at lw_m8 163 rfl) rfl
theorem q1962 : (Jvm.Cond.fieldLink "FerryHallModel" (78 : Nat) "FerryHallModel" "read" "[I") ∈ lw_all := lw_g (lw_at lw_m8 164 rfl) rfl
theorem q1963 : (Jvm.Cond.fieldLink "FerryHallModel" (81 : Nat) "FerryHallModel" "waits" "[I") ∈ lw_all := lw_g (lw_at lw_m8 165 rfl) rfl
theorem q1964 : (Jvm.Cond.fieldLink "FerryHallModel" (84 : Nat) "FerryHallModel" "readWater" "[Z") ∈ lw_all := lw_g (lw_at lw_m8 166 rfl) rfl
theorem q1965 : (Jvm.Cond.fieldLink "FerryHallModel" (87 : Nat) "FerryHallModel" "tested" "[Z") ∈ lw_all := lw_g (lw_at lw_m8 167 rfl) rfl
theorem q1966 : (Jvm.Cond.fieldLink "FerryHallModel" (90 : Nat) "FerryHallModel" "barred" "[I") ∈ lw_all := lw_g (lw_at lw_m8 168 rfl) rfl
theorem q1967 : (Jvm.Cond.fieldLink "FerryHallModel" (93 : Nat) "FerryHallModel" "pile" "[I") ∈ lw_all := lw_g (lw_at lw_m8 169 rfl) rfl
theorem q1968 : (Jvm.Cond.fieldLink "FerryHallModel" (96 : Nat) "FerryHallModel" "without" "I") ∈ lw_all := lw_g (lw_at lw_m8 170 rfl) rfl
theorem q1969 : (Jvm.Cond.fieldLink "FerryHallModel" (401 : Nat) "FerryHallModel" "barring" "I") ∈ lw_all := lw_g (lw_at lw_m8 171 rfl) rfl
theorem q1970 : (Jvm.Cond.fieldLink "FerryHallModel" (420 : Nat) "FerryHallModel" "states" "I") ∈ lw_all := lw_g (lw_at lw_m8 172 rfl) rfl
theorem q1971 : (Jvm.Cond.fieldLink "FerryHallModel" (426 : Nat) "FerryHallModel" "crossings" "I") ∈ lw_all := lw_g (lw_at lw_m8 173 rfl) rfl
theorem q1972 : (Jvm.Cond.fieldLink "FerryHallModel" (99 : Nat) "FerryHallModel" "stateOf" "[I") ∈ lw_all := lw_g (lw_at lw_m8 174 rfl) rfl
theorem q1973 : (Jvm.Cond.fieldLink "FerryHallModel" (102 : Nat) "FerryHallModel" "firstOf" "[I") ∈ lw_all := lw_g (lw_at lw_m8 175 rfl) rfl
theorem q1974 : (Jvm.Cond.fieldLink "FerryHallModel" (105 : Nat) "FerryHallModel" "far" "[I") ∈ lw_all := lw_g (lw_at lw_m8 176 rfl) rfl
theorem q1975 : (Jvm.Cond.fieldLink "FerryHallModel" (108 : Nat) "FerryHallModel" "toGoal" "[I") ∈ lw_all := lw_g (lw_at lw_m8 177 rfl) rfl
theorem q1976 : (Jvm.Cond.fieldLink "FerryHallModel" (111 : Nat) "FerryHallModel" "slot" "[I") ∈ lw_all := lw_g (lw_at lw_m8 178 rfl) rfl
theorem q1977 : (Jvm.Cond.fieldLink "FerryHallModel" (115 : Nat) "FerryHallModel" "edgeBoat" "[I") ∈ lw_all := lw_g (lw_at lw_m8 179 rfl) rfl
theorem q1978 : (Jvm.Cond.fieldLink "FerryHallModel" (118 : Nat) "FerryHallModel" "edgeTo" "[I") ∈ lw_all := lw_g (lw_at lw_m8 180 rfl) rfl
theorem q1979 : (Jvm.Cond.fieldLink "FerryHallModel" (121 : Nat) "FerryHallModel" "edgeSet" "[I") ∈ lw_all := lw_g (lw_at lw_m8 181 rfl) rfl
theorem q1980 : (Jvm.Cond.fieldLink "FerryHallModel" (124 : Nat) "FerryHallModel" "edgeState" "[I") ∈ lw_all := lw_g (lw_at lw_m8 182 rfl) rfl
theorem q1981 : (Jvm.Cond.fieldLink "FerryHallModel" (127 : Nat) "FerryHallModel" "cheap" "[J") ∈ lw_all := lw_g (lw_at lw_m8 183 rfl) rfl
theorem q1982 : (Jvm.Cond.fieldLink "FerryHallModel" (429 : Nat) "FerryHallModel" "isSpent" "Z") ∈ lw_all := lw_g (lw_at lw_m8 184 rfl) rfl
theorem q1983 : (Jvm.Cond.fieldLink "FerryHallModel" (423 : Nat) "FerryHallModel" "isFirst" "Z") ∈ lw_all := lw_g (lw_at lw_m8 185 rfl) rfl
theorem q1984 : (Jvm.Cond.fieldLink "FerryHallModel" (131 : Nat) "FerryHallModel" "mayMany" "[I") ∈ lw_all := lw_g (lw_at lw_m8 186 rfl) rfl
theorem q1985 : (Jvm.Cond.fieldLink "FerryHallModel" (134 : Nat) "FerryHallModel" "may" "[I") ∈ lw_all := lw_g (lw_at lw_m8 187 rfl) rfl
theorem q1986 : (Jvm.Cond.fieldLink "FerryHallModel" (455 : Nat) "FerryHallModel" "keptMany" "I") ∈ lw_all := lw_g (lw_at lw_m8 188 rfl) rfl
theorem q1987 : (Jvm.Cond.fieldLink "FerryHallModel" (458 : Nat) "FerryHallModel" "keptThings" "I") ∈ lw_all := lw_g (lw_at lw_m8 189 rfl) rfl
theorem q1988 : (Jvm.Cond.fieldLink "FerryHallModel" (137 : Nat) "FerryHallModel" "keptBoat" "[I") ∈ lw_all := lw_g (lw_at lw_m8 190 rfl) rfl
theorem q1989 : (Jvm.Cond.fieldLink "FerryHallModel" (140 : Nat) "FerryHallModel" "keptTo" "[I") ∈ lw_all := lw_g (lw_at lw_m8 191 rfl) rfl
theorem q1990 : (Jvm.Cond.fieldLink "FerryHallModel" (143 : Nat) "FerryHallModel" "keptSet" "[I") ∈ lw_all := lw_g (lw_at lw_m8 192 rfl) rfl
theorem q1991 : (Jvm.Cond.fieldLink "FerryHallModel" (146 : Nat) "FerryHallModel" "keptMinutes" "[I") ∈ lw_all := lw_g (lw_at lw_m8 193 rfl) rfl
theorem q1992 : (Jvm.Cond.fieldLink "FerryHallModel" (149 : Nat) "FerryHallModel" "keptState" "[I") ∈ lw_all := lw_g (lw_at lw_m8 194 rfl) rfl
theorem q1993 : (Jvm.Cond.fieldLink "FerryHallModel" (152 : Nat) "FerryHallModel" "waysOf" "[I") ∈ lw_all := lw_g (lw_at lw_m8 195 rfl) rfl
theorem q1994 : (Jvm.Cond.fieldLink "FerryHallModel" (478 : Nat) "FerryHallModel" "lawsKnown" "I") ∈ lw_all := lw_g (lw_at lw_m8 196 rfl) rfl
theorem q1995 : (Jvm.Cond.fieldLink "FerryHallModel" (484 : Nat) "FerryHallModel" "freeLaws" "I") ∈ lw_all := lw_g (lw_at lw_m8 197 rfl) rfl
theorem q1996 : (Jvm.Cond.fieldLink "FerryHallModel" (487 : Nat) "FerryHallModel" "aloneLaws" "I") ∈ lw_all := lw_g (lw_at lw_m8 198 rfl) rfl
theorem q1997 : (Jvm.Cond.fieldLink "FerryHallModel" (155 : Nat) "FerryHallModel" "sizeKnown" "[I") ∈ lw_all := lw_g (lw_at lw_m8 199 rfl) rfl
theorem q1998 : (Jvm.Cond.fieldLink "FerryHallModel" (499 : Nat) "FerryHallModel" "roundsKnown" "I") ∈ lw_all := lw_g (lw_at lw_m8 200 rfl) rfl
theorem q1999 : (Jvm.Cond.fieldLink "FerryHallModel" (158 : Nat) "FerryHallModel" "rounds" "[I") ∈ lw_all := lw_g (lw_at lw_m8 201 rfl) rfl
theorem q2000 : (Jvm.Cond.fieldLink "FerryHallModel" (385 : Nat) "FerryHallModel" "made" "I") ∈ lw_all := lw_g (lw_at lw_m8 202 rfl) rfl
theorem q2001 : (Jvm.Cond.fieldLink "FerryHallModel" (161 : Nat) "FerryHallModel" "lawTold" "I") ∈ lw_all := lw_g (lw_at lw_m8 203 rfl) rfl
theorem q2002 : (Jvm.Cond.fieldLink "FerryHallModel" (164 : Nat) "FerryHallModel" "playState" "[I") ∈ lw_all := lw_g (lw_at lw_m8 204 rfl) rfl
theorem q2003 : (Jvm.Cond.fieldLink "FerryHallModel" (167 : Nat) "FerryHallModel" "playMinutes" "[I") ∈ lw_all := lw_g (lw_at lw_m8 205 rfl) rfl
theorem q2004 : (Jvm.Cond.lays "FerryHallModel" "FerryHallModel" "thrown" "I") ∈ lw_all := lw_g (lw_at lw_m8 206 rfl) rfl
theorem q2005 : (Jvm.Cond.soleField "FerryHallModel" "thrown") ∈ lw_all := lw_g (lw_at lw_m8 207 rfl) rfl
theorem q2006 : (Jvm.Cond.lays "FerryHallModel" "FerryHallModel" "shores" "I") ∈ lw_all := lw_g (lw_at lw_m8 208 rfl) rfl
theorem q2007 : (Jvm.Cond.soleField "FerryHallModel" "shores") ∈ lw_all := lw_g (lw_at lw_m8 209 rfl) rfl
theorem q2008 : (Jvm.Cond.lays "FerryHallModel" "FerryHallModel" "things" "I") ∈ lw_all := lw_g (lw_at lw_m8 210 rfl) rfl
theorem q2009 : (Jvm.Cond.soleField "FerryHallModel" "things") ∈ lw_all := lw_g (lw_at lw_m8 211 rfl) rfl
theorem q2010 : (Jvm.Cond.lays "FerryHallModel" "FerryHallModel" "boats" "I") ∈ lw_all := lw_g (lw_at lw_m8 212 rfl) rfl
theorem q2011 : (Jvm.Cond.soleField "FerryHallModel" "boats") ∈ lw_all := lw_g (lw_at lw_m8 213 rfl) rfl
theorem q2012 : (Jvm.Cond.lays "FerryHallModel" "FerryHallModel" "laws" "I") ∈ lw_all := lw_g (lw_at lw_m8 214 rfl) rfl
theorem q2013 : (Jvm.Cond.soleField "FerryHallModel" "laws") ∈ lw_all := lw_g (lw_at lw_m8 215 rfl) rfl
theorem q2014 : (Jvm.Cond.lays "FerryHallModel" "FerryHallModel" "lampAt" "I") ∈ lw_all := lw_g (lw_at lw_m8 216 rfl) rfl
theorem q2015 : (Jvm.Cond.soleField "FerryHallModel" "lampAt") ∈ lw_all := lw_g (lw_at lw_m8 217 rfl) rfl
theorem q2016 : (Jvm.Cond.laysFinal "FerryHallModel" "FerryHallModel" "weight" "[I") ∈ lw_all := lw_g (lw_at lw_m8 218 rfl) rfl
theorem q2017 : (Jvm.Cond.soleField "FerryHallModel" "weight") ∈ lw_all := lw_g (lw_at lw_m8 219 rfl) rfl
theorem q2018 : (Jvm.Cond.laysFinal "FerryHallModel" "FerryHallModel" "minutes" "[I") ∈ lw_all := lw_g (lw_at lw_m8 220 rfl) rfl
theorem q2019 : (Jvm.Cond.soleField "FerryHallModel" "minutes") ∈ lw_all := lw_g (lw_at lw_m8 221 rfl) rfl
theorem q2020 : (Jvm.Cond.laysFinal "FerryHallModel" "FerryHallModel" "letter" "[I") ∈ lw_all := lw_g (lw_at lw_m8 222 rfl) rfl
theorem q2021 : (Jvm.Cond.soleField "FerryHallModel" "letter") ∈ lw_all := lw_g (lw_at lw_m8 223 rfl) rfl
theorem q2022 : (Jvm.Cond.laysFinal "FerryHallModel" "FerryHallModel" "holds" "[I") ∈ lw_all := lw_g (lw_at lw_m8 224 rfl) rfl
theorem q2023 : (Jvm.Cond.soleField "FerryHallModel" "holds") ∈ lw_all := lw_g (lw_at lw_m8 225 rfl) rfl
theorem q2024 : (Jvm.Cond.laysFinal "FerryHallModel" "FerryHallModel" "loads" "[I") ∈ lw_all := lw_g (lw_at lw_m8 226 rfl) rfl
theorem q2025 : (Jvm.Cond.soleField "FerryHallModel" "loads") ∈ lw_all := lw_g (lw_at lw_m8 227 rfl) rfl
theorem q2026 : (Jvm.Cond.laysFinal "FerryHallModel" "FerryHallModel" "boatAt" "[I") ∈ lw_all := lw_g (lw_at lw_m8 228 rfl) rfl
theorem q2027 : (Jvm.Cond.soleField "FerryHallModel" "boatAt") ∈ lw_all := lw_g (lw_at lw_m8 229 rfl) rfl
theorem q2028 : (Jvm.Cond.laysFinal "FerryHallModel" "FerryHallModel" "wet" "[Z") ∈ lw_all := lw_g (lw_at lw_m8 230 rfl) rfl
theorem q2029 : (Jvm.Cond.soleField "FerryHallModel" "wet") ∈ lw_all := lw_g (lw_at lw_m8 231 rfl) rfl
theorem q2030 : (Jvm.Cond.lays "FerryHallModel" "FerryHallModel" "anyWet" "Z") ∈ lw_all := lw_g (lw_at lw_m8 232 rfl) rfl
theorem q2031 : (Jvm.Cond.soleField "FerryHallModel" "anyWet") ∈ lw_all := lw_g (lw_at lw_m8 233 rfl) rfl
theorem q2032 : (Jvm.Cond.laysFinal "FerryHallModel" "FerryHallModel" "scope" "[I") ∈ lw_all := lw_g (lw_at lw_m8 234 rfl) rfl
theorem q2033 : (Jvm.Cond.soleField "FerryHallModel" "scope") ∈ lw_all := lw_g (lw_at lw_m8 235 rfl) rfl
theorem q2034 : (Jvm.Cond.laysFinal "FerryHallModel" "FerryHallModel" "lawAt" "[I") ∈ lw_all := lw_g (lw_at lw_m8 236 rfl) rfl
theorem q2035 : (Jvm.Cond.soleField "FerryHallModel" "lawAt") ∈ lw_all := lw_g (lw_at lw_m8 237 rfl) rfl
theorem q2036 : (Jvm.Cond.laysFinal "FerryHallModel" "FerryHallModel" "code" "[I") ∈ lw_all := lw_g (lw_at lw_m8 238 rfl) rfl
theorem q2037 : (Jvm.Cond.soleField "FerryHallModel" "code") ∈ lw_all := lw_g (lw_at lw_m8 239 rfl) rfl
theorem q2038 : (Jvm.Cond.laysFinal "FerryHallModel" "FerryHallModel" "tape" "[I") ∈ lw_all := lw_g (lw_at lw_m9 0 rfl) rfl
theorem q2039 : (Jvm.Cond.soleField "FerryHallModel" "tape") ∈ lw_all := lw_g (lw_at lw_m9 1 rfl) rfl
theorem q2040 : (Jvm.Cond.lays "FerryHallModel" "FerryHallModel" "taped" "I") ∈ lw_all := lw_g (lw_at lw_m9 2 rfl) rfl
theorem q2041 : (Jvm.Cond.soleField "FerryHallModel" "taped") ∈ lw_all := lw_g (lw_at lw_m9 3 rfl) rfl
theorem q2042 : (Jvm.Cond.lays "FerryHallModel" "FerryHallModel" "faultKind" "I") ∈ lw_all := lw_g (lw_at lw_m9 4 rfl) rfl
theorem q2043 : (Jvm.Cond.soleField "FerryHallModel" "faultKind") ∈ lw_all := lw_g (lw_at lw_m9 5 rfl) rfl
theorem q2044 : (Jvm.Cond.lays "FerryHallModel" "FerryHallModel" "faultPlace" "I") ∈ lw_all := lw_g (lw_at lw_m9 6 rfl) rfl
theorem q2045 : (Jvm.Cond.soleField "FerryHallModel" "faultPlace") ∈ lw_all := lw_g (lw_at lw_m9 7 rfl) rfl
theorem q2046 : (Jvm.Cond.lays "FerryHallModel" "FerryHallModel" "size" "I") ∈ lw_all := lw_g (lw_at lw_m9 8 rfl) rfl
theorem q2047 : (Jvm.Cond.soleField "FerryHallModel" "size") ∈ lw_all := lw_g (lw_at lw_m9 9 rfl) rfl
theorem q2048 : (Jvm.Cond.lays "FerryHallModel" "FerryHallModel" "next" "I") ∈ lw_all := lw_g (lw_at lw_m9 10 rfl) rfl
theorem q2049 : (Jvm.Cond.soleField "FerryHallModel" "next") ∈ lw_all := lw_g (lw_at lw_m9 11 rfl) rfl
theorem q2050 : (Jvm.Cond.lays "FerryHallModel" "FerryHallModel" "sort" "I") ∈ lw_all := lw_g (lw_at lw_m9 12 rfl) rfl
theorem q2051 : (Jvm.Cond.soleField "FerryHallModel" "sort") ∈ lw_all := lw_g (lw_at lw_m9 13 rfl) rfl
theorem q2052 : (Jvm.Cond.lays "FerryHallModel" "FerryHallModel" "place" "I") ∈ lw_all := lw_g (lw_at lw_m9 14 rfl) rfl
theorem q2053 : (Jvm.Cond.soleField "FerryHallModel" "place") ∈ lw_all := lw_g (lw_at lw_m9 15 rfl) rfl
theorem q2054 : (Jvm.Cond.lays "FerryHallModel" "FerryHallModel" "long0" "I") ∈ lw_all := lw_g (lw_at lw_m9 16 rfl) rfl
theorem q2055 : (Jvm.Cond.soleField "FerryHallModel" "long0") ∈ lw_all := lw_g (lw_at lw_m9 17 rfl) rfl
theorem q2056 : (Jvm.Cond.lays "FerryHallModel" "FerryHallModel" "value" "I") ∈ lw_all := lw_g (lw_at lw_m9 18 rfl) rfl
theorem q2057 : (Jvm.Cond.soleField "FerryHallModel" "value") ∈ lw_all := lw_g (lw_at lw_m9 19 rfl) rfl
theorem q2058 : (Jvm.Cond.lays "FerryHallModel" "FerryHallModel" "sign" "I") ∈ lw_all := lw_g (lw_at lw_m9 20 rfl) rfl
theorem q2059 : (Jvm.Cond.soleField "FerryHallModel" "sign") ∈ lw_all := lw_g (lw_at lw_m9 21 rfl) rfl
theorem q2060 : (Jvm.Cond.lays "FerryHallModel" "FerryHallModel" "word" "J") ∈ lw_all := lw_g (lw_at lw_m9 22 rfl) rfl
theorem q2061 : (Jvm.Cond.soleField "FerryHallModel" "word") ∈ lw_all := lw_g (lw_at lw_m9 23 rfl) rfl
theorem q2062 : (Jvm.Cond.lays "FerryHallModel" "FerryHallModel" "readShores" "I") ∈ lw_all := lw_g (lw_at lw_m9 24 rfl) rfl
theorem q2063 : (Jvm.Cond.soleField "FerryHallModel" "readShores") ∈ lw_all := lw_g (lw_at lw_m9 25 rfl) rfl
theorem q2064 : (Jvm.Cond.lays "FerryHallModel" "FerryHallModel" "readThings" "I") ∈ lw_all := lw_g (lw_at lw_m9 26 rfl) rfl
theorem q2065 : (Jvm.Cond.soleField "FerryHallModel" "readThings") ∈ lw_all := lw_g (lw_at lw_m9 27 rfl) rfl
theorem q2066 : (Jvm.Cond.lays "FerryHallModel" "FerryHallModel" "readBoats" "I") ∈ lw_all := lw_g (lw_at lw_m9 28 rfl) rfl
theorem q2067 : (Jvm.Cond.soleField "FerryHallModel" "readBoats") ∈ lw_all := lw_g (lw_at lw_m9 29 rfl) rfl
theorem q2068 : (Jvm.Cond.lays "FerryHallModel" "FerryHallModel" "readLaws" "I") ∈ lw_all := lw_g (lw_at lw_m9 30 rfl) rfl
theorem q2069 : (Jvm.Cond.soleField "FerryHallModel" "readLaws") ∈ lw_all := lw_g (lw_at lw_m9 31 rfl) rfl
theorem q2070 : (Jvm.Cond.lays "FerryHallModel" "FerryHallModel" "readLamp" "I") ∈ lw_all := lw_g (lw_at lw_m9 32 rfl) rfl
theorem q2071 : (Jvm.Cond.soleField "FerryHallModel" "readLamp") ∈ lw_all := lw_g (lw_at lw_m9 33 rfl) rfl
theorem q2072 : (Jvm.Cond.lays "FerryHallModel" "FerryHallModel" "top" "I") ∈ lw_all := lw_g (lw_at lw_m9 34 rfl) rfl
theorem q2073 : (Jvm.Cond.soleField "FerryHallModel" "top") ∈ lw_all := lw_g (lw_at lw_m9 35 rfl) rfl
theorem q2074 : (Jvm.Cond.lays "FerryHallModel" "FerryHallModel" "waiting" "I") ∈ lw_all := lw_g (lw_at lw_m9 36 rfl) rfl
theorem q2075 : (Jvm.Cond.soleField "FerryHallModel" "waiting") ∈ lw_all := lw_g (lw_at lw_m9 37 rfl) rfl
theorem q2076 : (Jvm.Cond.lays "FerryHallModel" "FerryHallModel" "depth" "I") ∈ lw_all := lw_g (lw_at lw_m9 38 rfl) rfl
theorem q2077 : (Jvm.Cond.soleField "FerryHallModel" "depth") ∈ lw_all := lw_g (lw_at lw_m9 39 rfl) rfl
theorem q2078 : (Jvm.Cond.lays "FerryHallModel" "FerryHallModel" "readWet" "Z") ∈ lw_all := lw_g (lw_at lw_m9 40 rfl) rfl
theorem q2079 : (Jvm.Cond.soleField "FerryHallModel" "readWet") ∈ lw_all := lw_g (lw_at lw_m9 41 rfl) rfl
theorem q2080 : (Jvm.Cond.laysFinal "FerryHallModel" "FerryHallModel" "readWeight" "[I") ∈ lw_all := lw_g (lw_at lw_m9 42 rfl) rfl
theorem q2081 : (Jvm.Cond.soleField "FerryHallModel" "readWeight") ∈ lw_all := lw_g (lw_at lw_m9 43 rfl) rfl
theorem q2082 : (Jvm.Cond.laysFinal "FerryHallModel" "FerryHallModel" "readMinutes" "[I") ∈ lw_all := lw_g (lw_at lw_m9 44 rfl) rfl
theorem q2083 : (Jvm.Cond.soleField "FerryHallModel" "readMinutes") ∈ lw_all := lw_g (lw_at lw_m9 45 rfl) rfl
theorem q2084 : (Jvm.Cond.laysFinal "FerryHallModel" "FerryHallModel" "readLetter" "[I") ∈ lw_all := lw_g (lw_at lw_m9 46 rfl) rfl
theorem q2085 : (Jvm.Cond.soleField "FerryHallModel" "readLetter") ∈ lw_all := lw_g (lw_at lw_m9 47 rfl) rfl
theorem q2086 : (Jvm.Cond.laysFinal "FerryHallModel" "FerryHallModel" "readHolds" "[I") ∈ lw_all := lw_g (lw_at lw_m9 48 rfl) rfl
theorem q2087 : (Jvm.Cond.soleField "FerryHallModel" "readHolds") ∈ lw_all := lw_g (lw_at lw_m9 49 rfl) rfl
theorem q2088 : (Jvm.Cond.laysFinal "FerryHallModel" "FerryHallModel" "readLoads" "[I") ∈ lw_all := lw_g (lw_at lw_m9 50 rfl) rfl
theorem q2089 : (Jvm.Cond.soleField "FerryHallModel" "readLoads") ∈ lw_all := lw_g (lw_at lw_m9 51 rfl) rfl
theorem q2090 : (Jvm.Cond.laysFinal "FerryHallModel" "FerryHallModel" "readBoatAt" "[I") ∈ lw_all := lw_g (lw_at lw_m9 52 rfl) rfl
theorem q2091 : (Jvm.Cond.soleField "FerryHallModel" "readBoatAt") ∈ lw_all := lw_g (lw_at lw_m9 53 rfl) rfl
theorem q2092 : (Jvm.Cond.laysFinal "FerryHallModel" "FerryHallModel" "readScope" "[I") ∈ lw_all := lw_g (lw_at lw_m9 54 rfl) rfl
theorem q2093 : (Jvm.Cond.soleField "FerryHallModel" "readScope") ∈ lw_all := lw_g (lw_at lw_m9 55 rfl) rfl
theorem q2094 : (Jvm.Cond.laysFinal "FerryHallModel" "FerryHallModel" "readLawAt" "[I") ∈ lw_all := lw_g (lw_at lw_m9 56 rfl) rfl
theorem q2095 : (Jvm.Cond.soleField "FerryHallModel" "readLawAt") ∈ lw_all := lw_g (lw_at lw_m9 57 rfl) rfl
theorem q2096 : (Jvm.Cond.laysFinal "FerryHallModel" "FerryHallModel" "read" "[I") ∈ lw_all := lw_g (lw_at lw_m9 58 rfl) rfl
theorem q2097 : (Jvm.Cond.soleField "FerryHallModel" "read") ∈ lw_all := lw_g (lw_at lw_m9 59 rfl) rfl
theorem q2098 : (Jvm.Cond.laysFinal "FerryHallModel" "FerryHallModel" "waits" "[I") ∈ lw_all := lw_g (lw_at lw_m9 60 rfl) rfl
theorem q2099 : (Jvm.Cond.soleField "FerryHallModel" "waits") ∈ lw_all := lw_g (lw_at lw_m9 61 rfl) rfl
theorem q2100 : (Jvm.Cond.laysFinal "FerryHallModel" "FerryHallModel" "readWater" "[Z") ∈ lw_all := lw_g (lw_at lw_m9 62 rfl) rfl
theorem q2101 : (Jvm.Cond.soleField "FerryHallModel" "readWater") ∈ lw_all := lw_g (lw_at lw_m9 63 rfl) rfl
theorem q2102 : (Jvm.Cond.laysFinal "FerryHallModel" "FerryHallModel" "tested" "[Z") ∈ lw_all := lw_g (lw_at lw_m9 64 rfl) rfl
theorem q2103 : (Jvm.Cond.soleField "FerryHallModel" "tested") ∈ lw_all := lw_g (lw_at lw_m9 65 rfl) rfl
theorem q2104 : (Jvm.Cond.laysFinal "FerryHallModel" "FerryHallModel" "barred" "[I") ∈ lw_all := lw_g (lw_at lw_m9 66 rfl) rfl
theorem q2105 : (Jvm.Cond.soleField "FerryHallModel" "barred") ∈ lw_all := lw_g (lw_at lw_m9 67 rfl) rfl
theorem q2106 : (Jvm.Cond.laysFinal "FerryHallModel" "FerryHallModel" "pile" "[I") ∈ lw_all := lw_g (lw_at lw_m9 68 rfl) rfl
theorem q2107 : (Jvm.Cond.soleField "FerryHallModel" "pile") ∈ lw_all := lw_g (lw_at lw_m9 69 rfl) rfl
theorem q2108 : (Jvm.Cond.lays "FerryHallModel" "FerryHallModel" "without" "I") ∈ lw_all := lw_g (lw_at lw_m9 70 rfl) rfl
theorem q2109 : (Jvm.Cond.soleField "FerryHallModel" "without") ∈ lw_all := lw_g (lw_at lw_m9 71 rfl) rfl
theorem q2110 : (Jvm.Cond.lays "FerryHallModel" "FerryHallModel" "barring" "I") ∈ lw_all := lw_g (lw_at lw_m9 72 rfl) rfl
theorem q2111 : (Jvm.Cond.soleField "FerryHallModel" "barring") ∈ lw_all := lw_g (lw_at lw_m9 73 rfl) rfl
theorem q2112 : (Jvm.Cond.lays "FerryHallModel" "FerryHallModel" "states" "I") ∈ lw_all := lw_g (lw_at lw_m9 74 rfl) rfl
theorem q2113 : (Jvm.Cond.soleField "FerryHallModel" "states") ∈ lw_all := lw_g (lw_at lw_m9 75 rfl) rfl
theorem q2114 : (Jvm.Cond.lays "FerryHallModel" "FerryHallModel" "crossings" "I") ∈ lw_all := lw_g (lw_at lw_m9 76 rfl) rfl
theorem q2115 : (Jvm.Cond.soleField "FerryHallModel" "crossings") ∈ lw_all := lw_g (lw_at lw_m9 77 rfl) rfl
theorem q2116 : (Jvm.Cond.laysFinal "FerryHallModel" "FerryHallModel" "stateOf" "[I") ∈ lw_all := lw_g (lw_at lw_m9 78 rfl) rfl
theorem q2117 : (Jvm.Cond.soleField "FerryHallModel" "stateOf") ∈ lw_all := lw_g (lw_at lw_m9 79 rfl) rfl
theorem q2118 : (Jvm.Cond.laysFinal "FerryHallModel" "FerryHallModel" "firstOf" "[I") ∈ lw_all := lw_g (lw_at lw_m9 80 rfl) rfl
theorem q2119 : (Jvm.Cond.soleField "FerryHallModel" "firstOf") ∈ lw_all := lw_g (lw_at lw_m9 81 rfl) rfl
theorem q2120 : (Jvm.Cond.laysFinal "FerryHallModel" "FerryHallModel" "far" "[I") ∈ lw_all := lw_g (lw_at lw_m9 82 rfl) rfl
theorem q2121 : (Jvm.Cond.soleField "FerryHallModel" "far") ∈ lw_all := lw_g (lw_at lw_m9 83 rfl) rfl
theorem q2122 : (Jvm.Cond.laysFinal "FerryHallModel" "FerryHallModel" "toGoal" "[I") ∈ lw_all := lw_g (lw_at lw_m9 84 rfl) rfl
theorem q2123 : (Jvm.Cond.soleField "FerryHallModel" "toGoal") ∈ lw_all := lw_g (lw_at lw_m9 85 rfl) rfl
theorem q2124 : (Jvm.Cond.laysFinal "FerryHallModel" "FerryHallModel" "slot" "[I") ∈ lw_all := lw_g (lw_at lw_m9 86 rfl) rfl
theorem q2125 : (Jvm.Cond.soleField "FerryHallModel" "slot") ∈ lw_all := lw_g (lw_at lw_m9 87 rfl) rfl
theorem q2126 : (Jvm.Cond.laysFinal "FerryHallModel" "FerryHallModel" "edgeBoat" "[I") ∈ lw_all := lw_g (lw_at lw_m9 88 rfl) rfl
theorem q2127 : (Jvm.Cond.soleField "FerryHallModel" "edgeBoat") ∈ lw_all := lw_g (lw_at lw_m9 89 rfl) rfl
theorem q2128 : (Jvm.Cond.laysFinal "FerryHallModel" "FerryHallModel" "edgeTo" "[I") ∈ lw_all := lw_g (lw_at lw_m9 90 rfl) rfl
theorem q2129 : (Jvm.Cond.soleField "FerryHallModel" "edgeTo") ∈ lw_all := lw_g (lw_at lw_m9 91 rfl) rfl
theorem q2130 : (Jvm.Cond.laysFinal "FerryHallModel" "FerryHallModel" "edgeSet" "[I") ∈ lw_all := lw_g (lw_at lw_m9 92 rfl) rfl
theorem q2131 : (Jvm.Cond.soleField "FerryHallModel" "edgeSet") ∈ lw_all := lw_g (lw_at lw_m9 93 rfl) rfl
theorem q2132 : (Jvm.Cond.laysFinal "FerryHallModel" "FerryHallModel" "edgeState" "[I") ∈ lw_all := lw_g (lw_at lw_m9 94 rfl) rfl
theorem q2133 : (Jvm.Cond.soleField "FerryHallModel" "edgeState") ∈ lw_all := lw_g (lw_at lw_m9 95 rfl) rfl
theorem q2134 : (Jvm.Cond.laysFinal "FerryHallModel" "FerryHallModel" "cheap" "[J") ∈ lw_all := lw_g (lw_at lw_m9 96 rfl) rfl
theorem q2135 : (Jvm.Cond.soleField "FerryHallModel" "cheap") ∈ lw_all := lw_g (lw_at lw_m9 97 rfl) rfl
theorem q2136 : (Jvm.Cond.lays "FerryHallModel" "FerryHallModel" "isSpent" "Z") ∈ lw_all := lw_g (lw_at lw_m9 98 rfl) rfl
theorem q2137 : (Jvm.Cond.soleField "FerryHallModel" "isSpent") ∈ lw_all := lw_g (lw_at lw_m9 99 rfl) rfl
theorem q2138 : (Jvm.Cond.lays "FerryHallModel" "FerryHallModel" "isFirst" "Z") ∈ lw_all := lw_g (lw_at lw_m9 100 rfl) rfl
theorem q2139 : (Jvm.Cond.soleField "FerryHallModel" "isFirst") ∈ lw_all := lw_g (lw_at lw_m9 101 rfl) rfl
theorem q2140 : (Jvm.Cond.laysFinal "FerryHallModel" "FerryHallModel" "mayMany" "[I") ∈ lw_all := lw_g (lw_at lw_m9 102 rfl) rfl
theorem q2141 : (Jvm.Cond.soleField "FerryHallModel" "mayMany") ∈ lw_all := lw_g (lw_at lw_m9 103 rfl) rfl
theorem q2142 : (Jvm.Cond.laysFinal "FerryHallModel" "FerryHallModel" "may" "[I") ∈ lw_all := lw_g (lw_at lw_m9 104 rfl) rfl
theorem q2143 : (Jvm.Cond.soleField "FerryHallModel" "may") ∈ lw_all := lw_g (lw_at lw_m9 105 rfl) rfl
theorem q2144 : (Jvm.Cond.lays "FerryHallModel" "FerryHallModel" "keptMany" "I") ∈ lw_all := lw_g (lw_at lw_m9 106 rfl) rfl
theorem q2145 : (Jvm.Cond.soleField "FerryHallModel" "keptMany") ∈ lw_all := lw_g (lw_at lw_m9 107 rfl) rfl
theorem q2146 : (Jvm.Cond.lays "FerryHallModel" "FerryHallModel" "keptThings" "I") ∈ lw_all := lw_g (lw_at lw_m9 108 rfl) rfl
theorem q2147 : (Jvm.Cond.soleField "FerryHallModel" "keptThings") ∈ lw_all := lw_g (lw_at lw_m9 109 rfl) rfl
theorem q2148 : (Jvm.Cond.laysFinal "FerryHallModel" "FerryHallModel" "keptBoat" "[I") ∈ lw_all := lw_g (lw_at lw_m9 110 rfl) rfl
theorem q2149 : (Jvm.Cond.soleField "FerryHallModel" "keptBoat") ∈ lw_all := lw_g (lw_at lw_m9 111 rfl) rfl
theorem q2150 : (Jvm.Cond.laysFinal "FerryHallModel" "FerryHallModel" "keptTo" "[I") ∈ lw_all := lw_g (lw_at lw_m9 112 rfl) rfl
theorem q2151 : (Jvm.Cond.soleField "FerryHallModel" "keptTo") ∈ lw_all := lw_g (lw_at lw_m9 113 rfl) rfl
theorem q2152 : (Jvm.Cond.laysFinal "FerryHallModel" "FerryHallModel" "keptSet" "[I") ∈ lw_all := lw_g (lw_at lw_m9 114 rfl) rfl
theorem q2153 : (Jvm.Cond.soleField "FerryHallModel" "keptSet") ∈ lw_all := lw_g (lw_at lw_m9 115 rfl) rfl
theorem q2154 : (Jvm.Cond.laysFinal "FerryHallModel" "FerryHallModel" "keptMinutes" "[I") ∈ lw_all := lw_g (lw_at lw_m9 116 rfl) rfl
theorem q2155 : (Jvm.Cond.soleField "FerryHallModel" "keptMinutes") ∈ lw_all := lw_g (lw_at lw_m9 117 rfl) rfl
theorem q2156 : (Jvm.Cond.laysFinal "FerryHallModel" "FerryHallModel" "keptState" "[I") ∈ lw_all := lw_g (lw_at lw_m9 118 rfl) rfl
theorem q2157 : (Jvm.Cond.soleField "FerryHallModel" "keptState") ∈ lw_all := lw_g (lw_at lw_m9 119 rfl) rfl
theorem q2158 : (Jvm.Cond.laysFinal "FerryHallModel" "FerryHallModel" "waysOf" "[I") ∈ lw_all := lw_g (lw_at lw_m9 120 rfl) rfl
theorem q2159 : (Jvm.Cond.soleField "FerryHallModel" "waysOf") ∈ lw_all := lw_g (lw_at lw_m9 121 rfl) rfl
theorem q2160 : (Jvm.Cond.lays "FerryHallModel" "FerryHallModel" "lawsKnown" "I") ∈ lw_all := lw_g (lw_at lw_m9 122 rfl) rfl
theorem q2161 : (Jvm.Cond.soleField "FerryHallModel" "lawsKnown") ∈ lw_all := lw_g (lw_at lw_m9 123 rfl) rfl
theorem q2162 : (Jvm.Cond.lays "FerryHallModel" "FerryHallModel" "freeLaws" "I") ∈ lw_all := lw_g (lw_at lw_m9 124 rfl) rfl
theorem q2163 : (Jvm.Cond.soleField "FerryHallModel" "freeLaws") ∈ lw_all := lw_g (lw_at lw_m9 125 rfl) rfl
theorem q2164 : (Jvm.Cond.lays "FerryHallModel" "FerryHallModel" "aloneLaws" "I") ∈ lw_all := lw_g (lw_at lw_m9 126 rfl) rfl
theorem q2165 : (Jvm.Cond.soleField "FerryHallModel" "aloneLaws") ∈ lw_all := lw_g (lw_at lw_m9 127 rfl) rfl
theorem q2166 : (Jvm.Cond.laysFinal "FerryHallModel" "FerryHallModel" "sizeKnown" "[I") ∈ lw_all := lw_g (lw_at lw_m9 128 rfl) rfl
theorem q2167 : (Jvm.Cond.soleField "FerryHallModel" "sizeKnown") ∈ lw_all := lw_g (lw_at lw_m9 129 rfl) rfl
theorem q2168 : (Jvm.Cond.lays "FerryHallModel" "FerryHallModel" "roundsKnown" "I") ∈ lw_all := lw_g (lw_at lw_m9 130 rfl) rfl
theorem q2169 : (Jvm.Cond.soleField "FerryHallModel" "roundsKnown") ∈ lw_all := lw_g (lw_at lw_m9 131 rfl) rfl
theorem q2170 : (Jvm.Cond.laysFinal "FerryHallModel" "FerryHallModel" "rounds" "[I") ∈ lw_all := lw_g (lw_at lw_m9 132 rfl) rfl
theorem q2171 : (Jvm.Cond.soleField "FerryHallModel" "rounds") ∈ lw_all := lw_g (lw_at lw_m9 133 rfl) rfl
theorem q2172 : (Jvm.Cond.lays "FerryHallModel" "FerryHallModel" "made" "I") ∈ lw_all := lw_g (lw_at lw_m9 134 rfl) rfl
theorem q2173 : (Jvm.Cond.soleField "FerryHallModel" "made") ∈ lw_all := lw_g (lw_at lw_m9 135 rfl) rfl
theorem q2174 : (Jvm.Cond.lays "FerryHallModel" "FerryHallModel" "lawTold" "I") ∈ lw_all := lw_g (lw_at lw_m9 136 rfl) rfl
theorem q2175 : (Jvm.Cond.soleField "FerryHallModel" "lawTold") ∈ lw_all := lw_g (lw_at lw_m9 137 rfl) rfl
theorem q2176 : (Jvm.Cond.laysFinal "FerryHallModel" "FerryHallModel" "playState" "[I") ∈ lw_all := lw_g (lw_at lw_m9 138 rfl) rfl
theorem q2177 : (Jvm.Cond.soleField "FerryHallModel" "playState") ∈ lw_all := lw_g (lw_at lw_m9 139 rfl) rfl
theorem q2178 : (Jvm.Cond.laysFinal "FerryHallModel" "FerryHallModel" "playMinutes" "[I") ∈ lw_all := lw_g (lw_at lw_m9 140 rfl) rfl
theorem q2179 : (Jvm.Cond.soleField "FerryHallModel" "playMinutes") ∈ lw_all := lw_g (lw_at lw_m9 141 rfl) rfl
theorem q2180 : (Jvm.Cond.superclass "FerryHallModel" "java/lang/Object") ∈ lw_all := lw_g (lw_at lw_m9 142 rfl) rfl
theorem q2182 : (Jvm.Cond.instanceMethod ({ cls := "FerryHallModel", name := "thrown", desc := "()I" } : Jvm.MethodName)) ∈ lw_all := lw_g (lw_at lw_m9 144 rfl) rfl
theorem q2183 : (Jvm.Cond.selects "FerryHallModel" ({ cls := "FerryHallModel", name := "thrown", desc := "()I" } : Jvm.MethodName) ({ cls := "FerryHallModel", name := "thrown", desc := "()I" } : Jvm.MethodName)) ∈ lw_all := lw_g (lw_at lw_m9 145 rfl) rfl
theorem q2184 : (Jvm.Cond.code ({ cls := "FerryHallModel", name := "thrown", desc := "()I" } : Jvm.MethodName) prog_19_method_2_code (1 : Nat) (Option.some Jvm.ClassFile.FieldType.int)) ∈ lw_all := lw_g (lw_at lw_m9 146 rfl) rfl
theorem q2186 : (Jvm.Cond.instanceMethod ({ cls := "FerryHallModel", name := "feed", desc := "(IIIII)I" } : Jvm.MethodName)) ∈ lw_all := lw_g (lw_at lw_m9 148 rfl) rfl
theorem q2187 : (Jvm.Cond.selects "FerryHallModel" ({ cls := "FerryHallModel", name := "feed", desc := "(IIIII)I" } : Jvm.MethodName) ({ cls := "FerryHallModel", name := "feed", desc := "(IIIII)I" } : Jvm.MethodName)) ∈ lw_all := lw_g (lw_at lw_m9 149 rfl) rfl
theorem q2188 : (Jvm.Cond.code ({ cls := "FerryHallModel", name := "feed", desc := "(IIIII)I" } : Jvm.MethodName) prog_19_method_6_code (6 : Nat) (Option.some Jvm.ClassFile.FieldType.int)) ∈ lw_all := lw_g (lw_at lw_m9 150 rfl) rfl
theorem q2189 : (Jvm.Cond.methodLink "FerryHallModel" (179 : Nat) ({ cls := "FerryHallModel", name := "lays", desc := "(I)V" } : Jvm.MethodName)) ∈ lw_all := lw_g (lw_at lw_m9 151 rfl) rfl
theorem q2190 : (Jvm.Cond.privateMethod ({ cls := "FerryHallModel", name := "lays", desc := "(I)V" } : Jvm.MethodName)) ∈ lw_tbl := lw_at lw_m9 152 rfl
theorem q2191 : (Jvm.Cond.instanceMethod ({ cls := "FerryHallModel", name := "lays", desc := "(I)V" } : Jvm.MethodName)) ∈ lw_all := lw_g (lw_at lw_m9 153 rfl) rfl
theorem q2192 : (Jvm.Cond.code ({ cls := "FerryHallModel", name := "lays", desc := "(I)V" } : Jvm.MethodName) prog_19_method_7_code (3 : Nat) (Option.none : Option Jvm.ClassFile.FieldType)) ∈ lw_all := lw_g (lw_at lw_m9 154 rfl) rfl
theorem q2194 : (Jvm.Cond.instanceMethod ({ cls := "FerryHallModel", name := "text", desc := "(I)I" } : Jvm.MethodName)) ∈ lw_all := lw_g (lw_at lw_m9 156 rfl) rfl
theorem q2195 : (Jvm.Cond.selects "FerryHallModel" ({ cls := "FerryHallModel", name := "text", desc := "(I)I" } : Jvm.MethodName) ({ cls := "FerryHallModel", name := "text", desc := "(I)I" } : Jvm.MethodName)) ∈ lw_all := lw_g (lw_at lw_m9 157 rfl) rfl
theorem q2196 : (Jvm.Cond.code ({ cls := "FerryHallModel", name := "text", desc := "(I)I" } : Jvm.MethodName) prog_19_method_36_code (3 : Nat) (Option.some Jvm.ClassFile.FieldType.int)) ∈ lw_all := lw_g (lw_at lw_m9 158 rfl) rfl
theorem q2197 : (Jvm.Cond.methodLink "FerryHallModel" (328 : Nat) ({ cls := "FerryHallModel", name := "right", desc := "(ZI)Z" } : Jvm.MethodName)) ∈ lw_all := lw_g (lw_at lw_m9 159 rfl) rfl
theorem q2198 : (Jvm.Cond.privateMethod ({ cls := "FerryHallModel", name := "right", desc := "(ZI)Z" } : Jvm.MethodName)) ∈ lw_tbl := lw_at lw_m9 160 rfl
theorem q2199 : (Jvm.Cond.instanceMethod ({ cls := "FerryHallModel", name := "right", desc := "(ZI)Z" } : Jvm.MethodName)) ∈ lw_all := lw_g (lw_at lw_m9 161 rfl) rfl
theorem q2200 : (Jvm.Cond.code ({ cls := "FerryHallModel", name := "right", desc := "(ZI)Z" } : Jvm.MethodName) prog_19_method_3_code (3 : Nat) (Option.some Jvm.ClassFile.FieldType.boolean)) ∈ lw_all := lw_g (lw_at lw_m9 162 rfl) rfl
theorem q2201 : (Jvm.Cond.methodLink "FerryHallModel" (238 : Nat) ({ cls := "FerryHallModel", name := "goes", desc := "()V" } : Jvm.MethodName)) ∈ lw_all := lw_g (lw_at lw_m9 163 rfl) rfl
theorem q2202 : (Jvm.Cond.privateMethod ({ cls := "FerryHallModel", name := "goes", desc := "()V" } : Jvm.MethodName)) ∈ lw_tbl := lw_at lw_m9 164 rfl
theorem q2203 : (Jvm.Cond.instanceMethod ({ cls := "FerryHallModel", name := "goes", desc := "()V" } : Jvm.MethodName)) ∈ lw_all := lw_g (lw_at lw_m9 165 rfl) rfl
theorem q2204 : (Jvm.Cond.code ({ cls := "FerryHallModel", name := "goes", desc := "()V" } : Jvm.MethodName) prog_19_method_11_code (2 : Nat) (Option.none : Option Jvm.ClassFile.FieldType)) ∈ lw_all := lw_g (lw_at lw_m9 166 rfl) rfl
theorem q2205 : (Jvm.Cond.methodLink "FerryHallModel" (189 : Nat) ({ cls := "FerryHallModel", name := "byteAt", desc := "(I)I" } : Jvm.MethodName)) ∈ lw_all := lw_g (lw_at lw_m9 167 rfl) rfl
theorem q2206 : (Jvm.Cond.privateMethod ({ cls := "FerryHallModel", name := "byteAt", desc := "(I)I" } : Jvm.MethodName)) ∈ lw_tbl := lw_at lw_m9 168 rfl
theorem q2207 : (Jvm.Cond.instanceMethod ({ cls := "FerryHallModel", name := "byteAt", desc := "(I)I" } : Jvm.MethodName)) ∈ lw_all := lw_g (lw_at lw_m9 169 rfl) rfl
theorem q2208 : (Jvm.Cond.code ({ cls := "FerryHallModel", name := "byteAt", desc := "(I)I" } : Jvm.MethodName) prog_19_method_8_code (2 : Nat) (Option.some Jvm.ClassFile.FieldType.int)) ∈ lw_all := lw_g (lw_at lw_m9 170 rfl) rfl
theorem q2209 : (Jvm.Cond.methodLink "FerryHallModel" (209 : Nat) ({ cls := "FerryHallModel", name := "isLetter", desc := "(I)Z" } : Jvm.MethodName)) ∈ lw_all := lw_g (lw_at lw_m9 171 rfl) rfl
theorem q2210 : (Jvm.Cond.static ({ cls := "FerryHallModel", name := "isLetter", desc := "(I)Z" } : Jvm.MethodName)) ∈ lw_all := lw_g (lw_at lw_m9 172 rfl) rfl
theorem q2211 : (Jvm.Cond.code ({ cls := "FerryHallModel", name := "isLetter", desc := "(I)Z" } : Jvm.MethodName) prog_19_method_9_code (1 : Nat) (Option.some Jvm.ClassFile.FieldType.boolean)) ∈ lw_all := lw_g (lw_at lw_m9 173 rfl) rfl
theorem q2212 : (Jvm.Cond.methodLink "FerryHallModel" (213 : Nat) ({ cls := "FerryHallModel", name := "isDigit", desc := "(I)Z" } : Jvm.MethodName)) ∈ lw_all := lw_g (lw_at lw_m9 174 rfl) rfl
theorem q2213 : (Jvm.Cond.static ({ cls := "FerryHallModel", name := "isDigit", desc := "(I)Z" } : Jvm.MethodName)) ∈ lw_all := lw_g (lw_at lw_m9 175 rfl) rfl
theorem q2214 : (Jvm.Cond.code ({ cls := "FerryHallModel", name := "isDigit", desc := "(I)Z" } : Jvm.MethodName) prog_19_method_10_code (1 : Nat) (Option.some Jvm.ClassFile.FieldType.boolean)) ∈ lw_all := lw_g (lw_at lw_m9 176 rfl) rfl
theorem q2215 : (Jvm.Cond.methodLink "FerryHallModel" (234 : Nat) ({ cls := "FerryHallModel", name := "knownWord", desc := "()I" } : Jvm.MethodName)) ∈ lw_all := lw_g (lw_at lw_m9 177 rfl) rfl
theorem q2216 : (Jvm.Cond.privateMethod ({ cls := "FerryHallModel", name := "knownWord", desc := "()I" } : Jvm.MethodName)) ∈ lw_tbl := lw_at lw_m9 178 rfl
theorem q2217 : (Jvm.Cond.instanceMethod ({ cls := "FerryHallModel", name := "knownWord", desc := "()I" } : Jvm.MethodName)) ∈ lw_all := lw_g (lw_at lw_m9 179 rfl) rfl
theorem q2218 : (Jvm.Cond.code ({ cls := "FerryHallModel", name := "knownWord", desc := "()I" } : Jvm.MethodName) prog_19_method_14_code (2 : Nat) (Option.some Jvm.ClassFile.FieldType.int)) ∈ lw_all := lw_g (lw_at lw_m9 180 rfl) rfl
theorem q2219 : (Jvm.Cond.methodLink "FerryHallModel" (223 : Nat) ({ cls := "FerryHallModel", name := "letters", desc := "(I)J" } : Jvm.MethodName)) ∈ lw_all := lw_g (lw_at lw_m9 181 rfl) rfl
theorem q2220 : (Jvm.Cond.static ({ cls := "FerryHallModel", name := "letters", desc := "(I)J" } : Jvm.MethodName)) ∈ lw_all := lw_g (lw_at lw_m9 182 rfl) rfl
theorem q2221 : (Jvm.Cond.code ({ cls := "FerryHallModel", name := "letters", desc := "(I)J" } : Jvm.MethodName) prog_19_method_13_code (1 : Nat) (Option.some Jvm.ClassFile.FieldType.long)) ∈ lw_all := lw_g (lw_at lw_m9 183 rfl) rfl
theorem q2222 : (Jvm.Cond.methodLink "FerryHallModel" (219 : Nat) ({ cls := "FerryHallModel", name := "spelled", desc := "(IIIIII)J" } : Jvm.MethodName)) ∈ lw_all := lw_g (lw_at lw_m9 184 rfl) rfl
theorem q2223 : (Jvm.Cond.static ({ cls := "FerryHallModel", name := "spelled", desc := "(IIIIII)J" } : Jvm.MethodName)) ∈ lw_all := lw_g (lw_at lw_m9 185 rfl) rfl
theorem q2224 : (Jvm.Cond.code ({ cls := "FerryHallModel", name := "spelled", desc := "(IIIIII)J" } : Jvm.MethodName) prog_19_method_12_code (8 : Nat) (Option.some Jvm.ClassFile.FieldType.long)) ∈ lw_all := lw_g (lw_at lw_m9 186 rfl) rfl
theorem q2225 : (Jvm.Cond.methodLink "FerryHallModel" (256 : Nat) ({ cls := "FerryHallModel", name := "number", desc := "(II)I" } : Jvm.MethodName)) ∈ lw_all := lw_g (lw_at lw_m9 187 rfl) rfl
theorem q2226 : (Jvm.Cond.privateMethod ({ cls := "FerryHallModel", name := "number", desc := "(II)I" } : Jvm.MethodName)) ∈ lw_tbl := lw_at lw_m9 188 rfl
theorem q2227 : (Jvm.Cond.instanceMethod ({ cls := "FerryHallModel", name := "number", desc := "(II)I" } : Jvm.MethodName)) ∈ lw_all := lw_g (lw_at lw_m9 189 rfl) rfl
theorem q2228 : (Jvm.Cond.code ({ cls := "FerryHallModel", name := "number", desc := "(II)I" } : Jvm.MethodName) prog_19_method_19_code (4 : Nat) (Option.some Jvm.ClassFile.FieldType.int)) ∈ lw_all := lw_g (lw_at lw_m9 190 rfl) rfl
theorem q2229 : (Jvm.Cond.methodLink "FerryHallModel" (230 : Nat) ({ cls := "FerryHallModel", name := "isGood", desc := "()Z" } : Jvm.MethodName)) ∈ lw_all := lw_g (lw_at lw_m9 191 rfl) rfl
theorem q2230 : (Jvm.Cond.privateMethod ({ cls := "FerryHallModel", name := "isGood", desc := "()Z" } : Jvm.MethodName)) ∈ lw_tbl := lw_at lw_m9 192 rfl
theorem q2231 : (Jvm.Cond.instanceMethod ({ cls := "FerryHallModel", name := "isGood", desc := "()Z" } : Jvm.MethodName)) ∈ lw_all := lw_g (lw_at lw_m9 193 rfl) rfl
theorem q2232 : (Jvm.Cond.code ({ cls := "FerryHallModel", name := "isGood", desc := "()Z" } : Jvm.MethodName) prog_19_method_16_code (1 : Nat) (Option.some Jvm.ClassFile.FieldType.boolean)) ∈ lw_all := lw_g (lw_at lw_m9 194 rfl) rfl
theorem q2233 : (Jvm.Cond.methodLink "FerryHallModel" (241 : Nat) ({ cls := "FerryHallModel", name := "wrong", desc := "(I)V" } : Jvm.MethodName)) ∈ lw_all := lw_g (lw_at lw_m9 195 rfl) rfl
theorem q2234 : (Jvm.Cond.privateMethod ({ cls := "FerryHallModel", name := "wrong", desc := "(I)V" } : Jvm.MethodName)) ∈ lw_tbl := lw_at lw_m9 196 rfl
theorem q2235 : (Jvm.Cond.instanceMethod ({ cls := "FerryHallModel", name := "wrong", desc := "(I)V" } : Jvm.MethodName)) ∈ lw_all := lw_g (lw_at lw_m9 197 rfl) rfl
theorem q2236 : (Jvm.Cond.code ({ cls := "FerryHallModel", name := "wrong", desc := "(I)V" } : Jvm.MethodName) prog_19_method_15_code (2 : Nat) (Option.none : Option Jvm.ClassFile.FieldType)) ∈ lw_all := lw_g (lw_at lw_m9 198 rfl) rfl
theorem q2237 : (Jvm.Cond.methodLink "FerryHallModel" (295 : Nat) ({ cls := "FerryHallModel", name := "isSign", desc := "(I)Z" } : Jvm.MethodName)) ∈ lw_all := lw_g (lw_at lw_m9 199 rfl) rfl
theorem q2238 : (Jvm.Cond.privateMethod ({ cls := "FerryHallModel", name := "isSign", desc := "(I)Z" } : Jvm.MethodName)) ∈ lw_tbl := lw_at lw_m9 200 rfl
theorem q2239 : (Jvm.Cond.instanceMethod ({ cls := "FerryHallModel", name := "isSign", desc := "(I)Z" } : Jvm.MethodName)) ∈ lw_all := lw_g (lw_at lw_m9 201 rfl) rfl
theorem q2240 : (Jvm.Cond.code ({ cls := "FerryHallModel", name := "isSign", desc := "(I)Z" } : Jvm.MethodName) prog_19_method_17_code (2 : Nat) (Option.some Jvm.ClassFile.FieldType.boolean)) ∈ lw_all := lw_g (lw_at lw_m9 202 rfl) rfl
theorem q2241 : (Jvm.Cond.methodLink "FerryHallModel" (332 : Nat) ({ cls := "FerryHallModel", name := "clause", desc := "()V" } : Jvm.MethodName)) ∈ lw_all := lw_g (lw_at lw_m9 203 rfl) rfl
theorem q2242 : (Jvm.Cond.privateMethod ({ cls := "FerryHallModel", name := "clause", desc := "()V" } : Jvm.MethodName)) ∈ lw_tbl := lw_at lw_m9 204 rfl
theorem q2243 : (Jvm.Cond.instanceMethod ({ cls := "FerryHallModel", name := "clause", desc := "()V" } : Jvm.MethodName)) ∈ lw_all := lw_g (lw_at lw_m9 205 rfl) rfl
theorem q2244 : (Jvm.Cond.code ({ cls := "FerryHallModel", name := "clause", desc := "()V" } : Jvm.MethodName) prog_19_method_27_code (2 : Nat) (Option.none : Option Jvm.ClassFile.FieldType)) ∈ lw_all := lw_g (lw_at lw_m9 206 rfl) rfl
theorem q2245 : (Jvm.Cond.methodLink "FerryHallModel" (279 : Nat) ({ cls := "FerryHallModel", name := "thing", desc := "()V" } : Jvm.MethodName)) ∈ lw_all := lw_g (lw_at lw_m9 207 rfl) rfl
theorem q2246 : (Jvm.Cond.privateMethod ({ cls := "FerryHallModel", name := "thing", desc := "()V" } : Jvm.MethodName)) ∈ lw_tbl := lw_at lw_m9 208 rfl
theorem q2247 : (Jvm.Cond.instanceMethod ({ cls := "FerryHallModel", name := "thing", desc := "()V" } : Jvm.MethodName)) ∈ lw_all := lw_g (lw_at lw_m9 209 rfl) rfl
theorem q2248 : (Jvm.Cond.code ({ cls := "FerryHallModel", name := "thing", desc := "()V" } : Jvm.MethodName) prog_19_method_22_code (4 : Nat) (Option.none : Option Jvm.ClassFile.FieldType)) ∈ lw_all := lw_g (lw_at lw_m9 210 rfl) rfl
theorem q2249 : (Jvm.Cond.methodLink "FerryHallModel" (250 : Nat) ({ cls := "FerryHallModel", name := "named", desc := "(I)I" } : Jvm.MethodName)) ∈ lw_all := lw_g (lw_at lw_m9 211 rfl) rfl
theorem q2250 : (Jvm.Cond.privateMethod ({ cls := "FerryHallModel", name := "named", desc := "(I)I" } : Jvm.MethodName)) ∈ lw_tbl := lw_at lw_m9 212 rfl
theorem q2251 : (Jvm.Cond.instanceMethod ({ cls := "FerryHallModel", name := "named", desc := "(I)I" } : Jvm.MethodName)) ∈ lw_all := lw_g (lw_at lw_m9 213 rfl) rfl
theorem q2252 : (Jvm.Cond.code ({ cls := "FerryHallModel", name := "named", desc := "(I)I" } : Jvm.MethodName) prog_19_method_21_code (3 : Nat) (Option.some Jvm.ClassFile.FieldType.int)) ∈ lw_all := lw_g (lw_at lw_m9 214 rfl) rfl
theorem q2253 : (Jvm.Cond.methodLink "FerryHallModel" (253 : Nat) ({ cls := "FerryHallModel", name := "need", desc := "(I)V" } : Jvm.MethodName)) ∈ lw_all := lw_g (lw_at lw_m9 215 rfl) rfl
theorem q2254 : (Jvm.Cond.privateMethod ({ cls := "FerryHallModel", name := "need", desc := "(I)V" } : Jvm.MethodName)) ∈ lw_tbl := lw_at lw_m9 216 rfl
theorem q2255 : (Jvm.Cond.instanceMethod ({ cls := "FerryHallModel", name := "need", desc := "(I)V" } : Jvm.MethodName)) ∈ lw_all := lw_g (lw_at lw_m9 217 rfl) rfl
theorem q2256 : (Jvm.Cond.code ({ cls := "FerryHallModel", name := "need", desc := "(I)V" } : Jvm.MethodName) prog_19_method_18_code (2 : Nat) (Option.none : Option Jvm.ClassFile.FieldType)) ∈ lw_all := lw_g (lw_at lw_m9 218 rfl) rfl
theorem q2257 : (Jvm.Cond.methodLink "FerryHallModel" (282 : Nat) ({ cls := "FerryHallModel", name := "boat", desc := "()V" } : Jvm.MethodName)) ∈ lw_all := lw_g (lw_at lw_m9 219 rfl) rfl
theorem q2258 : (Jvm.Cond.privateMethod ({ cls := "FerryHallModel", name := "boat", desc := "()V" } : Jvm.MethodName)) ∈ lw_tbl := lw_at lw_m9 220 rfl
theorem q2259 : (Jvm.Cond.instanceMethod ({ cls := "FerryHallModel", name := "boat", desc := "()V" } : Jvm.MethodName)) ∈ lw_all := lw_g (lw_at lw_m9 221 rfl) rfl
theorem q2260 : (Jvm.Cond.code ({ cls := "FerryHallModel", name := "boat", desc := "()V" } : Jvm.MethodName) prog_19_method_23_code (4 : Nat) (Option.none : Option Jvm.ClassFile.FieldType)) ∈ lw_all := lw_g (lw_at lw_m9 222 rfl) rfl
theorem q2261 : (Jvm.Cond.methodLink "FerryHallModel" (263 : Nat) ({ cls := "FerryHallModel", name := "shore", desc := "(I)I" } : Jvm.MethodName)) ∈ lw_all := lw_g (lw_at lw_m9 223 rfl) rfl
theorem q2262 : (Jvm.Cond.privateMethod ({ cls := "FerryHallModel", name := "shore", desc := "(I)I" } : Jvm.MethodName)) ∈ lw_tbl := lw_at lw_m9 224 rfl
theorem q2263 : (Jvm.Cond.instanceMethod ({ cls := "FerryHallModel", name := "shore", desc := "(I)I" } : Jvm.MethodName)) ∈ lw_all := lw_g (lw_at lw_m9 225 rfl) rfl
theorem q2264 : (Jvm.Cond.code ({ cls := "FerryHallModel", name := "shore", desc := "(I)I" } : Jvm.MethodName) prog_19_method_20_code (3 : Nat) (Option.some Jvm.ClassFile.FieldType.int)) ∈ lw_all := lw_g (lw_at lw_m9 226 rfl) rfl
theorem q2265 : (Jvm.Cond.methodLink "FerryHallModel" (285 : Nat) ({ cls := "FerryHallModel", name := "water", desc := "(Z)V" } : Jvm.MethodName)) ∈ lw_all := lw_g (lw_at lw_m9 227 rfl) rfl
theorem q2266 : (Jvm.Cond.privateMethod ({ cls := "FerryHallModel", name := "water", desc := "(Z)V" } : Jvm.MethodName)) ∈ lw_tbl := lw_at lw_m9 228 rfl
theorem q2267 : (Jvm.Cond.instanceMethod ({ cls := "FerryHallModel", name := "water", desc := "(Z)V" } : Jvm.MethodName)) ∈ lw_all := lw_g (lw_at lw_m9 229 rfl) rfl
theorem q2268 : (Jvm.Cond.code ({ cls := "FerryHallModel", name := "water", desc := "(Z)V" } : Jvm.MethodName) prog_19_method_24_code (4 : Nat) (Option.none : Option Jvm.ClassFile.FieldType)) ∈ lw_all := lw_g (lw_at lw_m9 230 rfl) rfl
theorem q2269 : (Jvm.Cond.methodLink "FerryHallModel" (289 : Nat) ({ cls := "FerryHallModel", name := "lamp", desc := "()V" } : Jvm.MethodName)) ∈ lw_all := lw_g (lw_at lw_m9 231 rfl) rfl
theorem q2270 : (Jvm.Cond.privateMethod ({ cls := "FerryHallModel", name := "lamp", desc := "()V" } : Jvm.MethodName)) ∈ lw_tbl := lw_at lw_m9 232 rfl
theorem q2271 : (Jvm.Cond.instanceMethod ({ cls := "FerryHallModel", name := "lamp", desc := "()V" } : Jvm.MethodName)) ∈ lw_all := lw_g (lw_at lw_m9 233 rfl) rfl
theorem q2272 : (Jvm.Cond.code ({ cls := "FerryHallModel", name := "lamp", desc := "()V" } : Jvm.MethodName) prog_19_method_25_code (2 : Nat) (Option.none : Option Jvm.ClassFile.FieldType)) ∈ lw_all := lw_g (lw_at lw_m9 234 rfl) rfl
theorem q2273 : (Jvm.Cond.methodLink "FerryHallModel" (292 : Nat) ({ cls := "FerryHallModel", name := "never", desc := "()V" } : Jvm.MethodName)) ∈ lw_all := lw_g (lw_at lw_m9 235 rfl) rfl
theorem q2274 : (Jvm.Cond.privateMethod ({ cls := "FerryHallModel", name := "never", desc := "()V" } : Jvm.MethodName)) ∈ lw_tbl := lw_at lw_m9 236 rfl
theorem q2275 : (Jvm.Cond.instanceMethod ({ cls := "FerryHallModel", name := "never", desc := "()V" } : Jvm.MethodName)) ∈ lw_all := lw_g (lw_at lw_m9 237 rfl) rfl
theorem q2276 : (Jvm.Cond.code ({ cls := "FerryHallModel", name := "never", desc := "()V" } : Jvm.MethodName) prog_19_method_26_code (4 : Nat) (Option.none : Option Jvm.ClassFile.FieldType)) ∈ lw_all := lw_g (lw_at lw_m9 238 rfl) rfl
theorem q2277 : (Jvm.Cond.methodLink "FerryHallModel" (276 : Nat) ({ cls := "FerryHallModel", name := "expression", desc := "()I" } : Jvm.MethodName)) ∈ lw_all := lw_g (lw_at lw_m9 239 rfl) rfl
theorem q2278 : (Jvm.Cond.privateMethod ({ cls := "FerryHallModel", name := "expression", desc := "()I" } : Jvm.MethodName)) ∈ lw_tbl := lw_at lw_m10 0 rfl
theorem q2279 : (Jvm.Cond.instanceMethod ({ cls := "FerryHallModel", name := "expression", desc := "()I" } : Jvm.MethodName)) ∈ lw_all := lw_g (lw_at lw_m10 1 rfl) rfl
theorem q2280 : (Jvm.Cond.code ({ cls := "FerryHallModel", name := "expression", desc := "()I" } : Jvm.MethodName) prog_19_method_35_code (4 : Nat) (Option.some Jvm.ClassFile.FieldType.int)) ∈ lw_all := lw_g (lw_at lw_m10 2 rfl) rfl
theorem q2281 : (Jvm.Cond.methodLink "FerryHallModel" (316 : Nat) ({ cls := "FerryHallModel", name := "deeper", desc := "()V" } : Jvm.MethodName)) ∈ lw_all := lw_g (lw_at lw_m10 3 rfl) rfl
theorem q2282 : (Jvm.Cond.privateMethod ({ cls := "FerryHallModel", name := "deeper", desc := "()V" } : Jvm.MethodName)) ∈ lw_tbl := lw_at lw_m10 4 rfl
theorem q2283 : (Jvm.Cond.instanceMethod ({ cls := "FerryHallModel", name := "deeper", desc := "()V" } : Jvm.MethodName)) ∈ lw_all := lw_g (lw_at lw_m10 5 rfl) rfl
theorem q2284 : (Jvm.Cond.code ({ cls := "FerryHallModel", name := "deeper", desc := "()V" } : Jvm.MethodName) prog_19_method_33_code (1 : Nat) (Option.none : Option Jvm.ClassFile.FieldType)) ∈ lw_all := lw_g (lw_at lw_m10 6 rfl) rfl
theorem q2285 : (Jvm.Cond.methodLink "FerryHallModel" (322 : Nat) ({ cls := "FerryHallModel", name := "operand", desc := "(Z)V" } : Jvm.MethodName)) ∈ lw_all := lw_g (lw_at lw_m10 7 rfl) rfl
theorem q2286 : (Jvm.Cond.privateMethod ({ cls := "FerryHallModel", name := "operand", desc := "(Z)V" } : Jvm.MethodName)) ∈ lw_tbl := lw_at lw_m10 8 rfl
theorem q2287 : (Jvm.Cond.instanceMethod ({ cls := "FerryHallModel", name := "operand", desc := "(Z)V" } : Jvm.MethodName)) ∈ lw_all := lw_g (lw_at lw_m10 9 rfl) rfl
theorem q2288 : (Jvm.Cond.code ({ cls := "FerryHallModel", name := "operand", desc := "(Z)V" } : Jvm.MethodName) prog_19_method_34_code (5 : Nat) (Option.none : Option Jvm.ClassFile.FieldType)) ∈ lw_all := lw_g (lw_at lw_m10 10 rfl) rfl
theorem q2289 : (Jvm.Cond.methodLink "FerryHallModel" (313 : Nat) ({ cls := "FerryHallModel", name := "waitsFor", desc := "(I)V" } : Jvm.MethodName)) ∈ lw_all := lw_g (lw_at lw_m10 11 rfl) rfl
theorem q2290 : (Jvm.Cond.privateMethod ({ cls := "FerryHallModel", name := "waitsFor", desc := "(I)V" } : Jvm.MethodName)) ∈ lw_tbl := lw_at lw_m10 12 rfl
theorem q2291 : (Jvm.Cond.instanceMethod ({ cls := "FerryHallModel", name := "waitsFor", desc := "(I)V" } : Jvm.MethodName)) ∈ lw_all := lw_g (lw_at lw_m10 13 rfl) rfl
theorem q2292 : (Jvm.Cond.code ({ cls := "FerryHallModel", name := "waitsFor", desc := "(I)V" } : Jvm.MethodName) prog_19_method_31_code (2 : Nat) (Option.none : Option Jvm.ClassFile.FieldType)) ∈ lw_all := lw_g (lw_at lw_m10 14 rfl) rfl
theorem q2293 : (Jvm.Cond.methodLink "FerryHallModel" (319 : Nat) ({ cls := "FerryHallModel", name := "part", desc := "()V" } : Jvm.MethodName)) ∈ lw_all := lw_g (lw_at lw_m10 15 rfl) rfl
theorem q2294 : (Jvm.Cond.privateMethod ({ cls := "FerryHallModel", name := "part", desc := "()V" } : Jvm.MethodName)) ∈ lw_tbl := lw_at lw_m10 16 rfl
theorem q2295 : (Jvm.Cond.instanceMethod ({ cls := "FerryHallModel", name := "part", desc := "()V" } : Jvm.MethodName)) ∈ lw_all := lw_g (lw_at lw_m10 17 rfl) rfl
theorem q2296 : (Jvm.Cond.code ({ cls := "FerryHallModel", name := "part", desc := "()V" } : Jvm.MethodName) prog_19_method_32_code (3 : Nat) (Option.none : Option Jvm.ClassFile.FieldType)) ∈ lw_all := lw_g (lw_at lw_m10 18 rfl) rfl
theorem q2297 : (Jvm.Cond.methodLink "FerryHallModel" (307 : Nat) ({ cls := "FerryHallModel", name := "puts", desc := "(I)V" } : Jvm.MethodName)) ∈ lw_all := lw_g (lw_at lw_m10 19 rfl) rfl
theorem q2298 : (Jvm.Cond.privateMethod ({ cls := "FerryHallModel", name := "puts", desc := "(I)V" } : Jvm.MethodName)) ∈ lw_tbl := lw_at lw_m10 20 rfl
theorem q2299 : (Jvm.Cond.instanceMethod ({ cls := "FerryHallModel", name := "puts", desc := "(I)V" } : Jvm.MethodName)) ∈ lw_all := lw_g (lw_at lw_m10 21 rfl) rfl
theorem q2300 : (Jvm.Cond.code ({ cls := "FerryHallModel", name := "puts", desc := "(I)V" } : Jvm.MethodName) prog_19_method_28_code (2 : Nat) (Option.none : Option Jvm.ClassFile.FieldType)) ∈ lw_all := lw_g (lw_at lw_m10 22 rfl) rfl
theorem q2301 : (Jvm.Cond.methodLink "FerryHallModel" (325 : Nat) ({ cls := "FerryHallModel", name := "drops", desc := "(I)V" } : Jvm.MethodName)) ∈ lw_all := lw_g (lw_at lw_m10 23 rfl) rfl
theorem q2302 : (Jvm.Cond.privateMethod ({ cls := "FerryHallModel", name := "drops", desc := "(I)V" } : Jvm.MethodName)) ∈ lw_tbl := lw_at lw_m10 24 rfl
theorem q2303 : (Jvm.Cond.instanceMethod ({ cls := "FerryHallModel", name := "drops", desc := "(I)V" } : Jvm.MethodName)) ∈ lw_all := lw_g (lw_at lw_m10 25 rfl) rfl
theorem q2304 : (Jvm.Cond.code ({ cls := "FerryHallModel", name := "drops", desc := "(I)V" } : Jvm.MethodName) prog_19_method_30_code (2 : Nat) (Option.none : Option Jvm.ClassFile.FieldType)) ∈ lw_all := lw_g (lw_at lw_m10 26 rfl) rfl
theorem q2305 : (Jvm.Cond.methodLink "FerryHallModel" (304 : Nat) ({ cls := "FerryHallModel", name := "strength", desc := "(I)I" } : Jvm.MethodName)) ∈ lw_all := lw_g (lw_at lw_m10 27 rfl) rfl
theorem q2306 : (Jvm.Cond.static ({ cls := "FerryHallModel", name := "strength", desc := "(I)I" } : Jvm.MethodName)) ∈ lw_all := lw_g (lw_at lw_m10 28 rfl) rfl
theorem q2307 : (Jvm.Cond.code ({ cls := "FerryHallModel", name := "strength", desc := "(I)I" } : Jvm.MethodName) prog_19_method_29_code (1 : Nat) (Option.some Jvm.ClassFile.FieldType.int)) ∈ lw_all := lw_g (lw_at lw_m10 29 rfl) rfl
theorem q2308 : (Jvm.Cond.methodLink "FerryHallModel" (335 : Nat) ({ cls := "FerryHallModel", name := "takes", desc := "()V" } : Jvm.MethodName)) ∈ lw_all := lw_g (lw_at lw_m10 30 rfl) rfl
theorem q2309 : (Jvm.Cond.privateMethod ({ cls := "FerryHallModel", name := "takes", desc := "()V" } : Jvm.MethodName)) ∈ lw_tbl := lw_at lw_m10 31 rfl
theorem q2310 : (Jvm.Cond.instanceMethod ({ cls := "FerryHallModel", name := "takes", desc := "()V" } : Jvm.MethodName)) ∈ lw_all := lw_g (lw_at lw_m10 32 rfl) rfl
theorem q2311 : (Jvm.Cond.code ({ cls := "FerryHallModel", name := "takes", desc := "()V" } : Jvm.MethodName) prog_19_method_37_code (2 : Nat) (Option.none : Option Jvm.ClassFile.FieldType)) ∈ lw_all := lw_g (lw_at lw_m10 33 rfl) rfl
theorem q2313 : (Jvm.Cond.instanceMethod ({ cls := "FerryHallModel", name := "fault", desc := "()I" } : Jvm.MethodName)) ∈ lw_all := lw_g (lw_at lw_m10 35 rfl) rfl
theorem q2314 : (Jvm.Cond.selects "FerryHallModel" ({ cls := "FerryHallModel", name := "fault", desc := "()I" } : Jvm.MethodName) ({ cls := "FerryHallModel", name := "fault", desc := "()I" } : Jvm.MethodName)) ∈ lw_all := lw_g (lw_at lw_m10 36 rfl) rfl
theorem q2315 : (Jvm.Cond.code ({ cls := "FerryHallModel", name := "fault", desc := "()I" } : Jvm.MethodName) prog_19_method_38_code (1 : Nat) (Option.some Jvm.ClassFile.FieldType.int)) ∈ lw_all := lw_g (lw_at lw_m10 37 rfl) rfl
theorem q2317 : (Jvm.Cond.instanceMethod ({ cls := "FerryHallModel", name := "bars", desc := "(IIIZ)I" } : Jvm.MethodName)) ∈ lw_all := lw_g (lw_at lw_m10 39 rfl) rfl
theorem q2318 : (Jvm.Cond.selects "FerryHallModel" ({ cls := "FerryHallModel", name := "bars", desc := "(IIIZ)I" } : Jvm.MethodName) ({ cls := "FerryHallModel", name := "bars", desc := "(IIIZ)I" } : Jvm.MethodName)) ∈ lw_all := lw_g (lw_at lw_m10 40 rfl) rfl
theorem q2319 : (Jvm.Cond.code ({ cls := "FerryHallModel", name := "bars", desc := "(IIIZ)I" } : Jvm.MethodName) prog_19_method_47_code (5 : Nat) (Option.some Jvm.ClassFile.FieldType.int)) ∈ lw_all := lw_g (lw_at lw_m10 41 rfl) rfl
theorem q2320 : (Jvm.Cond.methodLink "FerryHallModel" (371 : Nat) ({ cls := "FerryHallModel", name := "isGroup", desc := "(II)Z" } : Jvm.MethodName)) ∈ lw_all := lw_g (lw_at lw_m10 42 rfl) rfl
theorem q2321 : (Jvm.Cond.privateMethod ({ cls := "FerryHallModel", name := "isGroup", desc := "(II)Z" } : Jvm.MethodName)) ∈ lw_tbl := lw_at lw_m10 43 rfl
theorem q2322 : (Jvm.Cond.instanceMethod ({ cls := "FerryHallModel", name := "isGroup", desc := "(II)Z" } : Jvm.MethodName)) ∈ lw_all := lw_g (lw_at lw_m10 44 rfl) rfl
theorem q2323 : (Jvm.Cond.code ({ cls := "FerryHallModel", name := "isGroup", desc := "(II)Z" } : Jvm.MethodName) prog_19_method_46_code (3 : Nat) (Option.some Jvm.ClassFile.FieldType.boolean)) ∈ lw_all := lw_g (lw_at lw_m10 45 rfl) rfl
theorem q2324 : (Jvm.Cond.methodLink "FerryHallModel" (375 : Nat) ({ cls := "FerryHallModel", name := "all", desc := "()I" } : Jvm.MethodName)) ∈ lw_all := lw_g (lw_at lw_m10 46 rfl) rfl
theorem q2325 : (Jvm.Cond.privateMethod ({ cls := "FerryHallModel", name := "all", desc := "()I" } : Jvm.MethodName)) ∈ lw_tbl := lw_at lw_m10 47 rfl
theorem q2326 : (Jvm.Cond.instanceMethod ({ cls := "FerryHallModel", name := "all", desc := "()I" } : Jvm.MethodName)) ∈ lw_all := lw_g (lw_at lw_m10 48 rfl) rfl
theorem q2327 : (Jvm.Cond.code ({ cls := "FerryHallModel", name := "all", desc := "()I" } : Jvm.MethodName) prog_19_method_45_code (1 : Nat) (Option.some Jvm.ClassFile.FieldType.int)) ∈ lw_all := lw_g (lw_at lw_m10 49 rfl) rfl
theorem q2328 : (Jvm.Cond.methodLink "FerryHallModel" (378 : Nat) ({ cls := "FerryHallModel", name := "barsOf", desc := "(IIII)I" } : Jvm.MethodName)) ∈ lw_all := lw_g (lw_at lw_m10 50 rfl) rfl
theorem q2329 : (Jvm.Cond.privateMethod ({ cls := "FerryHallModel", name := "barsOf", desc := "(IIII)I" } : Jvm.MethodName)) ∈ lw_tbl := lw_at lw_m10 51 rfl
theorem q2330 : (Jvm.Cond.instanceMethod ({ cls := "FerryHallModel", name := "barsOf", desc := "(IIII)I" } : Jvm.MethodName)) ∈ lw_all := lw_g (lw_at lw_m10 52 rfl) rfl
theorem q2331 : (Jvm.Cond.code ({ cls := "FerryHallModel", name := "barsOf", desc := "(IIII)I" } : Jvm.MethodName) prog_19_method_44_code (10 : Nat) (Option.some Jvm.ClassFile.FieldType.int)) ∈ lw_all := lw_g (lw_at lw_m10 53 rfl) rfl
theorem q2332 : (Jvm.Cond.methodLink "FerryHallModel" (368 : Nat) ({ cls := "FerryHallModel", name := "worth", desc := "(IIIII)I" } : Jvm.MethodName)) ∈ lw_all := lw_g (lw_at lw_m10 54 rfl) rfl
theorem q2333 : (Jvm.Cond.privateMethod ({ cls := "FerryHallModel", name := "worth", desc := "(IIIII)I" } : Jvm.MethodName)) ∈ lw_tbl := lw_at lw_m10 55 rfl
theorem q2334 : (Jvm.Cond.instanceMethod ({ cls := "FerryHallModel", name := "worth", desc := "(IIIII)I" } : Jvm.MethodName)) ∈ lw_all := lw_g (lw_at lw_m10 56 rfl) rfl
theorem q2335 : (Jvm.Cond.code ({ cls := "FerryHallModel", name := "worth", desc := "(IIIII)I" } : Jvm.MethodName) prog_19_method_43_code (9 : Nat) (Option.some Jvm.ClassFile.FieldType.int)) ∈ lw_all := lw_g (lw_at lw_m10 57 rfl) rfl
theorem q2336 : (Jvm.Cond.methodLink "FerryHallModel" (360 : Nat) ({ cls := "FerryHallModel", name := "valueOf", desc := "(IIIII)I" } : Jvm.MethodName)) ∈ lw_all := lw_g (lw_at lw_m10 58 rfl) rfl
theorem q2337 : (Jvm.Cond.privateMethod ({ cls := "FerryHallModel", name := "valueOf", desc := "(IIIII)I" } : Jvm.MethodName)) ∈ lw_tbl := lw_at lw_m10 59 rfl
theorem q2338 : (Jvm.Cond.instanceMethod ({ cls := "FerryHallModel", name := "valueOf", desc := "(IIIII)I" } : Jvm.MethodName)) ∈ lw_all := lw_g (lw_at lw_m10 60 rfl) rfl
theorem q2339 : (Jvm.Cond.code ({ cls := "FerryHallModel", name := "valueOf", desc := "(IIIII)I" } : Jvm.MethodName) prog_19_method_41_code (6 : Nat) (Option.some Jvm.ClassFile.FieldType.int)) ∈ lw_all := lw_g (lw_at lw_m10 61 rfl) rfl
theorem q2340 : (Jvm.Cond.methodLink "FerryHallModel" (350 : Nat) ({ cls := "FerryHallModel", name := "bits", desc := "(I)I" } : Jvm.MethodName)) ∈ lw_all := lw_g (lw_at lw_m10 62 rfl) rfl
theorem q2341 : (Jvm.Cond.static ({ cls := "FerryHallModel", name := "bits", desc := "(I)I" } : Jvm.MethodName)) ∈ lw_all := lw_g (lw_at lw_m10 63 rfl) rfl
theorem q2342 : (Jvm.Cond.code ({ cls := "FerryHallModel", name := "bits", desc := "(I)I" } : Jvm.MethodName) prog_19_method_5_code (3 : Nat) (Option.some Jvm.ClassFile.FieldType.int)) ∈ lw_all := lw_g (lw_at lw_m10 64 rfl) rfl
theorem q2343 : (Jvm.Cond.methodLink "FerryHallModel" (353 : Nat) ({ cls := "FerryHallModel", name := "sumOf", desc := "(I[I)I" } : Jvm.MethodName)) ∈ lw_all := lw_g (lw_at lw_m10 65 rfl) rfl
theorem q2344 : (Jvm.Cond.privateMethod ({ cls := "FerryHallModel", name := "sumOf", desc := "(I[I)I" } : Jvm.MethodName)) ∈ lw_tbl := lw_at lw_m10 66 rfl
theorem q2345 : (Jvm.Cond.instanceMethod ({ cls := "FerryHallModel", name := "sumOf", desc := "(I[I)I" } : Jvm.MethodName)) ∈ lw_all := lw_g (lw_at lw_m10 67 rfl) rfl
theorem q2346 : (Jvm.Cond.code ({ cls := "FerryHallModel", name := "sumOf", desc := "(I[I)I" } : Jvm.MethodName) prog_19_method_39_code (5 : Nat) (Option.some Jvm.ClassFile.FieldType.int)) ∈ lw_all := lw_g (lw_at lw_m10 68 rfl) rfl
theorem q2347 : (Jvm.Cond.methodLink "FerryHallModel" (357 : Nat) ({ cls := "FerryHallModel", name := "rowers", desc := "(I)I" } : Jvm.MethodName)) ∈ lw_all := lw_g (lw_at lw_m10 69 rfl) rfl
theorem q2348 : (Jvm.Cond.privateMethod ({ cls := "FerryHallModel", name := "rowers", desc := "(I)I" } : Jvm.MethodName)) ∈ lw_tbl := lw_at lw_m10 70 rfl
theorem q2349 : (Jvm.Cond.instanceMethod ({ cls := "FerryHallModel", name := "rowers", desc := "(I)I" } : Jvm.MethodName)) ∈ lw_all := lw_g (lw_at lw_m10 71 rfl) rfl
theorem q2350 : (Jvm.Cond.code ({ cls := "FerryHallModel", name := "rowers", desc := "(I)I" } : Jvm.MethodName) prog_19_method_40_code (4 : Nat) (Option.some Jvm.ClassFile.FieldType.int)) ∈ lw_all := lw_g (lw_at lw_m10 72 rfl) rfl
theorem q2351 : (Jvm.Cond.methodLink "FerryHallModel" (364 : Nat) ({ cls := "FerryHallModel", name := "works", desc := "(III)I" } : Jvm.MethodName)) ∈ lw_all := lw_g (lw_at lw_m10 73 rfl) rfl
theorem q2352 : (Jvm.Cond.static ({ cls := "FerryHallModel", name := "works", desc := "(III)I" } : Jvm.MethodName)) ∈ lw_all := lw_g (lw_at lw_m10 74 rfl) rfl
theorem q2353 : (Jvm.Cond.code ({ cls := "FerryHallModel", name := "works", desc := "(III)I" } : Jvm.MethodName) prog_19_method_42_code (3 : Nat) (Option.some Jvm.ClassFile.FieldType.int)) ∈ lw_all := lw_g (lw_at lw_m10 75 rfl) rfl
theorem q2355 : (Jvm.Cond.instanceMethod ({ cls := "FerryHallModel", name := "safe", desc := "(IIZ)I" } : Jvm.MethodName)) ∈ lw_all := lw_g (lw_at lw_m10 77 rfl) rfl
theorem q2356 : (Jvm.Cond.selects "FerryHallModel" ({ cls := "FerryHallModel", name := "safe", desc := "(IIZ)I" } : Jvm.MethodName) ({ cls := "FerryHallModel", name := "safe", desc := "(IIZ)I" } : Jvm.MethodName)) ∈ lw_all := lw_g (lw_at lw_m10 78 rfl) rfl
theorem q2357 : (Jvm.Cond.code ({ cls := "FerryHallModel", name := "safe", desc := "(IIZ)I" } : Jvm.MethodName) prog_19_method_48_code (6 : Nat) (Option.some Jvm.ClassFile.FieldType.int)) ∈ lw_all := lw_g (lw_at lw_m10 79 rfl) rfl
theorem q2359 : (Jvm.Cond.instanceMethod ({ cls := "FerryHallModel", name := "alike", desc := "(I)I" } : Jvm.MethodName)) ∈ lw_all := lw_g (lw_at lw_m10 81 rfl) rfl
theorem q2360 : (Jvm.Cond.selects "FerryHallModel" ({ cls := "FerryHallModel", name := "alike", desc := "(I)I" } : Jvm.MethodName) ({ cls := "FerryHallModel", name := "alike", desc := "(I)I" } : Jvm.MethodName)) ∈ lw_all := lw_g (lw_at lw_m10 82 rfl) rfl
theorem q2361 : (Jvm.Cond.code ({ cls := "FerryHallModel", name := "alike", desc := "(I)I" } : Jvm.MethodName) prog_19_method_49_code (4 : Nat) (Option.some Jvm.ClassFile.FieldType.int)) ∈ lw_all := lw_g (lw_at lw_m10 83 rfl) rfl
theorem q2362 : (Jvm.Cond.methodLink "FerryHallModel" (382 : Nat) ({ cls := "FerryHallModel", name := "areAlike", desc := "(II)Z" } : Jvm.MethodName)) ∈ lw_all := lw_g (lw_at lw_m10 84 rfl) rfl
theorem q2363 : (Jvm.Cond.privateMethod ({ cls := "FerryHallModel", name := "areAlike", desc := "(II)Z" } : Jvm.MethodName)) ∈ lw_tbl := lw_at lw_m10 85 rfl
theorem q2364 : (Jvm.Cond.instanceMethod ({ cls := "FerryHallModel", name := "areAlike", desc := "(II)Z" } : Jvm.MethodName)) ∈ lw_all := lw_g (lw_at lw_m10 86 rfl) rfl
theorem q2365 : (Jvm.Cond.code ({ cls := "FerryHallModel", name := "areAlike", desc := "(II)Z" } : Jvm.MethodName) prog_19_method_50_code (8 : Nat) (Option.some Jvm.ClassFile.FieldType.boolean)) ∈ lw_all := lw_g (lw_at lw_m10 87 rfl) rfl
theorem q2367 : (Jvm.Cond.instanceMethod ({ cls := "FerryHallModel", name := "count", desc := "(I)I" } : Jvm.MethodName)) ∈ lw_all := lw_g (lw_at lw_m10 89 rfl) rfl
theorem q2368 : (Jvm.Cond.selects "FerryHallModel" ({ cls := "FerryHallModel", name := "count", desc := "(I)I" } : Jvm.MethodName) ({ cls := "FerryHallModel", name := "count", desc := "(I)I" } : Jvm.MethodName)) ∈ lw_all := lw_g (lw_at lw_m10 90 rfl) rfl
theorem q2369 : (Jvm.Cond.code ({ cls := "FerryHallModel", name := "count", desc := "(I)I" } : Jvm.MethodName) prog_19_method_51_code (2 : Nat) (Option.some Jvm.ClassFile.FieldType.int)) ∈ lw_all := lw_g (lw_at lw_m10 91 rfl) rfl
theorem q2371 : (Jvm.Cond.instanceMethod ({ cls := "FerryHallModel", name := "thing", desc := "(II)I" } : Jvm.MethodName)) ∈ lw_all := lw_g (lw_at lw_m10 93 rfl) rfl
theorem q2372 : (Jvm.Cond.selects "FerryHallModel" ({ cls := "FerryHallModel", name := "thing", desc := "(II)I" } : Jvm.MethodName) ({ cls := "FerryHallModel", name := "thing", desc := "(II)I" } : Jvm.MethodName)) ∈ lw_all := lw_g (lw_at lw_m10 94 rfl) rfl
theorem q2373 : (Jvm.Cond.code ({ cls := "FerryHallModel", name := "thing", desc := "(II)I" } : Jvm.MethodName) prog_19_method_52_code (3 : Nat) (Option.some Jvm.ClassFile.FieldType.int)) ∈ lw_all := lw_g (lw_at lw_m10 95 rfl) rfl
theorem q2375 : (Jvm.Cond.instanceMethod ({ cls := "FerryHallModel", name := "boat", desc := "(II)I" } : Jvm.MethodName)) ∈ lw_all := lw_g (lw_at lw_m10 97 rfl) rfl
theorem q2376 : (Jvm.Cond.selects "FerryHallModel" ({ cls := "FerryHallModel", name := "boat", desc := "(II)I" } : Jvm.MethodName) ({ cls := "FerryHallModel", name := "boat", desc := "(II)I" } : Jvm.MethodName)) ∈ lw_all := lw_g (lw_at lw_m10 98 rfl) rfl
theorem q2377 : (Jvm.Cond.code ({ cls := "FerryHallModel", name := "boat", desc := "(II)I" } : Jvm.MethodName) prog_19_method_53_code (3 : Nat) (Option.some Jvm.ClassFile.FieldType.int)) ∈ lw_all := lw_g (lw_at lw_m10 99 rfl) rfl
theorem q2379 : (Jvm.Cond.instanceMethod ({ cls := "FerryHallModel", name := "water", desc := "(II)Z" } : Jvm.MethodName)) ∈ lw_all := lw_g (lw_at lw_m10 101 rfl) rfl
theorem q2380 : (Jvm.Cond.selects "FerryHallModel" ({ cls := "FerryHallModel", name := "water", desc := "(II)Z" } : Jvm.MethodName) ({ cls := "FerryHallModel", name := "water", desc := "(II)Z" } : Jvm.MethodName)) ∈ lw_all := lw_g (lw_at lw_m10 102 rfl) rfl
theorem q2381 : (Jvm.Cond.code ({ cls := "FerryHallModel", name := "water", desc := "(II)Z" } : Jvm.MethodName) prog_19_method_55_code (3 : Nat) (Option.some Jvm.ClassFile.FieldType.boolean)) ∈ lw_all := lw_g (lw_at lw_m10 103 rfl) rfl
theorem q2382 : (Jvm.Cond.methodLink "FerryHallModel" (388 : Nat) ({ cls := "FerryHallModel", name := "isWater", desc := "(II)Z" } : Jvm.MethodName)) ∈ lw_all := lw_g (lw_at lw_m10 104 rfl) rfl
theorem q2383 : (Jvm.Cond.privateMethod ({ cls := "FerryHallModel", name := "isWater", desc := "(II)Z" } : Jvm.MethodName)) ∈ lw_tbl := lw_at lw_m10 105 rfl
theorem q2384 : (Jvm.Cond.instanceMethod ({ cls := "FerryHallModel", name := "isWater", desc := "(II)Z" } : Jvm.MethodName)) ∈ lw_all := lw_g (lw_at lw_m10 106 rfl) rfl
theorem q2385 : (Jvm.Cond.code ({ cls := "FerryHallModel", name := "isWater", desc := "(II)Z" } : Jvm.MethodName) prog_19_method_54_code (3 : Nat) (Option.some Jvm.ClassFile.FieldType.boolean)) ∈ lw_all := lw_g (lw_at lw_m10 107 rfl) rfl
theorem q2387 : (Jvm.Cond.instanceMethod ({ cls := "FerryHallModel", name := "reached", desc := "(I)I" } : Jvm.MethodName)) ∈ lw_all := lw_g (lw_at lw_m10 109 rfl) rfl
theorem q2388 : (Jvm.Cond.selects "FerryHallModel" ({ cls := "FerryHallModel", name := "reached", desc := "(I)I" } : Jvm.MethodName) ({ cls := "FerryHallModel", name := "reached", desc := "(I)I" } : Jvm.MethodName)) ∈ lw_all := lw_g (lw_at lw_m10 110 rfl) rfl
theorem q2389 : (Jvm.Cond.code ({ cls := "FerryHallModel", name := "reached", desc := "(I)I" } : Jvm.MethodName) prog_19_method_72_code (5 : Nat) (Option.some Jvm.ClassFile.FieldType.int)) ∈ lw_all := lw_g (lw_at lw_m10 111 rfl) rfl
theorem q2390 : (Jvm.Cond.methodLink "FerryHallModel" (452 : Nat) ({ cls := "FerryHallModel", name := "finds", desc := "()Z" } : Jvm.MethodName)) ∈ lw_all := lw_g (lw_at lw_m10 112 rfl) rfl
theorem q2391 : (Jvm.Cond.privateMethod ({ cls := "FerryHallModel", name := "finds", desc := "()Z" } : Jvm.MethodName)) ∈ lw_tbl := lw_at lw_m10 113 rfl
theorem q2392 : (Jvm.Cond.instanceMethod ({ cls := "FerryHallModel", name := "finds", desc := "()Z" } : Jvm.MethodName)) ∈ lw_all := lw_g (lw_at lw_m10 114 rfl) rfl
theorem q2393 : (Jvm.Cond.code ({ cls := "FerryHallModel", name := "finds", desc := "()Z" } : Jvm.MethodName) prog_19_method_71_code (2 : Nat) (Option.some Jvm.ClassFile.FieldType.boolean)) ∈ lw_all := lw_g (lw_at lw_m10 115 rfl) rfl
theorem q2394 : (Jvm.Cond.methodLink "FerryHallModel" (446 : Nat) ({ cls := "FerryHallModel", name := "explores", desc := "(I)Z" } : Jvm.MethodName)) ∈ lw_all := lw_g (lw_at lw_m10 116 rfl) rfl
theorem q2395 : (Jvm.Cond.privateMethod ({ cls := "FerryHallModel", name := "explores", desc := "(I)Z" } : Jvm.MethodName)) ∈ lw_tbl := lw_at lw_m10 117 rfl
theorem q2396 : (Jvm.Cond.instanceMethod ({ cls := "FerryHallModel", name := "explores", desc := "(I)Z" } : Jvm.MethodName)) ∈ lw_all := lw_g (lw_at lw_m10 118 rfl) rfl
theorem q2397 : (Jvm.Cond.code ({ cls := "FerryHallModel", name := "explores", desc := "(I)Z" } : Jvm.MethodName) prog_19_method_68_code (6 : Nat) (Option.some Jvm.ClassFile.FieldType.boolean)) ∈ lw_all := lw_g (lw_at lw_m10 119 rfl) rfl
theorem q2398 : (Jvm.Cond.methodLink "FerryHallModel" (432 : Nat) ({ cls := "FerryHallModel", name := "sets", desc := "()V" } : Jvm.MethodName)) ∈ lw_all := lw_g (lw_at lw_m10 120 rfl) rfl
theorem q2399 : (Jvm.Cond.privateMethod ({ cls := "FerryHallModel", name := "sets", desc := "()V" } : Jvm.MethodName)) ∈ lw_tbl := lw_at lw_m10 121 rfl
theorem q2400 : (Jvm.Cond.instanceMethod ({ cls := "FerryHallModel", name := "sets", desc := "()V" } : Jvm.MethodName)) ∈ lw_all := lw_g (lw_at lw_m10 122 rfl) rfl
theorem q2401 : (Jvm.Cond.code ({ cls := "FerryHallModel", name := "sets", desc := "()V" } : Jvm.MethodName) prog_19_method_67_code (3 : Nat) (Option.none : Option Jvm.ClassFile.FieldType)) ∈ lw_all := lw_g (lw_at lw_m10 123 rfl) rfl
theorem q2402 : (Jvm.Cond.methodLink "FerryHallModel" (435 : Nat) ({ cls := "FerryHallModel", name := "numberOf", desc := "(I)I" } : Jvm.MethodName)) ∈ lw_all := lw_g (lw_at lw_m10 124 rfl) rfl
theorem q2403 : (Jvm.Cond.privateMethod ({ cls := "FerryHallModel", name := "numberOf", desc := "(I)I" } : Jvm.MethodName)) ∈ lw_tbl := lw_at lw_m10 125 rfl
theorem q2404 : (Jvm.Cond.instanceMethod ({ cls := "FerryHallModel", name := "numberOf", desc := "(I)I" } : Jvm.MethodName)) ∈ lw_all := lw_g (lw_at lw_m10 126 rfl) rfl
theorem q2405 : (Jvm.Cond.code ({ cls := "FerryHallModel", name := "numberOf", desc := "(I)I" } : Jvm.MethodName) prog_19_method_66_code (3 : Nat) (Option.some Jvm.ClassFile.FieldType.int)) ∈ lw_all := lw_g (lw_at lw_m10 127 rfl) rfl
theorem q2406 : (Jvm.Cond.methodLink "FerryHallModel" (410 : Nat) ({ cls := "FerryHallModel", name := "barsShores", desc := "(IIIZ)I" } : Jvm.MethodName)) ∈ lw_all := lw_g (lw_at lw_m10 128 rfl) rfl
theorem q2407 : (Jvm.Cond.privateMethod ({ cls := "FerryHallModel", name := "barsShores", desc := "(IIIZ)I" } : Jvm.MethodName)) ∈ lw_tbl := lw_at lw_m10 129 rfl
theorem q2408 : (Jvm.Cond.instanceMethod ({ cls := "FerryHallModel", name := "barsShores", desc := "(IIIZ)I" } : Jvm.MethodName)) ∈ lw_all := lw_g (lw_at lw_m10 130 rfl) rfl
theorem q2409 : (Jvm.Cond.code ({ cls := "FerryHallModel", name := "barsShores", desc := "(IIIZ)I" } : Jvm.MethodName) prog_19_method_61_code (9 : Nat) (Option.some Jvm.ClassFile.FieldType.int)) ∈ lw_all := lw_g (lw_at lw_m10 131 rfl) rfl
theorem q2410 : (Jvm.Cond.methodLink "FerryHallModel" (394 : Nat) ({ cls := "FerryHallModel", name := "boatIn", desc := "(II)I" } : Jvm.MethodName)) ∈ lw_all := lw_g (lw_at lw_m10 132 rfl) rfl
theorem q2411 : (Jvm.Cond.static ({ cls := "FerryHallModel", name := "boatIn", desc := "(II)I" } : Jvm.MethodName)) ∈ lw_all := lw_g (lw_at lw_m10 133 rfl) rfl
theorem q2412 : (Jvm.Cond.code ({ cls := "FerryHallModel", name := "boatIn", desc := "(II)I" } : Jvm.MethodName) prog_19_method_58_code (2 : Nat) (Option.some Jvm.ClassFile.FieldType.int)) ∈ lw_all := lw_g (lw_at lw_m10 134 rfl) rfl
theorem q2413 : (Jvm.Cond.methodLink "FerryHallModel" (391 : Nat) ({ cls := "FerryHallModel", name := "setAt", desc := "(II)I" } : Jvm.MethodName)) ∈ lw_all := lw_g (lw_at lw_m10 135 rfl) rfl
theorem q2414 : (Jvm.Cond.privateMethod ({ cls := "FerryHallModel", name := "setAt", desc := "(II)I" } : Jvm.MethodName)) ∈ lw_tbl := lw_at lw_m10 136 rfl
theorem q2415 : (Jvm.Cond.instanceMethod ({ cls := "FerryHallModel", name := "setAt", desc := "(II)I" } : Jvm.MethodName)) ∈ lw_all := lw_g (lw_at lw_m10 137 rfl) rfl
theorem q2416 : (Jvm.Cond.code ({ cls := "FerryHallModel", name := "setAt", desc := "(II)I" } : Jvm.MethodName) prog_19_method_57_code (5 : Nat) (Option.some Jvm.ClassFile.FieldType.int)) ∈ lw_all := lw_g (lw_at lw_m10 138 rfl) rfl
theorem q2417 : (Jvm.Cond.methodLink "FerryHallModel" (397 : Nat) ({ cls := "FerryHallModel", name := "keeps", desc := "(I)I" } : Jvm.MethodName)) ∈ lw_all := lw_g (lw_at lw_m10 139 rfl) rfl
theorem q2418 : (Jvm.Cond.privateMethod ({ cls := "FerryHallModel", name := "keeps", desc := "(I)I" } : Jvm.MethodName)) ∈ lw_tbl := lw_at lw_m10 140 rfl
theorem q2419 : (Jvm.Cond.instanceMethod ({ cls := "FerryHallModel", name := "keeps", desc := "(I)I" } : Jvm.MethodName)) ∈ lw_all := lw_g (lw_at lw_m10 141 rfl) rfl
theorem q2420 : (Jvm.Cond.code ({ cls := "FerryHallModel", name := "keeps", desc := "(I)I" } : Jvm.MethodName) prog_19_method_60_code (2 : Nat) (Option.some Jvm.ClassFile.FieldType.int)) ∈ lw_all := lw_g (lw_at lw_m10 142 rfl) rfl
theorem q2421 : (Jvm.Cond.methodLink "FerryHallModel" (438 : Nat) ({ cls := "FerryHallModel", name := "goesBy", desc := "(III)V" } : Jvm.MethodName)) ∈ lw_all := lw_g (lw_at lw_m10 143 rfl) rfl
theorem q2422 : (Jvm.Cond.privateMethod ({ cls := "FerryHallModel", name := "goesBy", desc := "(III)V" } : Jvm.MethodName)) ∈ lw_tbl := lw_at lw_m10 144 rfl
theorem q2423 : (Jvm.Cond.instanceMethod ({ cls := "FerryHallModel", name := "goesBy", desc := "(III)V" } : Jvm.MethodName)) ∈ lw_all := lw_g (lw_at lw_m10 145 rfl) rfl
theorem q2424 : (Jvm.Cond.code ({ cls := "FerryHallModel", name := "goesBy", desc := "(III)V" } : Jvm.MethodName) prog_19_method_69_code (12 : Nat) (Option.none : Option Jvm.ClassFile.FieldType)) ∈ lw_all := lw_g (lw_at lw_m10 146 rfl) rfl
theorem q2425 : (Jvm.Cond.methodLink "FerryHallModel" (414 : Nat) ({ cls := "FerryHallModel", name := "aboard", desc := "(I)I" } : Jvm.MethodName)) ∈ lw_all := lw_g (lw_at lw_m10 147 rfl) rfl
theorem q2426 : (Jvm.Cond.privateMethod ({ cls := "FerryHallModel", name := "aboard", desc := "(I)I" } : Jvm.MethodName)) ∈ lw_tbl := lw_at lw_m10 148 rfl
theorem q2427 : (Jvm.Cond.instanceMethod ({ cls := "FerryHallModel", name := "aboard", desc := "(I)I" } : Jvm.MethodName)) ∈ lw_all := lw_g (lw_at lw_m10 149 rfl) rfl
theorem q2428 : (Jvm.Cond.code ({ cls := "FerryHallModel", name := "aboard", desc := "(I)I" } : Jvm.MethodName) prog_19_method_64_code (2 : Nat) (Option.some Jvm.ClassFile.FieldType.int)) ∈ lw_all := lw_g (lw_at lw_m10 150 rfl) rfl
theorem q2429 : (Jvm.Cond.methodLink "FerryHallModel" (417 : Nat) ({ cls := "FerryHallModel", name := "behind", desc := "(IIII)I" } : Jvm.MethodName)) ∈ lw_all := lw_g (lw_at lw_m10 151 rfl) rfl
theorem q2430 : (Jvm.Cond.privateMethod ({ cls := "FerryHallModel", name := "behind", desc := "(IIII)I" } : Jvm.MethodName)) ∈ lw_tbl := lw_at lw_m10 152 rfl
theorem q2431 : (Jvm.Cond.instanceMethod ({ cls := "FerryHallModel", name := "behind", desc := "(IIII)I" } : Jvm.MethodName)) ∈ lw_all := lw_g (lw_at lw_m10 153 rfl) rfl
theorem q2432 : (Jvm.Cond.code ({ cls := "FerryHallModel", name := "behind", desc := "(IIII)I" } : Jvm.MethodName) prog_19_method_62_code (7 : Nat) (Option.some Jvm.ClassFile.FieldType.int)) ∈ lw_all := lw_g (lw_at lw_m10 154 rfl) rfl
theorem q2433 : (Jvm.Cond.constant "FerryHallModel" (400 : Nat) (-3145729 : Int32)) ∈ lw_all := lw_g (lw_at lw_m10 155 rfl) rfl
theorem q2434 : (Jvm.Cond.constant "FerryHallModel" (442 : Nat) (40000 : Int32)) ∈ lw_all := lw_g (lw_at lw_m10 156 rfl) rfl
theorem q2435 : (Jvm.Cond.methodLink "FerryHallModel" (449 : Nat) ({ cls := "FerryHallModel", name := "measures", desc := "()V" } : Jvm.MethodName)) ∈ lw_all := lw_g (lw_at lw_m10 157 rfl) rfl
theorem q2436 : (Jvm.Cond.privateMethod ({ cls := "FerryHallModel", name := "measures", desc := "()V" } : Jvm.MethodName)) ∈ lw_tbl := lw_at lw_m10 158 rfl
theorem q2437 : (Jvm.Cond.instanceMethod ({ cls := "FerryHallModel", name := "measures", desc := "()V" } : Jvm.MethodName)) ∈ lw_all := lw_g (lw_at lw_m10 159 rfl) rfl
theorem q2438 : (Jvm.Cond.code ({ cls := "FerryHallModel", name := "measures", desc := "()V" } : Jvm.MethodName) prog_19_method_70_code (6 : Nat) (Option.none : Option Jvm.ClassFile.FieldType)) ∈ lw_all := lw_g (lw_at lw_m10 160 rfl) rfl
theorem q2439 : (Jvm.Cond.methodLink "FerryHallModel" (443 : Nat) ({ cls := "FerryHallModel", name := "isGoal", desc := "(I)Z" } : Jvm.MethodName)) ∈ lw_all := lw_g (lw_at lw_m10 161 rfl) rfl
theorem q2440 : (Jvm.Cond.privateMethod ({ cls := "FerryHallModel", name := "isGoal", desc := "(I)Z" } : Jvm.MethodName)) ∈ lw_tbl := lw_at lw_m10 162 rfl
theorem q2441 : (Jvm.Cond.instanceMethod ({ cls := "FerryHallModel", name := "isGoal", desc := "(I)Z" } : Jvm.MethodName)) ∈ lw_all := lw_g (lw_at lw_m10 163 rfl) rfl
theorem q2442 : (Jvm.Cond.code ({ cls := "FerryHallModel", name := "isGoal", desc := "(I)Z" } : Jvm.MethodName) prog_19_method_59_code (2 : Nat) (Option.some Jvm.ClassFile.FieldType.boolean)) ∈ lw_all := lw_g (lw_at lw_m10 164 rfl) rfl
theorem q2444 : (Jvm.Cond.instanceMethod ({ cls := "FerryHallModel", name := "fewest", desc := "()I" } : Jvm.MethodName)) ∈ lw_all := lw_g (lw_at lw_m10 166 rfl) rfl
theorem q2445 : (Jvm.Cond.selects "FerryHallModel" ({ cls := "FerryHallModel", name := "fewest", desc := "()I" } : Jvm.MethodName) ({ cls := "FerryHallModel", name := "fewest", desc := "()I" } : Jvm.MethodName)) ∈ lw_all := lw_g (lw_at lw_m10 167 rfl) rfl
theorem q2446 : (Jvm.Cond.code ({ cls := "FerryHallModel", name := "fewest", desc := "()I" } : Jvm.MethodName) prog_19_method_76_code (3 : Nat) (Option.some Jvm.ClassFile.FieldType.int)) ∈ lw_all := lw_g (lw_at lw_m10 168 rfl) rfl
theorem q2447 : (Jvm.Cond.methodLink "FerryHallModel" (464 : Nat) ({ cls := "FerryHallModel", name := "startsWay", desc := "(I)V" } : Jvm.MethodName)) ∈ lw_all := lw_g (lw_at lw_m10 169 rfl) rfl
theorem q2448 : (Jvm.Cond.privateMethod ({ cls := "FerryHallModel", name := "startsWay", desc := "(I)V" } : Jvm.MethodName)) ∈ lw_tbl := lw_at lw_m10 170 rfl
theorem q2449 : (Jvm.Cond.instanceMethod ({ cls := "FerryHallModel", name := "startsWay", desc := "(I)V" } : Jvm.MethodName)) ∈ lw_all := lw_g (lw_at lw_m10 171 rfl) rfl
theorem q2450 : (Jvm.Cond.code ({ cls := "FerryHallModel", name := "startsWay", desc := "(I)V" } : Jvm.MethodName) prog_19_method_74_code (2 : Nat) (Option.none : Option Jvm.ClassFile.FieldType)) ∈ lw_all := lw_g (lw_at lw_m10 172 rfl) rfl
theorem q2451 : (Jvm.Cond.methodLink "FerryHallModel" (467 : Nat) ({ cls := "FerryHallModel", name := "keepsEdge", desc := "(I)V" } : Jvm.MethodName)) ∈ lw_all := lw_g (lw_at lw_m10 173 rfl) rfl
theorem q2452 : (Jvm.Cond.privateMethod ({ cls := "FerryHallModel", name := "keepsEdge", desc := "(I)V" } : Jvm.MethodName)) ∈ lw_tbl := lw_at lw_m10 174 rfl
theorem q2453 : (Jvm.Cond.instanceMethod ({ cls := "FerryHallModel", name := "keepsEdge", desc := "(I)V" } : Jvm.MethodName)) ∈ lw_all := lw_g (lw_at lw_m10 175 rfl) rfl
theorem q2454 : (Jvm.Cond.code ({ cls := "FerryHallModel", name := "keepsEdge", desc := "(I)V" } : Jvm.MethodName) prog_19_method_75_code (2 : Nat) (Option.none : Option Jvm.ClassFile.FieldType)) ∈ lw_all := lw_g (lw_at lw_m10 176 rfl) rfl
theorem q2455 : (Jvm.Cond.methodLink "FerryHallModel" (461 : Nat) ({ cls := "FerryHallModel", name := "minutesOf", desc := "(I)I" } : Jvm.MethodName)) ∈ lw_all := lw_g (lw_at lw_m10 177 rfl) rfl
theorem q2456 : (Jvm.Cond.privateMethod ({ cls := "FerryHallModel", name := "minutesOf", desc := "(I)I" } : Jvm.MethodName)) ∈ lw_tbl := lw_at lw_m10 178 rfl
theorem q2457 : (Jvm.Cond.instanceMethod ({ cls := "FerryHallModel", name := "minutesOf", desc := "(I)I" } : Jvm.MethodName)) ∈ lw_all := lw_g (lw_at lw_m10 179 rfl) rfl
theorem q2458 : (Jvm.Cond.code ({ cls := "FerryHallModel", name := "minutesOf", desc := "(I)I" } : Jvm.MethodName) prog_19_method_73_code (4 : Nat) (Option.some Jvm.ClassFile.FieldType.int)) ∈ lw_all := lw_g (lw_at lw_m10 180 rfl) rfl
theorem q2460 : (Jvm.Cond.instanceMethod ({ cls := "FerryHallModel", name := "quickest", desc := "()I" } : Jvm.MethodName)) ∈ lw_all := lw_g (lw_at lw_m10 182 rfl) rfl
theorem q2461 : (Jvm.Cond.selects "FerryHallModel" ({ cls := "FerryHallModel", name := "quickest", desc := "()I" } : Jvm.MethodName) ({ cls := "FerryHallModel", name := "quickest", desc := "()I" } : Jvm.MethodName)) ∈ lw_all := lw_g (lw_at lw_m10 183 rfl) rfl
theorem q2462 : (Jvm.Cond.code ({ cls := "FerryHallModel", name := "quickest", desc := "()I" } : Jvm.MethodName) prog_19_method_78_code (4 : Nat) (Option.some Jvm.ClassFile.FieldType.int)) ∈ lw_all := lw_g (lw_at lw_m10 184 rfl) rfl
theorem q2463 : (Jvm.Cond.methodLink "FerryHallModel" (474 : Nat) ({ cls := "FerryHallModel", name := "prices", desc := "()V" } : Jvm.MethodName)) ∈ lw_all := lw_g (lw_at lw_m10 185 rfl) rfl
theorem q2464 : (Jvm.Cond.privateMethod ({ cls := "FerryHallModel", name := "prices", desc := "()V" } : Jvm.MethodName)) ∈ lw_tbl := lw_at lw_m10 186 rfl
theorem q2465 : (Jvm.Cond.instanceMethod ({ cls := "FerryHallModel", name := "prices", desc := "()V" } : Jvm.MethodName)) ∈ lw_all := lw_g (lw_at lw_m10 187 rfl) rfl
theorem q2466 : (Jvm.Cond.code ({ cls := "FerryHallModel", name := "prices", desc := "()V" } : Jvm.MethodName) prog_19_method_77_code (8 : Nat) (Option.none : Option Jvm.ClassFile.FieldType)) ∈ lw_all := lw_g (lw_at lw_m10 188 rfl) rfl
theorem q2467 : (Jvm.Cond.constantLong "FerryHallModel" (470 : Nat) (-1 : Int64)) ∈ lw_all := lw_g (lw_at lw_m10 189 rfl) rfl
theorem q2468 : (Jvm.Cond.constantLong "FerryHallModel" (472 : Nat) (100000 : Int64)) ∈ lw_all := lw_g (lw_at lw_m10 190 rfl) rfl
theorem q2470 : (Jvm.Cond.instanceMethod ({ cls := "FerryHallModel", name := "ways", desc := "()I" } : Jvm.MethodName)) ∈ lw_all := lw_g (lw_at lw_m10 192 rfl) rfl
theorem q2471 : (Jvm.Cond.selects "FerryHallModel" ({ cls := "FerryHallModel", name := "ways", desc := "()I" } : Jvm.MethodName) ({ cls := "FerryHallModel", name := "ways", desc := "()I" } : Jvm.MethodName)) ∈ lw_all := lw_g (lw_at lw_m10 193 rfl) rfl
theorem q2472 : (Jvm.Cond.code ({ cls := "FerryHallModel", name := "ways", desc := "()I" } : Jvm.MethodName) prog_19_method_79_code (4 : Nat) (Option.some Jvm.ClassFile.FieldType.int)) ∈ lw_all := lw_g (lw_at lw_m10 194 rfl) rfl
theorem q2473 : (Jvm.Cond.constant "FerryHallModel" (477 : Nat) (1000000000 : Int32)) ∈ lw_all := lw_g (lw_at lw_m10 195 rfl) rfl
theorem q2475 : (Jvm.Cond.instanceMethod ({ cls := "FerryHallModel", name := "way", desc := "(II)I" } : Jvm.MethodName)) ∈ lw_all := lw_g (lw_at lw_m10 197 rfl) rfl
theorem q2476 : (Jvm.Cond.selects "FerryHallModel" ({ cls := "FerryHallModel", name := "way", desc := "(II)I" } : Jvm.MethodName) ({ cls := "FerryHallModel", name := "way", desc := "(II)I" } : Jvm.MethodName)) ∈ lw_all := lw_g (lw_at lw_m10 198 rfl) rfl
theorem q2477 : (Jvm.Cond.code ({ cls := "FerryHallModel", name := "way", desc := "(II)I" } : Jvm.MethodName) prog_19_method_80_code (5 : Nat) (Option.some Jvm.ClassFile.FieldType.int)) ∈ lw_all := lw_g (lw_at lw_m10 199 rfl) rfl
theorem q2479 : (Jvm.Cond.instanceMethod ({ cls := "FerryHallModel", name := "where", desc := "(II)I" } : Jvm.MethodName)) ∈ lw_all := lw_g (lw_at lw_m10 201 rfl) rfl
theorem q2480 : (Jvm.Cond.selects "FerryHallModel" ({ cls := "FerryHallModel", name := "where", desc := "(II)I" } : Jvm.MethodName) ({ cls := "FerryHallModel", name := "where", desc := "(II)I" } : Jvm.MethodName)) ∈ lw_all := lw_g (lw_at lw_m10 202 rfl) rfl
theorem q2481 : (Jvm.Cond.code ({ cls := "FerryHallModel", name := "where", desc := "(II)I" } : Jvm.MethodName) prog_19_method_81_code (3 : Nat) (Option.some Jvm.ClassFile.FieldType.int)) ∈ lw_all := lw_g (lw_at lw_m10 203 rfl) rfl
theorem q2483 : (Jvm.Cond.instanceMethod ({ cls := "FerryHallModel", name := "rides", desc := "(II)I" } : Jvm.MethodName)) ∈ lw_all := lw_g (lw_at lw_m10 205 rfl) rfl
theorem q2484 : (Jvm.Cond.selects "FerryHallModel" ({ cls := "FerryHallModel", name := "rides", desc := "(II)I" } : Jvm.MethodName) ({ cls := "FerryHallModel", name := "rides", desc := "(II)I" } : Jvm.MethodName)) ∈ lw_all := lw_g (lw_at lw_m10 206 rfl) rfl
theorem q2485 : (Jvm.Cond.code ({ cls := "FerryHallModel", name := "rides", desc := "(II)I" } : Jvm.MethodName) prog_19_method_82_code (7 : Nat) (Option.some Jvm.ClassFile.FieldType.int)) ∈ lw_all := lw_g (lw_at lw_m10 207 rfl) rfl
theorem q2487 : (Jvm.Cond.instanceMethod ({ cls := "FerryHallModel", name := "laws", desc := "(I)I" } : Jvm.MethodName)) ∈ lw_all := lw_g (lw_at lw_m10 209 rfl) rfl
theorem q2488 : (Jvm.Cond.selects "FerryHallModel" ({ cls := "FerryHallModel", name := "laws", desc := "(I)I" } : Jvm.MethodName) ({ cls := "FerryHallModel", name := "laws", desc := "(I)I" } : Jvm.MethodName)) ∈ lw_all := lw_g (lw_at lw_m10 210 rfl) rfl
theorem q2489 : (Jvm.Cond.code ({ cls := "FerryHallModel", name := "laws", desc := "(I)I" } : Jvm.MethodName) prog_19_method_84_code (2 : Nat) (Option.some Jvm.ClassFile.FieldType.int)) ∈ lw_all := lw_g (lw_at lw_m10 211 rfl) rfl
theorem q2490 : (Jvm.Cond.methodLink "FerryHallModel" (481 : Nat) ({ cls := "FerryHallModel", name := "triesLaws", desc := "()Z" } : Jvm.MethodName)) ∈ lw_all := lw_g (lw_at lw_m10 212 rfl) rfl
theorem q2491 : (Jvm.Cond.privateMethod ({ cls := "FerryHallModel", name := "triesLaws", desc := "()Z" } : Jvm.MethodName)) ∈ lw_tbl := lw_at lw_m10 213 rfl
theorem q2492 : (Jvm.Cond.instanceMethod ({ cls := "FerryHallModel", name := "triesLaws", desc := "()Z" } : Jvm.MethodName)) ∈ lw_all := lw_g (lw_at lw_m10 214 rfl) rfl
theorem q2493 : (Jvm.Cond.code ({ cls := "FerryHallModel", name := "triesLaws", desc := "()Z" } : Jvm.MethodName) prog_19_method_85_code (5 : Nat) (Option.some Jvm.ClassFile.FieldType.boolean)) ∈ lw_all := lw_g (lw_at lw_m10 215 rfl) rfl
theorem q2494 : (Jvm.Cond.methodLink "FerryHallModel" (490 : Nat) ({ cls := "FerryHallModel", name := "seeks", desc := "(I)I" } : Jvm.MethodName)) ∈ lw_all := lw_g (lw_at lw_m10 216 rfl) rfl
theorem q2495 : (Jvm.Cond.privateMethod ({ cls := "FerryHallModel", name := "seeks", desc := "(I)I" } : Jvm.MethodName)) ∈ lw_tbl := lw_at lw_m10 217 rfl
theorem q2496 : (Jvm.Cond.instanceMethod ({ cls := "FerryHallModel", name := "seeks", desc := "(I)I" } : Jvm.MethodName)) ∈ lw_all := lw_g (lw_at lw_m10 218 rfl) rfl
theorem q2497 : (Jvm.Cond.code ({ cls := "FerryHallModel", name := "seeks", desc := "(I)I" } : Jvm.MethodName) prog_19_method_83_code (2 : Nat) (Option.some Jvm.ClassFile.FieldType.int)) ∈ lw_all := lw_g (lw_at lw_m10 219 rfl) rfl
theorem q2499 : (Jvm.Cond.instanceMethod ({ cls := "FerryHallModel", name := "size", desc := "(I)I" } : Jvm.MethodName)) ∈ lw_all := lw_g (lw_at lw_m10 221 rfl) rfl
theorem q2500 : (Jvm.Cond.selects "FerryHallModel" ({ cls := "FerryHallModel", name := "size", desc := "(I)I" } : Jvm.MethodName) ({ cls := "FerryHallModel", name := "size", desc := "(I)I" } : Jvm.MethodName)) ∈ lw_all := lw_g (lw_at lw_m10 222 rfl) rfl
theorem q2501 : (Jvm.Cond.code ({ cls := "FerryHallModel", name := "size", desc := "(I)I" } : Jvm.MethodName) prog_19_method_86_code (3 : Nat) (Option.some Jvm.ClassFile.FieldType.int)) ∈ lw_all := lw_g (lw_at lw_m10 223 rfl) rfl
theorem q2502 : (Jvm.Cond.methodLink "FerryHallModel" (493 : Nat) ({ cls := "FerryHallModel", name := "leastHeld", desc := "()I" } : Jvm.MethodName)) ∈ lw_all := lw_g (lw_at lw_m10 224 rfl) rfl
theorem q2503 : (Jvm.Cond.privateMethod ({ cls := "FerryHallModel", name := "leastHeld", desc := "()I" } : Jvm.MethodName)) ∈ lw_tbl := lw_at lw_m10 225 rfl
theorem q2504 : (Jvm.Cond.instanceMethod ({ cls := "FerryHallModel", name := "leastHeld", desc := "()I" } : Jvm.MethodName)) ∈ lw_all := lw_g (lw_at lw_m10 226 rfl) rfl
theorem q2505 : (Jvm.Cond.code ({ cls := "FerryHallModel", name := "leastHeld", desc := "()I" } : Jvm.MethodName) prog_19_method_87_code (3 : Nat) (Option.some Jvm.ClassFile.FieldType.int)) ∈ lw_all := lw_g (lw_at lw_m10 227 rfl) rfl
theorem q2506 : (Jvm.Cond.methodLink "FerryHallModel" (496 : Nat) ({ cls := "FerryHallModel", name := "leastLoad", desc := "()I" } : Jvm.MethodName)) ∈ lw_all := lw_g (lw_at lw_m10 228 rfl) rfl
theorem q2507 : (Jvm.Cond.privateMethod ({ cls := "FerryHallModel", name := "leastLoad", desc := "()I" } : Jvm.MethodName)) ∈ lw_tbl := lw_at lw_m10 229 rfl
theorem q2508 : (Jvm.Cond.instanceMethod ({ cls := "FerryHallModel", name := "leastLoad", desc := "()I" } : Jvm.MethodName)) ∈ lw_all := lw_g (lw_at lw_m10 230 rfl) rfl
theorem q2509 : (Jvm.Cond.code ({ cls := "FerryHallModel", name := "leastLoad", desc := "()I" } : Jvm.MethodName) prog_19_method_88_code (4 : Nat) (Option.some Jvm.ClassFile.FieldType.int)) ∈ lw_all := lw_g (lw_at lw_m10 231 rfl) rfl
theorem q2511 : (Jvm.Cond.instanceMethod ({ cls := "FerryHallModel", name := "rounds", desc := "()I" } : Jvm.MethodName)) ∈ lw_all := lw_g (lw_at lw_m10 233 rfl) rfl
theorem q2512 : (Jvm.Cond.selects "FerryHallModel" ({ cls := "FerryHallModel", name := "rounds", desc := "()I" } : Jvm.MethodName) ({ cls := "FerryHallModel", name := "rounds", desc := "()I" } : Jvm.MethodName)) ∈ lw_all := lw_g (lw_at lw_m10 234 rfl) rfl
theorem q2513 : (Jvm.Cond.code ({ cls := "FerryHallModel", name := "rounds", desc := "()I" } : Jvm.MethodName) prog_19_method_91_code (1 : Nat) (Option.some Jvm.ClassFile.FieldType.int)) ∈ lw_all := lw_g (lw_at lw_m10 235 rfl) rfl
theorem q2514 : (Jvm.Cond.methodLink "FerryHallModel" (502 : Nat) ({ cls := "FerryHallModel", name := "seeksRounds", desc := "()I" } : Jvm.MethodName)) ∈ lw_all := lw_g (lw_at lw_m10 236 rfl) rfl
theorem q2515 : (Jvm.Cond.privateMethod ({ cls := "FerryHallModel", name := "seeksRounds", desc := "()I" } : Jvm.MethodName)) ∈ lw_tbl := lw_at lw_m10 237 rfl
theorem q2516 : (Jvm.Cond.instanceMethod ({ cls := "FerryHallModel", name := "seeksRounds", desc := "()I" } : Jvm.MethodName)) ∈ lw_all := lw_g (lw_at lw_m10 238 rfl) rfl
theorem q2517 : (Jvm.Cond.code ({ cls := "FerryHallModel", name := "seeksRounds", desc := "()I" } : Jvm.MethodName) prog_19_method_92_code (4 : Nat) (Option.some Jvm.ClassFile.FieldType.int)) ∈ lw_all := lw_g (lw_at lw_m10 239 rfl) rfl
theorem q2518 : (Jvm.Cond.methodLink "FerryHallModel" (505 : Nat) ({ cls := "FerryHallModel", name := "small", desc := "(I)I" } : Jvm.MethodName)) ∈ lw_all := lw_g (lw_at lw_m11 0 rfl) rfl
theorem q2519 : (Jvm.Cond.privateMethod ({ cls := "FerryHallModel", name := "small", desc := "(I)I" } : Jvm.MethodName)) ∈ lw_tbl := lw_at lw_m11 1 rfl
theorem q2520 : (Jvm.Cond.instanceMethod ({ cls := "FerryHallModel", name := "small", desc := "(I)I" } : Jvm.MethodName)) ∈ lw_all := lw_g (lw_at lw_m11 2 rfl) rfl
theorem q2521 : (Jvm.Cond.code ({ cls := "FerryHallModel", name := "small", desc := "(I)I" } : Jvm.MethodName) prog_19_method_89_code (2 : Nat) (Option.some Jvm.ClassFile.FieldType.int)) ∈ lw_all := lw_g (lw_at lw_m11 3 rfl) rfl
theorem q2522 : (Jvm.Cond.methodLink "FerryHallModel" (508 : Nat) ({ cls := "FerryHallModel", name := "large", desc := "(I)I" } : Jvm.MethodName)) ∈ lw_all := lw_g (lw_at lw_m11 4 rfl) rfl
theorem q2523 : (Jvm.Cond.privateMethod ({ cls := "FerryHallModel", name := "large", desc := "(I)I" } : Jvm.MethodName)) ∈ lw_tbl := lw_at lw_m11 5 rfl
theorem q2524 : (Jvm.Cond.instanceMethod ({ cls := "FerryHallModel", name := "large", desc := "(I)I" } : Jvm.MethodName)) ∈ lw_all := lw_g (lw_at lw_m11 6 rfl) rfl
theorem q2525 : (Jvm.Cond.code ({ cls := "FerryHallModel", name := "large", desc := "(I)I" } : Jvm.MethodName) prog_19_method_90_code (4 : Nat) (Option.some Jvm.ClassFile.FieldType.int)) ∈ lw_all := lw_g (lw_at lw_m11 7 rfl) rfl
theorem q2526 : (Jvm.Cond.methodLink "FerryHallModel" (511 : Nat) ({ cls := "FerryHallModel", name := "goesRound", desc := "(II)V" } : Jvm.MethodName)) ∈ lw_all := lw_g (lw_at lw_m11 8 rfl) rfl
theorem q2527 : (Jvm.Cond.privateMethod ({ cls := "FerryHallModel", name := "goesRound", desc := "(II)V" } : Jvm.MethodName)) ∈ lw_tbl := lw_at lw_m11 9 rfl
theorem q2528 : (Jvm.Cond.instanceMethod ({ cls := "FerryHallModel", name := "goesRound", desc := "(II)V" } : Jvm.MethodName)) ∈ lw_all := lw_g (lw_at lw_m11 10 rfl) rfl
theorem q2529 : (Jvm.Cond.code ({ cls := "FerryHallModel", name := "goesRound", desc := "(II)V" } : Jvm.MethodName) prog_19_method_94_code (8 : Nat) (Option.none : Option Jvm.ClassFile.FieldType)) ∈ lw_all := lw_g (lw_at lw_m11 11 rfl) rfl
theorem q2530 : (Jvm.Cond.methodLink "FerryHallModel" (515 : Nat) ({ cls := "FerryHallModel", name := "comes", desc := "(II)V" } : Jvm.MethodName)) ∈ lw_all := lw_g (lw_at lw_m11 12 rfl) rfl
theorem q2531 : (Jvm.Cond.privateMethod ({ cls := "FerryHallModel", name := "comes", desc := "(II)V" } : Jvm.MethodName)) ∈ lw_tbl := lw_at lw_m11 13 rfl
theorem q2532 : (Jvm.Cond.instanceMethod ({ cls := "FerryHallModel", name := "comes", desc := "(II)V" } : Jvm.MethodName)) ∈ lw_all := lw_g (lw_at lw_m11 14 rfl) rfl
theorem q2533 : (Jvm.Cond.code ({ cls := "FerryHallModel", name := "comes", desc := "(II)V" } : Jvm.MethodName) prog_19_method_93_code (3 : Nat) (Option.none : Option Jvm.ClassFile.FieldType)) ∈ lw_all := lw_g (lw_at lw_m11 15 rfl) rfl
theorem q2534 : (Jvm.Cond.methodLink "FerryHallModel" (518 : Nat) ({ cls := "FerryHallModel", name := "goesBoth", desc := "(IIII)V" } : Jvm.MethodName)) ∈ lw_all := lw_g (lw_at lw_m11 16 rfl) rfl
theorem q2535 : (Jvm.Cond.privateMethod ({ cls := "FerryHallModel", name := "goesBoth", desc := "(IIII)V" } : Jvm.MethodName)) ∈ lw_tbl := lw_at lw_m11 17 rfl
theorem q2536 : (Jvm.Cond.instanceMethod ({ cls := "FerryHallModel", name := "goesBoth", desc := "(IIII)V" } : Jvm.MethodName)) ∈ lw_all := lw_g (lw_at lw_m11 18 rfl) rfl
theorem q2537 : (Jvm.Cond.code ({ cls := "FerryHallModel", name := "goesBoth", desc := "(IIII)V" } : Jvm.MethodName) prog_19_method_95_code (9 : Nat) (Option.none : Option Jvm.ClassFile.FieldType)) ∈ lw_all := lw_g (lw_at lw_m11 19 rfl) rfl
theorem q2539 : (Jvm.Cond.instanceMethod ({ cls := "FerryHallModel", name := "cross", desc := "(III)I" } : Jvm.MethodName)) ∈ lw_all := lw_g (lw_at lw_m11 21 rfl) rfl
theorem q2540 : (Jvm.Cond.selects "FerryHallModel" ({ cls := "FerryHallModel", name := "cross", desc := "(III)I" } : Jvm.MethodName) ({ cls := "FerryHallModel", name := "cross", desc := "(III)I" } : Jvm.MethodName)) ∈ lw_all := lw_g (lw_at lw_m11 22 rfl) rfl
theorem q2541 : (Jvm.Cond.code ({ cls := "FerryHallModel", name := "cross", desc := "(III)I" } : Jvm.MethodName) prog_19_method_97_code (5 : Nat) (Option.some Jvm.ClassFile.FieldType.int)) ∈ lw_all := lw_g (lw_at lw_m11 23 rfl) rfl
theorem q2542 : (Jvm.Cond.methodLink "FerryHallModel" (522 : Nat) ({ cls := "FerryHallModel", name := "judges", desc := "(IIII)I" } : Jvm.MethodName)) ∈ lw_all := lw_g (lw_at lw_m11 24 rfl) rfl
theorem q2543 : (Jvm.Cond.privateMethod ({ cls := "FerryHallModel", name := "judges", desc := "(IIII)I" } : Jvm.MethodName)) ∈ lw_tbl := lw_at lw_m11 25 rfl
theorem q2544 : (Jvm.Cond.instanceMethod ({ cls := "FerryHallModel", name := "judges", desc := "(IIII)I" } : Jvm.MethodName)) ∈ lw_all := lw_g (lw_at lw_m11 26 rfl) rfl
theorem q2545 : (Jvm.Cond.code ({ cls := "FerryHallModel", name := "judges", desc := "(IIII)I" } : Jvm.MethodName) prog_19_method_65_code (6 : Nat) (Option.some Jvm.ClassFile.FieldType.int)) ∈ lw_all := lw_g (lw_at lw_m11 27 rfl) rfl
theorem q2546 : (Jvm.Cond.methodLink "FerryHallModel" (404 : Nat) ({ cls := "FerryHallModel", name := "bare", desc := "(IIII)I" } : Jvm.MethodName)) ∈ lw_all := lw_g (lw_at lw_m11 28 rfl) rfl
theorem q2547 : (Jvm.Cond.privateMethod ({ cls := "FerryHallModel", name := "bare", desc := "(IIII)I" } : Jvm.MethodName)) ∈ lw_tbl := lw_at lw_m11 29 rfl
theorem q2548 : (Jvm.Cond.instanceMethod ({ cls := "FerryHallModel", name := "bare", desc := "(IIII)I" } : Jvm.MethodName)) ∈ lw_all := lw_g (lw_at lw_m11 30 rfl) rfl
theorem q2549 : (Jvm.Cond.code ({ cls := "FerryHallModel", name := "bare", desc := "(IIII)I" } : Jvm.MethodName) prog_19_method_63_code (6 : Nat) (Option.some Jvm.ClassFile.FieldType.int)) ∈ lw_all := lw_g (lw_at lw_m11 31 rfl) rfl
theorem q2551 : (Jvm.Cond.instanceMethod ({ cls := "FerryHallModel", name := "law", desc := "()I" } : Jvm.MethodName)) ∈ lw_all := lw_g (lw_at lw_m11 33 rfl) rfl
theorem q2552 : (Jvm.Cond.selects "FerryHallModel" ({ cls := "FerryHallModel", name := "law", desc := "()I" } : Jvm.MethodName) ({ cls := "FerryHallModel", name := "law", desc := "()I" } : Jvm.MethodName)) ∈ lw_all := lw_g (lw_at lw_m11 34 rfl) rfl
theorem q2553 : (Jvm.Cond.code ({ cls := "FerryHallModel", name := "law", desc := "()I" } : Jvm.MethodName) prog_19_method_98_code (1 : Nat) (Option.some Jvm.ClassFile.FieldType.int)) ∈ lw_all := lw_g (lw_at lw_m11 35 rfl) rfl
theorem q2555 : (Jvm.Cond.instanceMethod ({ cls := "FerryHallModel", name := "back", desc := "()I" } : Jvm.MethodName)) ∈ lw_all := lw_g (lw_at lw_m11 37 rfl) rfl
theorem q2556 : (Jvm.Cond.selects "FerryHallModel" ({ cls := "FerryHallModel", name := "back", desc := "()I" } : Jvm.MethodName) ({ cls := "FerryHallModel", name := "back", desc := "()I" } : Jvm.MethodName)) ∈ lw_all := lw_g (lw_at lw_m11 38 rfl) rfl
theorem q2557 : (Jvm.Cond.code ({ cls := "FerryHallModel", name := "back", desc := "()I" } : Jvm.MethodName) prog_19_method_99_code (1 : Nat) (Option.some Jvm.ClassFile.FieldType.int)) ∈ lw_all := lw_g (lw_at lw_m11 39 rfl) rfl
theorem q2559 : (Jvm.Cond.instanceMethod ({ cls := "FerryHallModel", name := "play", desc := "(I)I" } : Jvm.MethodName)) ∈ lw_all := lw_g (lw_at lw_m11 41 rfl) rfl
theorem q2560 : (Jvm.Cond.selects "FerryHallModel" ({ cls := "FerryHallModel", name := "play", desc := "(I)I" } : Jvm.MethodName) ({ cls := "FerryHallModel", name := "play", desc := "(I)I" } : Jvm.MethodName)) ∈ lw_all := lw_g (lw_at lw_m11 42 rfl) rfl
theorem q2561 : (Jvm.Cond.code ({ cls := "FerryHallModel", name := "play", desc := "(I)I" } : Jvm.MethodName) prog_19_method_100_code (4 : Nat) (Option.some Jvm.ClassFile.FieldType.int)) ∈ lw_all := lw_g (lw_at lw_m11 43 rfl) rfl
theorem q2562 : (Jvm.Cond.methodLink "FerryHallModel" (525 : Nat) ({ cls := "FerryHallModel", name := "within", desc := "(III)Z" } : Jvm.MethodName)) ∈ lw_all := lw_g (lw_at lw_m11 44 rfl) rfl
theorem q2563 : (Jvm.Cond.static ({ cls := "FerryHallModel", name := "within", desc := "(III)Z" } : Jvm.MethodName)) ∈ lw_all := lw_g (lw_at lw_m11 45 rfl) rfl
theorem q2564 : (Jvm.Cond.code ({ cls := "FerryHallModel", name := "within", desc := "(III)Z" } : Jvm.MethodName) prog_19_method_4_code (3 : Nat) (Option.some Jvm.ClassFile.FieldType.boolean)) ∈ lw_all := lw_g (lw_at lw_m11 46 rfl) rfl
theorem q2566 : (Jvm.Cond.instanceMethod ({ cls := "FerryHallModel", name := "hint", desc := "(I)I" } : Jvm.MethodName)) ∈ lw_all := lw_g (lw_at lw_m11 48 rfl) rfl
theorem q2567 : (Jvm.Cond.selects "FerryHallModel" ({ cls := "FerryHallModel", name := "hint", desc := "(I)I" } : Jvm.MethodName) ({ cls := "FerryHallModel", name := "hint", desc := "(I)I" } : Jvm.MethodName)) ∈ lw_all := lw_g (lw_at lw_m11 49 rfl) rfl
theorem q2568 : (Jvm.Cond.code ({ cls := "FerryHallModel", name := "hint", desc := "(I)I" } : Jvm.MethodName) prog_19_method_101_code (5 : Nat) (Option.some Jvm.ClassFile.FieldType.int)) ∈ lw_all := lw_g (lw_at lw_m11 50 rfl) rfl
theorem q2592 : (Jvm.Cond.castable "FerryHallModel" "java/lang/Object") ∈ lw_tbl := lw_at lw_m11 74 rfl
theorem in_X8 : ∀ w ∈ wsX80, w ∈ lw_all := lw_in wsX80 [2004, 2006, 2008, 2010, 2012, 2014, 2016, 2018, 2020, 2022, 2024, 2026, 2028, 2030, 2032, 2034, 2036, 2038, 2040, 2042, 2044, 2046, 2048, 2050, 2052, 2054, 2056, 2058, 2060, 2062, 2064, 2066, 2068, 2070, 2072, 2074, 2076, 2078, 2080, 2082, 2084, 2086, 2088, 2090, 2092, 2094, 2096, 2098, 2100, 2102, 2104, 2106, 2108, 2110, 2112, 2114, 2116, 2118, 2120, 2122, 2124, 2126, 2128, 2130, 2132, 2134, 2136, 2138, 2140, 2142, 2144, 2146, 2148, 2150, 2152, 2154, 2156, 2158, 2160, 2162, 2164, 2166, 2168, 2170, 2172, 2174, 2176, 2178] (by decide +kernel) (by decide +kernel)
