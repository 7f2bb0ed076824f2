/-! FerryHallLaw -/
set_option maxRecDepth 100000
def RX0 : String := "FerryHallLaw"
abbrev cX0_text : ByteArray := method_3_code
def yX0_text : MethodName := ⟨RX0, "text", "(LFerryHall;I[J)I"⟩
def dkwX0_text_0 : List UInt8 := [44, 3, 42, 27, 182, 0, 7, 133, 80, 167, 0, 6, 78, 4, 172, 3, 172]
abbrev dktX0_text_0 : List UInt8 := dkwX0_text_0 ++ []
theorem dksX0_text_0 : cX0_text.data.toList.drop 0 = dktX0_text_0 := by decide +kernel
theorem dX0_text_0 : decode cX0_text 0 = .ok (.aload_n 2, 1) := dk_44 (dk_at dksX0_text_0 0 rfl rfl)
theorem dX0_text_1 : decode cX0_text 1 = .ok (.iconst 0, 1) := dk_3 (dk_at dksX0_text_0 1 rfl rfl)
theorem dX0_text_2 : decode cX0_text 2 = .ok (.aload_n 0, 1) := dk_42 (dk_at dksX0_text_0 2 rfl rfl)
theorem dX0_text_3 : decode cX0_text 3 = .ok (.iload_n 1, 1) := dk_27 (dk_at dksX0_text_0 3 rfl rfl)
theorem dX0_text_4 : decode cX0_text 4 = .ok (.invokevirtual 7, 3) := dk_182 0 7 (dk_at dksX0_text_0 4 rfl rfl)
theorem dX0_text_7 : decode cX0_text 7 = .ok (.i2l, 1) := dk_133 (dk_at dksX0_text_0 7 rfl rfl)
theorem dX0_text_8 : decode cX0_text 8 = .ok (.lastore, 1) := dk_80 (dk_at dksX0_text_0 8 rfl rfl)
theorem dX0_text_9 : decode cX0_text 9 = .ok (.goto 6, 3) := dk_167 0 6 (dk_at dksX0_text_0 9 rfl rfl)
theorem dX0_text_12 : decode cX0_text 12 = .ok (.astore_n 3, 1) := dk_78 (dk_at dksX0_text_0 12 rfl rfl)
theorem dX0_text_13 : decode cX0_text 13 = .ok (.iconst 1, 1) := dk_4 (dk_at dksX0_text_0 13 rfl rfl)
theorem dX0_text_14 : decode cX0_text 14 = .ok (.ireturn, 1) := dk_172 (dk_at dksX0_text_0 14 rfl rfl)
theorem dX0_text_15 : decode cX0_text 15 = .ok (.iconst 0, 1) := dk_3 (dk_at dksX0_text_0 15 rfl rfl)
theorem dX0_text_16 : decode cX0_text 16 = .ok (.ireturn, 1) := dk_172 (dk_at dksX0_text_0 16 rfl rfl)
abbrev cX0_count : ByteArray := method_4_code
def yX0_count : MethodName := ⟨RX0, "count", "(LFerryHall;I[J)I"⟩
def dkwX0_count_0 : List UInt8 := [44, 3, 42, 27, 182, 0, 15, 133, 80, 167, 0, 6, 78, 4, 172, 3, 172]
abbrev dktX0_count_0 : List UInt8 := dkwX0_count_0 ++ []
theorem dksX0_count_0 : cX0_count.data.toList.drop 0 = dktX0_count_0 := by decide +kernel
theorem dX0_count_0 : decode cX0_count 0 = .ok (.aload_n 2, 1) := dk_44 (dk_at dksX0_count_0 0 rfl rfl)
theorem dX0_count_1 : decode cX0_count 1 = .ok (.iconst 0, 1) := dk_3 (dk_at dksX0_count_0 1 rfl rfl)
theorem dX0_count_2 : decode cX0_count 2 = .ok (.aload_n 0, 1) := dk_42 (dk_at dksX0_count_0 2 rfl rfl)
theorem dX0_count_3 : decode cX0_count 3 = .ok (.iload_n 1, 1) := dk_27 (dk_at dksX0_count_0 3 rfl rfl)
theorem dX0_count_4 : decode cX0_count 4 = .ok (.invokevirtual 15, 3) := dk_182 0 15 (dk_at dksX0_count_0 4 rfl rfl)
theorem dX0_count_7 : decode cX0_count 7 = .ok (.i2l, 1) := dk_133 (dk_at dksX0_count_0 7 rfl rfl)
theorem dX0_count_8 : decode cX0_count 8 = .ok (.lastore, 1) := dk_80 (dk_at dksX0_count_0 8 rfl rfl)
theorem dX0_count_9 : decode cX0_count 9 = .ok (.goto 6, 3) := dk_167 0 6 (dk_at dksX0_count_0 9 rfl rfl)
theorem dX0_count_12 : decode cX0_count 12 = .ok (.astore_n 3, 1) := dk_78 (dk_at dksX0_count_0 12 rfl rfl)
theorem dX0_count_13 : decode cX0_count 13 = .ok (.iconst 1, 1) := dk_4 (dk_at dksX0_count_0 13 rfl rfl)
theorem dX0_count_14 : decode cX0_count 14 = .ok (.ireturn, 1) := dk_172 (dk_at dksX0_count_0 14 rfl rfl)
theorem dX0_count_15 : decode cX0_count 15 = .ok (.iconst 0, 1) := dk_3 (dk_at dksX0_count_0 15 rfl rfl)
theorem dX0_count_16 : decode cX0_count 16 = .ok (.ireturn, 1) := dk_172 (dk_at dksX0_count_0 16 rfl rfl)
abbrev cX0_thing : ByteArray := method_5_code
def yX0_thing : MethodName := ⟨RX0, "thing", "(LFerryHall;II[J)I"⟩
def dkwX0_thing_0 : List UInt8 := [45, 3, 42, 27, 28, 182, 0, 20, 133, 80, 167, 0, 7, 58, 4, 4, 172, 3, 172]
abbrev dktX0_thing_0 : List UInt8 := dkwX0_thing_0 ++ []
theorem dksX0_thing_0 : cX0_thing.data.toList.drop 0 = dktX0_thing_0 := by decide +kernel
theorem dX0_thing_0 : decode cX0_thing 0 = .ok (.aload_n 3, 1) := dk_45 (dk_at dksX0_thing_0 0 rfl rfl)
theorem dX0_thing_1 : decode cX0_thing 1 = .ok (.iconst 0, 1) := dk_3 (dk_at dksX0_thing_0 1 rfl rfl)
theorem dX0_thing_2 : decode cX0_thing 2 = .ok (.aload_n 0, 1) := dk_42 (dk_at dksX0_thing_0 2 rfl rfl)
theorem dX0_thing_3 : decode cX0_thing 3 = .ok (.iload_n 1, 1) := dk_27 (dk_at dksX0_thing_0 3 rfl rfl)
theorem dX0_thing_4 : decode cX0_thing 4 = .ok (.iload_n 2, 1) := dk_28 (dk_at dksX0_thing_0 4 rfl rfl)
theorem dX0_thing_5 : decode cX0_thing 5 = .ok (.invokevirtual 20, 3) := dk_182 0 20 (dk_at dksX0_thing_0 5 rfl rfl)
theorem dX0_thing_8 : decode cX0_thing 8 = .ok (.i2l, 1) := dk_133 (dk_at dksX0_thing_0 8 rfl rfl)
theorem dX0_thing_9 : decode cX0_thing 9 = .ok (.lastore, 1) := dk_80 (dk_at dksX0_thing_0 9 rfl rfl)
theorem dX0_thing_10 : decode cX0_thing 10 = .ok (.goto 7, 3) := dk_167 0 7 (dk_at dksX0_thing_0 10 rfl rfl)
theorem dX0_thing_13 : decode cX0_thing 13 = .ok (.astore 4, 2) := dk_58 4 (dk_at dksX0_thing_0 13 rfl rfl)
theorem dX0_thing_15 : decode cX0_thing 15 = .ok (.iconst 1, 1) := dk_4 (dk_at dksX0_thing_0 15 rfl rfl)
theorem dX0_thing_16 : decode cX0_thing 16 = .ok (.ireturn, 1) := dk_172 (dk_at dksX0_thing_0 16 rfl rfl)
theorem dX0_thing_17 : decode cX0_thing 17 = .ok (.iconst 0, 1) := dk_3 (dk_at dksX0_thing_0 17 rfl rfl)
theorem dX0_thing_18 : decode cX0_thing 18 = .ok (.ireturn, 1) := dk_172 (dk_at dksX0_thing_0 18 rfl rfl)
abbrev cX0_boat : ByteArray := method_6_code
def yX0_boat : MethodName := ⟨RX0, "boat", "(LFerryHall;II[J)I"⟩
def dkwX0_boat_0 : List UInt8 := [45, 3, 42, 27, 28, 182, 0, 24, 133, 80, 167, 0, 7, 58, 4, 4, 172, 3, 172]
abbrev dktX0_boat_0 : List UInt8 := dkwX0_boat_0 ++ []
theorem dksX0_boat_0 : cX0_boat.data.toList.drop 0 = dktX0_boat_0 := by decide +kernel
theorem dX0_boat_0 : decode cX0_boat 0 = .ok (.aload_n 3, 1) := dk_45 (dk_at dksX0_boat_0 0 rfl rfl)
theorem dX0_boat_1 : decode cX0_boat 1 = .ok (.iconst 0, 1) := dk_3 (dk_at dksX0_boat_0 1 rfl rfl)
theorem dX0_boat_2 : decode cX0_boat 2 = .ok (.aload_n 0, 1) := dk_42 (dk_at dksX0_boat_0 2 rfl rfl)
theorem dX0_boat_3 : decode cX0_boat 3 = .ok (.iload_n 1, 1) := dk_27 (dk_at dksX0_boat_0 3 rfl rfl)
theorem dX0_boat_4 : decode cX0_boat 4 = .ok (.iload_n 2, 1) := dk_28 (dk_at dksX0_boat_0 4 rfl rfl)
theorem dX0_boat_5 : decode cX0_boat 5 = .ok (.invokevirtual 24, 3) := dk_182 0 24 (dk_at dksX0_boat_0 5 rfl rfl)
theorem dX0_boat_8 : decode cX0_boat 8 = .ok (.i2l, 1) := dk_133 (dk_at dksX0_boat_0 8 rfl rfl)
theorem dX0_boat_9 : decode cX0_boat 9 = .ok (.lastore, 1) := dk_80 (dk_at dksX0_boat_0 9 rfl rfl)
theorem dX0_boat_10 : decode cX0_boat 10 = .ok (.goto 7, 3) := dk_167 0 7 (dk_at dksX0_boat_0 10 rfl rfl)
theorem dX0_boat_13 : decode cX0_boat 13 = .ok (.astore 4, 2) := dk_58 4 (dk_at dksX0_boat_0 13 rfl rfl)
theorem dX0_boat_15 : decode cX0_boat 15 = .ok (.iconst 1, 1) := dk_4 (dk_at dksX0_boat_0 15 rfl rfl)
theorem dX0_boat_16 : decode cX0_boat 16 = .ok (.ireturn, 1) := dk_172 (dk_at dksX0_boat_0 16 rfl rfl)
theorem dX0_boat_17 : decode cX0_boat 17 = .ok (.iconst 0, 1) := dk_3 (dk_at dksX0_boat_0 17 rfl rfl)
theorem dX0_boat_18 : decode cX0_boat 18 = .ok (.ireturn, 1) := dk_172 (dk_at dksX0_boat_0 18 rfl rfl)
abbrev cX0_water : ByteArray := method_7_code
def yX0_water : MethodName := ⟨RX0, "water", "(LFerryHall;II[J)I"⟩
def dkwX0_water_1 : List UInt8 := [3, 172]
abbrev dktX0_water_1 : List UInt8 := dkwX0_water_1 ++ []
def dkwX0_water_0 : List UInt8 := [45, 3, 42, 27, 28, 182, 0, 27, 153, 0, 7, 10, 167, 0, 4, 9, 80, 167, 0, 7, 58, 4, 4, 172]
abbrev dktX0_water_0 : List UInt8 := dkwX0_water_0 ++ dktX0_water_1
theorem dksX0_water_0 : cX0_water.data.toList.drop 0 = dktX0_water_0 := by decide +kernel
theorem dksX0_water_1 : cX0_water.data.toList.drop 24 = dktX0_water_1 := dk_seg dksX0_water_0 24 rfl rfl
theorem dX0_water_0 : decode cX0_water 0 = .ok (.aload_n 3, 1) := dk_45 (dk_at dksX0_water_0 0 rfl rfl)
theorem dX0_water_1 : decode cX0_water 1 = .ok (.iconst 0, 1) := dk_3 (dk_at dksX0_water_0 1 rfl rfl)
theorem dX0_water_2 : decode cX0_water 2 = .ok (.aload_n 0, 1) := dk_42 (dk_at dksX0_water_0 2 rfl rfl)
theorem dX0_water_3 : decode cX0_water 3 = .ok (.iload_n 1, 1) := dk_27 (dk_at dksX0_water_0 3 rfl rfl)
theorem dX0_water_4 : decode cX0_water 4 = .ok (.iload_n 2, 1) := dk_28 (dk_at dksX0_water_0 4 rfl rfl)
theorem dX0_water_5 : decode cX0_water 5 = .ok (.invokevirtual 27, 3) := dk_182 0 27 (dk_at dksX0_water_0 5 rfl rfl)
theorem dX0_water_8 : decode cX0_water 8 = .ok (.ifCond .eq 7, 3) := dk_153 0 7 (dk_at dksX0_water_0 8 rfl rfl)
theorem dX0_water_11 : decode cX0_water 11 = .ok (.lconst 1, 1) := dk_10 (dk_at dksX0_water_0 11 rfl rfl)
theorem dX0_water_12 : decode cX0_water 12 = .ok (.goto 4, 3) := dk_167 0 4 (dk_at dksX0_water_0 12 rfl rfl)
theorem dX0_water_15 : decode cX0_water 15 = .ok (.lconst 0, 1) := dk_9 (dk_at dksX0_water_0 15 rfl rfl)
theorem dX0_water_16 : decode cX0_water 16 = .ok (.lastore, 1) := dk_80 (dk_at dksX0_water_0 16 rfl rfl)
theorem dX0_water_17 : decode cX0_water 17 = .ok (.goto 7, 3) := dk_167 0 7 (dk_at dksX0_water_0 17 rfl rfl)
theorem dX0_water_20 : decode cX0_water 20 = .ok (.astore 4, 2) := dk_58 4 (dk_at dksX0_water_0 20 rfl rfl)
theorem dX0_water_22 : decode cX0_water 22 = .ok (.iconst 1, 1) := dk_4 (dk_at dksX0_water_0 22 rfl rfl)
theorem dX0_water_23 : decode cX0_water 23 = .ok (.ireturn, 1) := dk_172 (dk_at dksX0_water_0 23 rfl rfl)
theorem dX0_water_24 : decode cX0_water 24 = .ok (.iconst 0, 1) := dk_3 (dk_at dksX0_water_1 0 rfl rfl)
theorem dX0_water_25 : decode cX0_water 25 = .ok (.ireturn, 1) := dk_172 (dk_at dksX0_water_1 1 rfl rfl)
abbrev cX0_bars : ByteArray := method_8_code
def yX0_bars : MethodName := ⟨RX0, "bars", "(LFerryHall;IIIZ[J)I"⟩
def dkwX0_bars_0 : List UInt8 := [25, 5, 3, 42, 27, 28, 29, 21, 4, 182, 0, 31, 133, 80, 167, 0, 7, 58, 6, 4, 172, 3, 172]
abbrev dktX0_bars_0 : List UInt8 := dkwX0_bars_0 ++ []
theorem dksX0_bars_0 : cX0_bars.data.toList.drop 0 = dktX0_bars_0 := by decide +kernel
theorem dX0_bars_0 : decode cX0_bars 0 = .ok (.aload 5, 2) := dk_25 5 (dk_at dksX0_bars_0 0 rfl rfl)
theorem dX0_bars_2 : decode cX0_bars 2 = .ok (.iconst 0, 1) := dk_3 (dk_at dksX0_bars_0 2 rfl rfl)
theorem dX0_bars_3 : decode cX0_bars 3 = .ok (.aload_n 0, 1) := dk_42 (dk_at dksX0_bars_0 3 rfl rfl)
theorem dX0_bars_4 : decode cX0_bars 4 = .ok (.iload_n 1, 1) := dk_27 (dk_at dksX0_bars_0 4 rfl rfl)
theorem dX0_bars_5 : decode cX0_bars 5 = .ok (.iload_n 2, 1) := dk_28 (dk_at dksX0_bars_0 5 rfl rfl)
theorem dX0_bars_6 : decode cX0_bars 6 = .ok (.iload_n 3, 1) := dk_29 (dk_at dksX0_bars_0 6 rfl rfl)
theorem dX0_bars_7 : decode cX0_bars 7 = .ok (.iload 4, 2) := dk_21 4 (dk_at dksX0_bars_0 7 rfl rfl)
theorem dX0_bars_9 : decode cX0_bars 9 = .ok (.invokevirtual 31, 3) := dk_182 0 31 (dk_at dksX0_bars_0 9 rfl rfl)
theorem dX0_bars_12 : decode cX0_bars 12 = .ok (.i2l, 1) := dk_133 (dk_at dksX0_bars_0 12 rfl rfl)
theorem dX0_bars_13 : decode cX0_bars 13 = .ok (.lastore, 1) := dk_80 (dk_at dksX0_bars_0 13 rfl rfl)
theorem dX0_bars_14 : decode cX0_bars 14 = .ok (.goto 7, 3) := dk_167 0 7 (dk_at dksX0_bars_0 14 rfl rfl)
theorem dX0_bars_17 : decode cX0_bars 17 = .ok (.astore 6, 2) := dk_58 6 (dk_at dksX0_bars_0 17 rfl rfl)
theorem dX0_bars_19 : decode cX0_bars 19 = .ok (.iconst 1, 1) := dk_4 (dk_at dksX0_bars_0 19 rfl rfl)
theorem dX0_bars_20 : decode cX0_bars 20 = .ok (.ireturn, 1) := dk_172 (dk_at dksX0_bars_0 20 rfl rfl)
theorem dX0_bars_21 : decode cX0_bars 21 = .ok (.iconst 0, 1) := dk_3 (dk_at dksX0_bars_0 21 rfl rfl)
theorem dX0_bars_22 : decode cX0_bars 22 = .ok (.ireturn, 1) := dk_172 (dk_at dksX0_bars_0 22 rfl rfl)
abbrev cX0_safe : ByteArray := method_9_code
def yX0_safe : MethodName := ⟨RX0, "safe", "(LFerryHall;IIZ[J)I"⟩
def dkwX0_safe_0 : List UInt8 := [25, 4, 3, 42, 27, 28, 29, 182, 0, 35, 133, 80, 167, 0, 7, 58, 5, 4, 172, 3, 172]
abbrev dktX0_safe_0 : List UInt8 := dkwX0_safe_0 ++ []
theorem dksX0_safe_0 : cX0_safe.data.toList.drop 0 = dktX0_safe_0 := by decide +kernel
theorem dX0_safe_0 : decode cX0_safe 0 = .ok (.aload 4, 2) := dk_25 4 (dk_at dksX0_safe_0 0 rfl rfl)
theorem dX0_safe_2 : decode cX0_safe 2 = .ok (.iconst 0, 1) := dk_3 (dk_at dksX0_safe_0 2 rfl rfl)
theorem dX0_safe_3 : decode cX0_safe 3 = .ok (.aload_n 0, 1) := dk_42 (dk_at dksX0_safe_0 3 rfl rfl)
theorem dX0_safe_4 : decode cX0_safe 4 = .ok (.iload_n 1, 1) := dk_27 (dk_at dksX0_safe_0 4 rfl rfl)
theorem dX0_safe_5 : decode cX0_safe 5 = .ok (.iload_n 2, 1) := dk_28 (dk_at dksX0_safe_0 5 rfl rfl)
theorem dX0_safe_6 : decode cX0_safe 6 = .ok (.iload_n 3, 1) := dk_29 (dk_at dksX0_safe_0 6 rfl rfl)
theorem dX0_safe_7 : decode cX0_safe 7 = .ok (.invokevirtual 35, 3) := dk_182 0 35 (dk_at dksX0_safe_0 7 rfl rfl)
theorem dX0_safe_10 : decode cX0_safe 10 = .ok (.i2l, 1) := dk_133 (dk_at dksX0_safe_0 10 rfl rfl)
theorem dX0_safe_11 : decode cX0_safe 11 = .ok (.lastore, 1) := dk_80 (dk_at dksX0_safe_0 11 rfl rfl)
theorem dX0_safe_12 : decode cX0_safe 12 = .ok (.goto 7, 3) := dk_167 0 7 (dk_at dksX0_safe_0 12 rfl rfl)
theorem dX0_safe_15 : decode cX0_safe 15 = .ok (.astore 5, 2) := dk_58 5 (dk_at dksX0_safe_0 15 rfl rfl)
theorem dX0_safe_17 : decode cX0_safe 17 = .ok (.iconst 1, 1) := dk_4 (dk_at dksX0_safe_0 17 rfl rfl)
theorem dX0_safe_18 : decode cX0_safe 18 = .ok (.ireturn, 1) := dk_172 (dk_at dksX0_safe_0 18 rfl rfl)
theorem dX0_safe_19 : decode cX0_safe 19 = .ok (.iconst 0, 1) := dk_3 (dk_at dksX0_safe_0 19 rfl rfl)
theorem dX0_safe_20 : decode cX0_safe 20 = .ok (.ireturn, 1) := dk_172 (dk_at dksX0_safe_0 20 rfl rfl)
abbrev cX0_reached : ByteArray := method_10_code
def yX0_reached : MethodName := ⟨RX0, "reached", "(LFerryHall;I[J)I"⟩
def dkwX0_reached_0 : List UInt8 := [44, 3, 42, 27, 182, 0, 39, 133, 80, 167, 0, 6, 78, 4, 172, 3, 172]
abbrev dktX0_reached_0 : List UInt8 := dkwX0_reached_0 ++ []
theorem dksX0_reached_0 : cX0_reached.data.toList.drop 0 = dktX0_reached_0 := by decide +kernel
theorem dX0_reached_0 : decode cX0_reached 0 = .ok (.aload_n 2, 1) := dk_44 (dk_at dksX0_reached_0 0 rfl rfl)
theorem dX0_reached_1 : decode cX0_reached 1 = .ok (.iconst 0, 1) := dk_3 (dk_at dksX0_reached_0 1 rfl rfl)
theorem dX0_reached_2 : decode cX0_reached 2 = .ok (.aload_n 0, 1) := dk_42 (dk_at dksX0_reached_0 2 rfl rfl)
theorem dX0_reached_3 : decode cX0_reached 3 = .ok (.iload_n 1, 1) := dk_27 (dk_at dksX0_reached_0 3 rfl rfl)
theorem dX0_reached_4 : decode cX0_reached 4 = .ok (.invokevirtual 39, 3) := dk_182 0 39 (dk_at dksX0_reached_0 4 rfl rfl)
theorem dX0_reached_7 : decode cX0_reached 7 = .ok (.i2l, 1) := dk_133 (dk_at dksX0_reached_0 7 rfl rfl)
theorem dX0_reached_8 : decode cX0_reached 8 = .ok (.lastore, 1) := dk_80 (dk_at dksX0_reached_0 8 rfl rfl)
theorem dX0_reached_9 : decode cX0_reached 9 = .ok (.goto 6, 3) := dk_167 0 6 (dk_at dksX0_reached_0 9 rfl rfl)
theorem dX0_reached_12 : decode cX0_reached 12 = .ok (.astore_n 3, 1) := dk_78 (dk_at dksX0_reached_0 12 rfl rfl)
theorem dX0_reached_13 : decode cX0_reached 13 = .ok (.iconst 1, 1) := dk_4 (dk_at dksX0_reached_0 13 rfl rfl)
theorem dX0_reached_14 : decode cX0_reached 14 = .ok (.ireturn, 1) := dk_172 (dk_at dksX0_reached_0 14 rfl rfl)
theorem dX0_reached_15 : decode cX0_reached 15 = .ok (.iconst 0, 1) := dk_3 (dk_at dksX0_reached_0 15 rfl rfl)
theorem dX0_reached_16 : decode cX0_reached 16 = .ok (.ireturn, 1) := dk_172 (dk_at dksX0_reached_0 16 rfl rfl)
abbrev cX0_way : ByteArray := method_11_code
def yX0_way : MethodName := ⟨RX0, "way", "(LFerryHall;II[J)I"⟩
def dkwX0_way_0 : List UInt8 := [45, 3, 42, 27, 28, 182, 0, 42, 133, 80, 167, 0, 7, 58, 4, 4, 172, 3, 172]
abbrev dktX0_way_0 : List UInt8 := dkwX0_way_0 ++ []
theorem dksX0_way_0 : cX0_way.data.toList.drop 0 = dktX0_way_0 := by decide +kernel
theorem dX0_way_0 : decode cX0_way 0 = .ok (.aload_n 3, 1) := dk_45 (dk_at dksX0_way_0 0 rfl rfl)
theorem dX0_way_1 : decode cX0_way 1 = .ok (.iconst 0, 1) := dk_3 (dk_at dksX0_way_0 1 rfl rfl)
theorem dX0_way_2 : decode cX0_way 2 = .ok (.aload_n 0, 1) := dk_42 (dk_at dksX0_way_0 2 rfl rfl)
theorem dX0_way_3 : decode cX0_way 3 = .ok (.iload_n 1, 1) := dk_27 (dk_at dksX0_way_0 3 rfl rfl)
theorem dX0_way_4 : decode cX0_way 4 = .ok (.iload_n 2, 1) := dk_28 (dk_at dksX0_way_0 4 rfl rfl)
theorem dX0_way_5 : decode cX0_way 5 = .ok (.invokevirtual 42, 3) := dk_182 0 42 (dk_at dksX0_way_0 5 rfl rfl)
theorem dX0_way_8 : decode cX0_way 8 = .ok (.i2l, 1) := dk_133 (dk_at dksX0_way_0 8 rfl rfl)
theorem dX0_way_9 : decode cX0_way 9 = .ok (.lastore, 1) := dk_80 (dk_at dksX0_way_0 9 rfl rfl)
theorem dX0_way_10 : decode cX0_way 10 = .ok (.goto 7, 3) := dk_167 0 7 (dk_at dksX0_way_0 10 rfl rfl)
theorem dX0_way_13 : decode cX0_way 13 = .ok (.astore 4, 2) := dk_58 4 (dk_at dksX0_way_0 13 rfl rfl)
theorem dX0_way_15 : decode cX0_way 15 = .ok (.iconst 1, 1) := dk_4 (dk_at dksX0_way_0 15 rfl rfl)
theorem dX0_way_16 : decode cX0_way 16 = .ok (.ireturn, 1) := dk_172 (dk_at dksX0_way_0 16 rfl rfl)
theorem dX0_way_17 : decode cX0_way 17 = .ok (.iconst 0, 1) := dk_3 (dk_at dksX0_way_0 17 rfl rfl)
theorem dX0_way_18 : decode cX0_way 18 = .ok (.ireturn, 1) := dk_172 (dk_at dksX0_way_0 18 rfl rfl)
abbrev cX0_where : ByteArray := method_12_code
def yX0_where : MethodName := ⟨RX0, "where", "(LFerryHall;II[J)I"⟩
def dkwX0_where_0 : List UInt8 := [45, 3, 42, 27, 28, 182, 0, 45, 133, 80, 167, 0, 7, 58, 4, 4, 172, 3, 172]
abbrev dktX0_where_0 : List UInt8 := dkwX0_where_0 ++ []
theorem dksX0_where_0 : cX0_where.data.toList.drop 0 = dktX0_where_0 := by decide +kernel
theorem dX0_where_0 : decode cX0_where 0 = .ok (.aload_n 3, 1) := dk_45 (dk_at dksX0_where_0 0 rfl rfl)
theorem dX0_where_1 : decode cX0_where 1 = .ok (.iconst 0, 1) := dk_3 (dk_at dksX0_where_0 1 rfl rfl)
theorem dX0_where_2 : decode cX0_where 2 = .ok (.aload_n 0, 1) := dk_42 (dk_at dksX0_where_0 2 rfl rfl)
theorem dX0_where_3 : decode cX0_where 3 = .ok (.iload_n 1, 1) := dk_27 (dk_at dksX0_where_0 3 rfl rfl)
theorem dX0_where_4 : decode cX0_where 4 = .ok (.iload_n 2, 1) := dk_28 (dk_at dksX0_where_0 4 rfl rfl)
theorem dX0_where_5 : decode cX0_where 5 = .ok (.invokevirtual 45, 3) := dk_182 0 45 (dk_at dksX0_where_0 5 rfl rfl)
theorem dX0_where_8 : decode cX0_where 8 = .ok (.i2l, 1) := dk_133 (dk_at dksX0_where_0 8 rfl rfl)
theorem dX0_where_9 : decode cX0_where 9 = .ok (.lastore, 1) := dk_80 (dk_at dksX0_where_0 9 rfl rfl)
theorem dX0_where_10 : decode cX0_where 10 = .ok (.goto 7, 3) := dk_167 0 7 (dk_at dksX0_where_0 10 rfl rfl)
theorem dX0_where_13 : decode cX0_where 13 = .ok (.astore 4, 2) := dk_58 4 (dk_at dksX0_where_0 13 rfl rfl)
theorem dX0_where_15 : decode cX0_where 15 = .ok (.iconst 1, 1) := dk_4 (dk_at dksX0_where_0 15 rfl rfl)
theorem dX0_where_16 : decode cX0_where 16 = .ok (.ireturn, 1) := dk_172 (dk_at dksX0_where_0 16 rfl rfl)
theorem dX0_where_17 : decode cX0_where 17 = .ok (.iconst 0, 1) := dk_3 (dk_at dksX0_where_0 17 rfl rfl)
theorem dX0_where_18 : decode cX0_where 18 = .ok (.ireturn, 1) := dk_172 (dk_at dksX0_where_0 18 rfl rfl)
abbrev cX0_rides : ByteArray := method_13_code
def yX0_rides : MethodName := ⟨RX0, "rides", "(LFerryHall;II[J)I"⟩
def dkwX0_rides_0 : List UInt8 := [45, 3, 42, 27, 28, 182, 0, 48, 133, 80, 167, 0, 7, 58, 4, 4, 172, 3, 172]
abbrev dktX0_rides_0 : List UInt8 := dkwX0_rides_0 ++ []
theorem dksX0_rides_0 : cX0_rides.data.toList.drop 0 = dktX0_rides_0 := by decide +kernel
theorem dX0_rides_0 : decode cX0_rides 0 = .ok (.aload_n 3, 1) := dk_45 (dk_at dksX0_rides_0 0 rfl rfl)
theorem dX0_rides_1 : decode cX0_rides 1 = .ok (.iconst 0, 1) := dk_3 (dk_at dksX0_rides_0 1 rfl rfl)
theorem dX0_rides_2 : decode cX0_rides 2 = .ok (.aload_n 0, 1) := dk_42 (dk_at dksX0_rides_0 2 rfl rfl)
theorem dX0_rides_3 : decode cX0_rides 3 = .ok (.iload_n 1, 1) := dk_27 (dk_at dksX0_rides_0 3 rfl rfl)
theorem dX0_rides_4 : decode cX0_rides 4 = .ok (.iload_n 2, 1) := dk_28 (dk_at dksX0_rides_0 4 rfl rfl)
theorem dX0_rides_5 : decode cX0_rides 5 = .ok (.invokevirtual 48, 3) := dk_182 0 48 (dk_at dksX0_rides_0 5 rfl rfl)
theorem dX0_rides_8 : decode cX0_rides 8 = .ok (.i2l, 1) := dk_133 (dk_at dksX0_rides_0 8 rfl rfl)
theorem dX0_rides_9 : decode cX0_rides 9 = .ok (.lastore, 1) := dk_80 (dk_at dksX0_rides_0 9 rfl rfl)
theorem dX0_rides_10 : decode cX0_rides 10 = .ok (.goto 7, 3) := dk_167 0 7 (dk_at dksX0_rides_0 10 rfl rfl)
theorem dX0_rides_13 : decode cX0_rides 13 = .ok (.astore 4, 2) := dk_58 4 (dk_at dksX0_rides_0 13 rfl rfl)
theorem dX0_rides_15 : decode cX0_rides 15 = .ok (.iconst 1, 1) := dk_4 (dk_at dksX0_rides_0 15 rfl rfl)
theorem dX0_rides_16 : decode cX0_rides 16 = .ok (.ireturn, 1) := dk_172 (dk_at dksX0_rides_0 16 rfl rfl)
theorem dX0_rides_17 : decode cX0_rides 17 = .ok (.iconst 0, 1) := dk_3 (dk_at dksX0_rides_0 17 rfl rfl)
theorem dX0_rides_18 : decode cX0_rides 18 = .ok (.ireturn, 1) := dk_172 (dk_at dksX0_rides_0 18 rfl rfl)
abbrev cX0_laws : ByteArray := method_14_code
def yX0_laws : MethodName := ⟨RX0, "laws", "(LFerryHall;I[J)I"⟩
def dkwX0_laws_0 : List UInt8 := [44, 3, 42, 27, 182, 0, 51, 133, 80, 167, 0, 6, 78, 4, 172, 3, 172]
abbrev dktX0_laws_0 : List UInt8 := dkwX0_laws_0 ++ []
theorem dksX0_laws_0 : cX0_laws.data.toList.drop 0 = dktX0_laws_0 := by decide +kernel
theorem dX0_laws_0 : decode cX0_laws 0 = .ok (.aload_n 2, 1) := dk_44 (dk_at dksX0_laws_0 0 rfl rfl)
theorem dX0_laws_1 : decode cX0_laws 1 = .ok (.iconst 0, 1) := dk_3 (dk_at dksX0_laws_0 1 rfl rfl)
theorem dX0_laws_2 : decode cX0_laws 2 = .ok (.aload_n 0, 1) := dk_42 (dk_at dksX0_laws_0 2 rfl rfl)
theorem dX0_laws_3 : decode cX0_laws 3 = .ok (.iload_n 1, 1) := dk_27 (dk_at dksX0_laws_0 3 rfl rfl)
theorem dX0_laws_4 : decode cX0_laws 4 = .ok (.invokevirtual 51, 3) := dk_182 0 51 (dk_at dksX0_laws_0 4 rfl rfl)
theorem dX0_laws_7 : decode cX0_laws 7 = .ok (.i2l, 1) := dk_133 (dk_at dksX0_laws_0 7 rfl rfl)
theorem dX0_laws_8 : decode cX0_laws 8 = .ok (.lastore, 1) := dk_80 (dk_at dksX0_laws_0 8 rfl rfl)
theorem dX0_laws_9 : decode cX0_laws 9 = .ok (.goto 6, 3) := dk_167 0 6 (dk_at dksX0_laws_0 9 rfl rfl)
theorem dX0_laws_12 : decode cX0_laws 12 = .ok (.astore_n 3, 1) := dk_78 (dk_at dksX0_laws_0 12 rfl rfl)
theorem dX0_laws_13 : decode cX0_laws 13 = .ok (.iconst 1, 1) := dk_4 (dk_at dksX0_laws_0 13 rfl rfl)
theorem dX0_laws_14 : decode cX0_laws 14 = .ok (.ireturn, 1) := dk_172 (dk_at dksX0_laws_0 14 rfl rfl)
theorem dX0_laws_15 : decode cX0_laws 15 = .ok (.iconst 0, 1) := dk_3 (dk_at dksX0_laws_0 15 rfl rfl)
theorem dX0_laws_16 : decode cX0_laws 16 = .ok (.ireturn, 1) := dk_172 (dk_at dksX0_laws_0 16 rfl rfl)
abbrev cX0_size : ByteArray := method_15_code
def yX0_size : MethodName := ⟨RX0, "size", "(LFerryHall;I[J)I"⟩
def dkwX0_size_0 : List UInt8 := [44, 3, 42, 27, 182, 0, 54, 133, 80, 167, 0, 6, 78, 4, 172, 3, 172]
abbrev dktX0_size_0 : List UInt8 := dkwX0_size_0 ++ []
theorem dksX0_size_0 : cX0_size.data.toList.drop 0 = dktX0_size_0 := by decide +kernel
theorem dX0_size_0 : decode cX0_size 0 = .ok (.aload_n 2, 1) := dk_44 (dk_at dksX0_size_0 0 rfl rfl)
theorem dX0_size_1 : decode cX0_size 1 = .ok (.iconst 0, 1) := dk_3 (dk_at dksX0_size_0 1 rfl rfl)
theorem dX0_size_2 : decode cX0_size 2 = .ok (.aload_n 0, 1) := dk_42 (dk_at dksX0_size_0 2 rfl rfl)
theorem dX0_size_3 : decode cX0_size 3 = .ok (.iload_n 1, 1) := dk_27 (dk_at dksX0_size_0 3 rfl rfl)
theorem dX0_size_4 : decode cX0_size 4 = .ok (.invokevirtual 54, 3) := dk_182 0 54 (dk_at dksX0_size_0 4 rfl rfl)
theorem dX0_size_7 : decode cX0_size 7 = .ok (.i2l, 1) := dk_133 (dk_at dksX0_size_0 7 rfl rfl)
theorem dX0_size_8 : decode cX0_size 8 = .ok (.lastore, 1) := dk_80 (dk_at dksX0_size_0 8 rfl rfl)
theorem dX0_size_9 : decode cX0_size 9 = .ok (.goto 6, 3) := dk_167 0 6 (dk_at dksX0_size_0 9 rfl rfl)
theorem dX0_size_12 : decode cX0_size 12 = .ok (.astore_n 3, 1) := dk_78 (dk_at dksX0_size_0 12 rfl rfl)
theorem dX0_size_13 : decode cX0_size 13 = .ok (.iconst 1, 1) := dk_4 (dk_at dksX0_size_0 13 rfl rfl)
theorem dX0_size_14 : decode cX0_size 14 = .ok (.ireturn, 1) := dk_172 (dk_at dksX0_size_0 14 rfl rfl)
theorem dX0_size_15 : decode cX0_size 15 = .ok (.iconst 0, 1) := dk_3 (dk_at dksX0_size_0 15 rfl rfl)
theorem dX0_size_16 : decode cX0_size 16 = .ok (.ireturn, 1) := dk_172 (dk_at dksX0_size_0 16 rfl rfl)
abbrev cX0_alike : ByteArray := method_16_code
def yX0_alike : MethodName := ⟨RX0, "alike", "(LFerryHall;I[J)I"⟩
def dkwX0_alike_0 : List UInt8 := [44, 3, 42, 27, 182, 0, 57, 133, 80, 167, 0, 6, 78, 4, 172, 3, 172]
abbrev dktX0_alike_0 : List UInt8 := dkwX0_alike_0 ++ []
theorem dksX0_alike_0 : cX0_alike.data.toList.drop 0 = dktX0_alike_0 := by decide +kernel
theorem dX0_alike_0 : decode cX0_alike 0 = .ok (.aload_n 2, 1) := dk_44 (dk_at dksX0_alike_0 0 rfl rfl)
theorem dX0_alike_1 : decode cX0_alike 1 = .ok (.iconst 0, 1) := dk_3 (dk_at dksX0_alike_0 1 rfl rfl)
theorem dX0_alike_2 : decode cX0_alike 2 = .ok (.aload_n 0, 1) := dk_42 (dk_at dksX0_alike_0 2 rfl rfl)
theorem dX0_alike_3 : decode cX0_alike 3 = .ok (.iload_n 1, 1) := dk_27 (dk_at dksX0_alike_0 3 rfl rfl)
theorem dX0_alike_4 : decode cX0_alike 4 = .ok (.invokevirtual 57, 3) := dk_182 0 57 (dk_at dksX0_alike_0 4 rfl rfl)
theorem dX0_alike_7 : decode cX0_alike 7 = .ok (.i2l, 1) := dk_133 (dk_at dksX0_alike_0 7 rfl rfl)
theorem dX0_alike_8 : decode cX0_alike 8 = .ok (.lastore, 1) := dk_80 (dk_at dksX0_alike_0 8 rfl rfl)
theorem dX0_alike_9 : decode cX0_alike 9 = .ok (.goto 6, 3) := dk_167 0 6 (dk_at dksX0_alike_0 9 rfl rfl)
theorem dX0_alike_12 : decode cX0_alike 12 = .ok (.astore_n 3, 1) := dk_78 (dk_at dksX0_alike_0 12 rfl rfl)
theorem dX0_alike_13 : decode cX0_alike 13 = .ok (.iconst 1, 1) := dk_4 (dk_at dksX0_alike_0 13 rfl rfl)
theorem dX0_alike_14 : decode cX0_alike 14 = .ok (.ireturn, 1) := dk_172 (dk_at dksX0_alike_0 14 rfl rfl)
theorem dX0_alike_15 : decode cX0_alike 15 = .ok (.iconst 0, 1) := dk_3 (dk_at dksX0_alike_0 15 rfl rfl)
theorem dX0_alike_16 : decode cX0_alike 16 = .ok (.ireturn, 1) := dk_172 (dk_at dksX0_alike_0 16 rfl rfl)
abbrev cX0_play : ByteArray := method_17_code
def yX0_play : MethodName := ⟨RX0, "play", "(LFerryHall;I[J)I"⟩
def dkwX0_play_0 : List UInt8 := [44, 3, 42, 27, 182, 0, 60, 133, 80, 167, 0, 6, 78, 4, 172, 3, 172]
abbrev dktX0_play_0 : List UInt8 := dkwX0_play_0 ++ []
theorem dksX0_play_0 : cX0_play.data.toList.drop 0 = dktX0_play_0 := by decide +kernel
theorem dX0_play_0 : decode cX0_play 0 = .ok (.aload_n 2, 1) := dk_44 (dk_at dksX0_play_0 0 rfl rfl)
theorem dX0_play_1 : decode cX0_play 1 = .ok (.iconst 0, 1) := dk_3 (dk_at dksX0_play_0 1 rfl rfl)
theorem dX0_play_2 : decode cX0_play 2 = .ok (.aload_n 0, 1) := dk_42 (dk_at dksX0_play_0 2 rfl rfl)
theorem dX0_play_3 : decode cX0_play 3 = .ok (.iload_n 1, 1) := dk_27 (dk_at dksX0_play_0 3 rfl rfl)
theorem dX0_play_4 : decode cX0_play 4 = .ok (.invokevirtual 60, 3) := dk_182 0 60 (dk_at dksX0_play_0 4 rfl rfl)
theorem dX0_play_7 : decode cX0_play 7 = .ok (.i2l, 1) := dk_133 (dk_at dksX0_play_0 7 rfl rfl)
theorem dX0_play_8 : decode cX0_play 8 = .ok (.lastore, 1) := dk_80 (dk_at dksX0_play_0 8 rfl rfl)
theorem dX0_play_9 : decode cX0_play 9 = .ok (.goto 6, 3) := dk_167 0 6 (dk_at dksX0_play_0 9 rfl rfl)
theorem dX0_play_12 : decode cX0_play 12 = .ok (.astore_n 3, 1) := dk_78 (dk_at dksX0_play_0 12 rfl rfl)
theorem dX0_play_13 : decode cX0_play 13 = .ok (.iconst 1, 1) := dk_4 (dk_at dksX0_play_0 13 rfl rfl)
theorem dX0_play_14 : decode cX0_play 14 = .ok (.ireturn, 1) := dk_172 (dk_at dksX0_play_0 14 rfl rfl)
theorem dX0_play_15 : decode cX0_play 15 = .ok (.iconst 0, 1) := dk_3 (dk_at dksX0_play_0 15 rfl rfl)
theorem dX0_play_16 : decode cX0_play 16 = .ok (.ireturn, 1) := dk_172 (dk_at dksX0_play_0 16 rfl rfl)
abbrev cX0_hint : ByteArray := method_18_code
def yX0_hint : MethodName := ⟨RX0, "hint", "(LFerryHall;I[J)I"⟩
def dkwX0_hint_0 : List UInt8 := [44, 3, 42, 27, 182, 0, 63, 133, 80, 167, 0, 6, 78, 4, 172, 3, 172]
abbrev dktX0_hint_0 : List UInt8 := dkwX0_hint_0 ++ []
theorem dksX0_hint_0 : cX0_hint.data.toList.drop 0 = dktX0_hint_0 := by decide +kernel
theorem dX0_hint_0 : decode cX0_hint 0 = .ok (.aload_n 2, 1) := dk_44 (dk_at dksX0_hint_0 0 rfl rfl)
theorem dX0_hint_1 : decode cX0_hint 1 = .ok (.iconst 0, 1) := dk_3 (dk_at dksX0_hint_0 1 rfl rfl)
theorem dX0_hint_2 : decode cX0_hint 2 = .ok (.aload_n 0, 1) := dk_42 (dk_at dksX0_hint_0 2 rfl rfl)
theorem dX0_hint_3 : decode cX0_hint 3 = .ok (.iload_n 1, 1) := dk_27 (dk_at dksX0_hint_0 3 rfl rfl)
theorem dX0_hint_4 : decode cX0_hint 4 = .ok (.invokevirtual 63, 3) := dk_182 0 63 (dk_at dksX0_hint_0 4 rfl rfl)
theorem dX0_hint_7 : decode cX0_hint 7 = .ok (.i2l, 1) := dk_133 (dk_at dksX0_hint_0 7 rfl rfl)
theorem dX0_hint_8 : decode cX0_hint 8 = .ok (.lastore, 1) := dk_80 (dk_at dksX0_hint_0 8 rfl rfl)
theorem dX0_hint_9 : decode cX0_hint 9 = .ok (.goto 6, 3) := dk_167 0 6 (dk_at dksX0_hint_0 9 rfl rfl)
theorem dX0_hint_12 : decode cX0_hint 12 = .ok (.astore_n 3, 1) := dk_78 (dk_at dksX0_hint_0 12 rfl rfl)
theorem dX0_hint_13 : decode cX0_hint 13 = .ok (.iconst 1, 1) := dk_4 (dk_at dksX0_hint_0 13 rfl rfl)
theorem dX0_hint_14 : decode cX0_hint 14 = .ok (.ireturn, 1) := dk_172 (dk_at dksX0_hint_0 14 rfl rfl)
theorem dX0_hint_15 : decode cX0_hint 15 = .ok (.iconst 0, 1) := dk_3 (dk_at dksX0_hint_0 15 rfl rfl)
theorem dX0_hint_16 : decode cX0_hint 16 = .ok (.ireturn, 1) := dk_172 (dk_at dksX0_hint_0 16 rfl rfl)
theorem q118 : (Jvm.Cond.initialized "FerryHallLaw") ∈ lw_all := lw_g (lw_at lw_m1 0 rfl) rfl
theorem q160 : (Jvm.Cond.classLink "FerryHallLaw" (8 : Nat) "FerryHall") ∈ lw_all := lw_g (lw_at lw_m1 42 rfl) rfl
theorem q162 : (Jvm.Cond.methodLink "FerryHallLaw" (66 : Nat) ({ cls := "FerryHall", name := "<init>", desc := "()V" } : Jvm.MethodName)) ∈ lw_all := lw_g (lw_at lw_m1 44 rfl) rfl
theorem q614 : (Jvm.Cond.methodLink "FerryHallLaw" (70 : Nat) ({ cls := "FerryHall", name := "feed", desc := "(IIIII)I" } : Jvm.MethodName)) ∈ lw_all := lw_g (lw_at lw_m3 16 rfl) rfl
theorem q618 : (Jvm.Cond.methodLink "FerryHallLaw" (85 : Nat) ({ cls := "FerryHall", name := "fault", desc := "()I" } : Jvm.MethodName)) ∈ lw_all := lw_g (lw_at lw_m3 20 rfl) rfl
theorem q622 : (Jvm.Cond.methodLink "FerryHallLaw" (113 : Nat) ({ cls := "FerryHall", name := "fewest", desc := "()I" } : Jvm.MethodName)) ∈ lw_all := lw_g (lw_at lw_m3 24 rfl) rfl
theorem q899 : (Jvm.Cond.methodLink "FerryHallLaw" (117 : Nat) ({ cls := "FerryHall", name := "quickest", desc := "()I" } : Jvm.MethodName)) ∈ lw_all := lw_g (lw_at lw_m4 61 rfl) rfl
theorem q903 : (Jvm.Cond.methodLink "FerryHallLaw" (121 : Nat) ({ cls := "FerryHall", name := "ways", desc := "()I" } : Jvm.MethodName)) ∈ lw_all := lw_g (lw_at lw_m4 65 rfl) rfl
theorem q916 : (Jvm.Cond.methodLink "FerryHallLaw" (140 : Nat) ({ cls := "FerryHall", name := "rounds", desc := "()I" } : Jvm.MethodName)) ∈ lw_all := lw_g (lw_at lw_m4 78 rfl) rfl
theorem q989 : (Jvm.Cond.methodLink "FerryHallLaw" (147 : Nat) ({ cls := "FerryHall", name := "cross", desc := "(III)I" } : Jvm.MethodName)) ∈ lw_all := lw_g (lw_at lw_m4 151 rfl) rfl
theorem q1002 : (Jvm.Cond.methodLink "FerryHallLaw" (152 : Nat) ({ cls := "FerryHall", name := "law", desc := "()I" } : Jvm.MethodName)) ∈ lw_all := lw_g (lw_at lw_m4 164 rfl) rfl
theorem q1006 : (Jvm.Cond.methodLink "FerryHallLaw" (156 : Nat) ({ cls := "FerryHall", name := "back", desc := "()I" } : Jvm.MethodName)) ∈ lw_all := lw_g (lw_at lw_m4 168 rfl) rfl
theorem q1042 : (Jvm.Cond.methodLink "FerryHallLaw" (75 : Nat) ({ cls := "FerryHallLaw", name := "text", desc := "(LFerryHall;I[J)I" } : Jvm.MethodName)) ∈ lw_all := lw_g (lw_at lw_m4 204 rfl) rfl
theorem q1043 : (Jvm.Cond.static ({ cls := "FerryHallLaw", name := "text", desc := "(LFerryHall;I[J)I" } : Jvm.MethodName)) ∈ lw_all := lw_g (lw_at lw_m4 205 rfl) rfl
theorem q1044 : (Jvm.Cond.codeWith ({ cls := "FerryHallLaw", name := "text", desc := "(LFerryHall;I[J)I" } : Jvm.MethodName) method_3_code (4 : Nat) (Option.some Jvm.ClassFile.FieldType.int) [((0 : Nat), (9 : Nat), (12 : Nat), (13 : Nat))]) ∈ lw_all := lw_g (lw_at lw_m4 206 rfl) rfl
theorem q1045 : (Jvm.Cond.classLink "FerryHallLaw" (13 : Nat) "java/lang/IllegalArgumentException") ∈ lw_all := lw_g (lw_at lw_m4 207 rfl) rfl
theorem q1046 : (Jvm.Cond.methodLink "FerryHallLaw" (7 : Nat) ({ cls := "FerryHall", name := "text", desc := "(I)I" } : Jvm.MethodName)) ∈ lw_all := lw_g (lw_at lw_m4 208 rfl) rfl
theorem q1735 : (Jvm.Cond.methodLink "FerryHallLaw" (89 : Nat) ({ cls := "FerryHallLaw", name := "count", desc := "(LFerryHall;I[J)I" } : Jvm.MethodName)) ∈ lw_all := lw_g (lw_at lw_m7 177 rfl) rfl
theorem q1736 : (Jvm.Cond.static ({ cls := "FerryHallLaw", name := "count", desc := "(LFerryHall;I[J)I" } : Jvm.MethodName)) ∈ lw_all := lw_g (lw_at lw_m7 178 rfl) rfl
theorem q1737 : (Jvm.Cond.codeWith ({ cls := "FerryHallLaw", name := "count", desc := "(LFerryHall;I[J)I" } : Jvm.MethodName) method_4_code (4 : Nat) (Option.some Jvm.ClassFile.FieldType.int) [((0 : Nat), (9 : Nat), (12 : Nat), (18 : Nat))]) ∈ lw_all := lw_g (lw_at lw_m7 179 rfl) rfl
theorem q1738 : (Jvm.Cond.classLink "FerryHallLaw" (18 : Nat) "java/util/NoSuchElementException") ∈ lw_all := lw_g (lw_at lw_m7 180 rfl) rfl
theorem q1739 : (Jvm.Cond.methodLink "FerryHallLaw" (15 : Nat) ({ cls := "FerryHall", name := "count", desc := "(I)I" } : Jvm.MethodName)) ∈ lw_all := lw_g (lw_at lw_m7 181 rfl) rfl
theorem q1758 : (Jvm.Cond.methodLink "FerryHallLaw" (92 : Nat) ({ cls := "FerryHallLaw", name := "thing", desc := "(LFerryHall;II[J)I" } : Jvm.MethodName)) ∈ lw_all := lw_g (lw_at lw_m7 200 rfl) rfl
theorem q1759 : (Jvm.Cond.static ({ cls := "FerryHallLaw", name := "thing", desc := "(LFerryHall;II[J)I" } : Jvm.MethodName)) ∈ lw_all := lw_g (lw_at lw_m7 201 rfl) rfl
theorem q1760 : (Jvm.Cond.codeWith ({ cls := "FerryHallLaw", name := "thing", desc := "(LFerryHall;II[J)I" } : Jvm.MethodName) method_5_code (5 : Nat) (Option.some Jvm.ClassFile.FieldType.int) [((0 : Nat), (10 : Nat), (13 : Nat), (18 : Nat))]) ∈ lw_all := lw_g (lw_at lw_m7 202 rfl) rfl
theorem q1761 : (Jvm.Cond.methodLink "FerryHallLaw" (20 : Nat) ({ cls := "FerryHall", name := "thing", desc := "(II)I" } : Jvm.MethodName)) ∈ lw_all := lw_g (lw_at lw_m7 203 rfl) rfl
theorem q1773 : (Jvm.Cond.methodLink "FerryHallLaw" (96 : Nat) ({ cls := "FerryHallLaw", name := "boat", desc := "(LFerryHall;II[J)I" } : Jvm.MethodName)) ∈ lw_all := lw_g (lw_at lw_m7 215 rfl) rfl
theorem q1774 : (Jvm.Cond.static ({ cls := "FerryHallLaw", name := "boat", desc := "(LFerryHall;II[J)I" } : Jvm.MethodName)) ∈ lw_all := lw_g (lw_at lw_m7 216 rfl) rfl
theorem q1775 : (Jvm.Cond.codeWith ({ cls := "FerryHallLaw", name := "boat", desc := "(LFerryHall;II[J)I" } : Jvm.MethodName) method_6_code (5 : Nat) (Option.some Jvm.ClassFile.FieldType.int) [((0 : Nat), (10 : Nat), (13 : Nat), (18 : Nat))]) ∈ lw_all := lw_g (lw_at lw_m7 217 rfl) rfl
theorem q1776 : (Jvm.Cond.methodLink "FerryHallLaw" (24 : Nat) ({ cls := "FerryHall", name := "boat", desc := "(II)I" } : Jvm.MethodName)) ∈ lw_all := lw_g (lw_at lw_m7 218 rfl) rfl
theorem q1780 : (Jvm.Cond.methodLink "FerryHallLaw" (99 : Nat) ({ cls := "FerryHallLaw", name := "water", desc := "(LFerryHall;II[J)I" } : Jvm.MethodName)) ∈ lw_all := lw_g (lw_at lw_m7 222 rfl) rfl
theorem q1781 : (Jvm.Cond.static ({ cls := "FerryHallLaw", name := "water", desc := "(LFerryHall;II[J)I" } : Jvm.MethodName)) ∈ lw_all := lw_g (lw_at lw_m7 223 rfl) rfl
theorem q1782 : (Jvm.Cond.codeWith ({ cls := "FerryHallLaw", name := "water", desc := "(LFerryHall;II[J)I" } : Jvm.MethodName) method_7_code (5 : Nat) (Option.some Jvm.ClassFile.FieldType.int) [((0 : Nat), (17 : Nat), (20 : Nat), (18 : Nat))]) ∈ lw_all := lw_g (lw_at lw_m7 224 rfl) rfl
theorem q1783 : (Jvm.Cond.methodLink "FerryHallLaw" (27 : Nat) ({ cls := "FerryHall", name := "water", desc := "(II)Z" } : Jvm.MethodName)) ∈ lw_all := lw_g (lw_at lw_m7 225 rfl) rfl
theorem q1788 : (Jvm.Cond.methodLink "FerryHallLaw" (102 : Nat) ({ cls := "FerryHallLaw", name := "bars", desc := "(LFerryHall;IIIZ[J)I" } : Jvm.MethodName)) ∈ lw_all := lw_g (lw_at lw_m7 230 rfl) rfl
theorem q1789 : (Jvm.Cond.static ({ cls := "FerryHallLaw", name := "bars", desc := "(LFerryHall;IIIZ[J)I" } : Jvm.MethodName)) ∈ lw_all := lw_g (lw_at lw_m7 231 rfl) rfl
theorem q1790 : (Jvm.Cond.codeWith ({ cls := "FerryHallLaw", name := "bars", desc := "(LFerryHall;IIIZ[J)I" } : Jvm.MethodName) method_8_code (7 : Nat) (Option.some Jvm.ClassFile.FieldType.int) [((0 : Nat), (14 : Nat), (17 : Nat), (18 : Nat))]) ∈ lw_all := lw_g (lw_at lw_m7 232 rfl) rfl
theorem q1791 : (Jvm.Cond.methodLink "FerryHallLaw" (31 : Nat) ({ cls := "FerryHall", name := "bars", desc := "(IIIZ)I" } : Jvm.MethodName)) ∈ lw_all := lw_g (lw_at lw_m7 233 rfl) rfl
theorem q1796 : (Jvm.Cond.methodLink "FerryHallLaw" (106 : Nat) ({ cls := "FerryHallLaw", name := "safe", desc := "(LFerryHall;IIZ[J)I" } : Jvm.MethodName)) ∈ lw_all := lw_g (lw_at lw_m7 238 rfl) rfl
theorem q1797 : (Jvm.Cond.static ({ cls := "FerryHallLaw", name := "safe", desc := "(LFerryHall;IIZ[J)I" } : Jvm.MethodName)) ∈ lw_all := lw_g (lw_at lw_m7 239 rfl) rfl
theorem q1798 : (Jvm.Cond.codeWith ({ cls := "FerryHallLaw", name := "safe", desc := "(LFerryHall;IIZ[J)I" } : Jvm.MethodName) method_9_code (6 : Nat) (Option.some Jvm.ClassFile.FieldType.int) [((0 : Nat), (12 : Nat), (15 : Nat), (18 : Nat))]) ∈ lw_all := lw_g (lw_at lw_m8 0 rfl) rfl
theorem q1799 : (Jvm.Cond.methodLink "FerryHallLaw" (35 : Nat) ({ cls := "FerryHall", name := "safe", desc := "(IIZ)I" } : Jvm.MethodName)) ∈ lw_all := lw_g (lw_at lw_m8 1 rfl) rfl
theorem q1803 : (Jvm.Cond.methodLink "FerryHallLaw" (110 : Nat) ({ cls := "FerryHallLaw", name := "reached", desc := "(LFerryHall;I[J)I" } : Jvm.MethodName)) ∈ lw_all := lw_g (lw_at lw_m8 5 rfl) rfl
theorem q1804 : (Jvm.Cond.static ({ cls := "FerryHallLaw", name := "reached", desc := "(LFerryHall;I[J)I" } : Jvm.MethodName)) ∈ lw_all := lw_g (lw_at lw_m8 6 rfl) rfl
theorem q1805 : (Jvm.Cond.codeWith ({ cls := "FerryHallLaw", name := "reached", desc := "(LFerryHall;I[J)I" } : Jvm.MethodName) method_10_code (4 : Nat) (Option.some Jvm.ClassFile.FieldType.int) [((0 : Nat), (9 : Nat), (12 : Nat), (18 : Nat))]) ∈ lw_all := lw_g (lw_at lw_m8 7 rfl) rfl
theorem q1806 : (Jvm.Cond.methodLink "FerryHallLaw" (39 : Nat) ({ cls := "FerryHall", name := "reached", desc := "(I)I" } : Jvm.MethodName)) ∈ lw_all := lw_g (lw_at lw_m8 8 rfl) rfl
theorem q1811 : (Jvm.Cond.methodLink "FerryHallLaw" (125 : Nat) ({ cls := "FerryHallLaw", name := "way", desc := "(LFerryHall;II[J)I" } : Jvm.MethodName)) ∈ lw_all := lw_g (lw_at lw_m8 13 rfl) rfl
theorem q1812 : (Jvm.Cond.static ({ cls := "FerryHallLaw", name := "way", desc := "(LFerryHall;II[J)I" } : Jvm.MethodName)) ∈ lw_all := lw_g (lw_at lw_m8 14 rfl) rfl
theorem q1813 : (Jvm.Cond.codeWith ({ cls := "FerryHallLaw", name := "way", desc := "(LFerryHall;II[J)I" } : Jvm.MethodName) method_11_code (5 : Nat) (Option.some Jvm.ClassFile.FieldType.int) [((0 : Nat), (10 : Nat), (13 : Nat), (18 : Nat))]) ∈ lw_all := lw_g (lw_at lw_m8 15 rfl) rfl
theorem q1814 : (Jvm.Cond.methodLink "FerryHallLaw" (42 : Nat) ({ cls := "FerryHall", name := "way", desc := "(II)I" } : Jvm.MethodName)) ∈ lw_all := lw_g (lw_at lw_m8 16 rfl) rfl
theorem q1819 : (Jvm.Cond.methodLink "FerryHallLaw" (128 : Nat) ({ cls := "FerryHallLaw", name := "where", desc := "(LFerryHall;II[J)I" } : Jvm.MethodName)) ∈ lw_all := lw_g (lw_at lw_m8 21 rfl) rfl
theorem q1820 : (Jvm.Cond.static ({ cls := "FerryHallLaw", name := "where", desc := "(LFerryHall;II[J)I" } : Jvm.MethodName)) ∈ lw_all := lw_g (lw_at lw_m8 22 rfl) rfl
theorem q1821 : (Jvm.Cond.codeWith ({ cls := "FerryHallLaw", name := "where", desc := "(LFerryHall;II[J)I" } : Jvm.MethodName) method_12_code (5 : Nat) (Option.some Jvm.ClassFile.FieldType.int) [((0 : Nat), (10 : Nat), (13 : Nat), (18 : Nat))]) ∈ lw_all := lw_g (lw_at lw_m8 23 rfl) rfl
theorem q1822 : (Jvm.Cond.methodLink "FerryHallLaw" (45 : Nat) ({ cls := "FerryHall", name := "where", desc := "(II)I" } : Jvm.MethodName)) ∈ lw_all := lw_g (lw_at lw_m8 24 rfl) rfl
theorem q1831 : (Jvm.Cond.methodLink "FerryHallLaw" (131 : Nat) ({ cls := "FerryHallLaw", name := "rides", desc := "(LFerryHall;II[J)I" } : Jvm.MethodName)) ∈ lw_all := lw_g (lw_at lw_m8 33 rfl) rfl
theorem q1832 : (Jvm.Cond.static ({ cls := "FerryHallLaw", name := "rides", desc := "(LFerryHall;II[J)I" } : Jvm.MethodName)) ∈ lw_all := lw_g (lw_at lw_m8 34 rfl) rfl
theorem q1833 : (Jvm.Cond.codeWith ({ cls := "FerryHallLaw", name := "rides", desc := "(LFerryHall;II[J)I" } : Jvm.MethodName) method_13_code (5 : Nat) (Option.some Jvm.ClassFile.FieldType.int) [((0 : Nat), (10 : Nat), (13 : Nat), (18 : Nat))]) ∈ lw_all := lw_g (lw_at lw_m8 35 rfl) rfl
theorem q1834 : (Jvm.Cond.methodLink "FerryHallLaw" (48 : Nat) ({ cls := "FerryHall", name := "rides", desc := "(II)I" } : Jvm.MethodName)) ∈ lw_all := lw_g (lw_at lw_m8 36 rfl) rfl
theorem q1838 : (Jvm.Cond.methodLink "FerryHallLaw" (134 : Nat) ({ cls := "FerryHallLaw", name := "laws", desc := "(LFerryHall;I[J)I" } : Jvm.MethodName)) ∈ lw_all := lw_g (lw_at lw_m8 40 rfl) rfl
theorem q1839 : (Jvm.Cond.static ({ cls := "FerryHallLaw", name := "laws", desc := "(LFerryHall;I[J)I" } : Jvm.MethodName)) ∈ lw_all := lw_g (lw_at lw_m8 41 rfl) rfl
theorem q1840 : (Jvm.Cond.codeWith ({ cls := "FerryHallLaw", name := "laws", desc := "(LFerryHall;I[J)I" } : Jvm.MethodName) method_14_code (4 : Nat) (Option.some Jvm.ClassFile.FieldType.int) [((0 : Nat), (9 : Nat), (12 : Nat), (18 : Nat))]) ∈ lw_all := lw_g (lw_at lw_m8 42 rfl) rfl
theorem q1841 : (Jvm.Cond.methodLink "FerryHallLaw" (51 : Nat) ({ cls := "FerryHall", name := "laws", desc := "(I)I" } : Jvm.MethodName)) ∈ lw_all := lw_g (lw_at lw_m8 43 rfl) rfl
theorem q1849 : (Jvm.Cond.methodLink "FerryHallLaw" (137 : Nat) ({ cls := "FerryHallLaw", name := "size", desc := "(LFerryHall;I[J)I" } : Jvm.MethodName)) ∈ lw_all := lw_g (lw_at lw_m8 51 rfl) rfl
theorem q1850 : (Jvm.Cond.static ({ cls := "FerryHallLaw", name := "size", desc := "(LFerryHall;I[J)I" } : Jvm.MethodName)) ∈ lw_all := lw_g (lw_at lw_m8 52 rfl) rfl
theorem q1851 : (Jvm.Cond.codeWith ({ cls := "FerryHallLaw", name := "size", desc := "(LFerryHall;I[J)I" } : Jvm.MethodName) method_15_code (4 : Nat) (Option.some Jvm.ClassFile.FieldType.int) [((0 : Nat), (9 : Nat), (12 : Nat), (18 : Nat))]) ∈ lw_all := lw_g (lw_at lw_m8 53 rfl) rfl
theorem q1852 : (Jvm.Cond.methodLink "FerryHallLaw" (54 : Nat) ({ cls := "FerryHall", name := "size", desc := "(I)I" } : Jvm.MethodName)) ∈ lw_all := lw_g (lw_at lw_m8 54 rfl) rfl
theorem q1868 : (Jvm.Cond.methodLink "FerryHallLaw" (144 : Nat) ({ cls := "FerryHallLaw", name := "alike", desc := "(LFerryHall;I[J)I" } : Jvm.MethodName)) ∈ lw_all := lw_g (lw_at lw_m8 70 rfl) rfl
theorem q1869 : (Jvm.Cond.static ({ cls := "FerryHallLaw", name := "alike", desc := "(LFerryHall;I[J)I" } : Jvm.MethodName)) ∈ lw_all := lw_g (lw_at lw_m8 71 rfl) rfl
theorem q1870 : (Jvm.Cond.codeWith ({ cls := "FerryHallLaw", name := "alike", desc := "(LFerryHall;I[J)I" } : Jvm.MethodName) method_16_code (4 : Nat) (Option.some Jvm.ClassFile.FieldType.int) [((0 : Nat), (9 : Nat), (12 : Nat), (18 : Nat))]) ∈ lw_all := lw_g (lw_at lw_m8 72 rfl) rfl
theorem q1871 : (Jvm.Cond.methodLink "FerryHallLaw" (57 : Nat) ({ cls := "FerryHall", name := "alike", desc := "(I)I" } : Jvm.MethodName)) ∈ lw_all := lw_g (lw_at lw_m8 73 rfl) rfl
theorem q1882 : (Jvm.Cond.methodLink "FerryHallLaw" (160 : Nat) ({ cls := "FerryHallLaw", name := "play", desc := "(LFerryHall;I[J)I" } : Jvm.MethodName)) ∈ lw_all := lw_g (lw_at lw_m8 84 rfl) rfl
theorem q1883 : (Jvm.Cond.static ({ cls := "FerryHallLaw", name := "play", desc := "(LFerryHall;I[J)I" } : Jvm.MethodName)) ∈ lw_all := lw_g (lw_at lw_m8 85 rfl) rfl
theorem q1884 : (Jvm.Cond.codeWith ({ cls := "FerryHallLaw", name := "play", desc := "(LFerryHall;I[J)I" } : Jvm.MethodName) method_17_code (4 : Nat) (Option.some Jvm.ClassFile.FieldType.int) [((0 : Nat), (9 : Nat), (12 : Nat), (18 : Nat))]) ∈ lw_all := lw_g (lw_at lw_m8 86 rfl) rfl
theorem q1885 : (Jvm.Cond.methodLink "FerryHallLaw" (60 : Nat) ({ cls := "FerryHall", name := "play", desc := "(I)I" } : Jvm.MethodName)) ∈ lw_all := lw_g (lw_at lw_m8 87 rfl) rfl
theorem q1890 : (Jvm.Cond.methodLink "FerryHallLaw" (163 : Nat) ({ cls := "FerryHallLaw", name := "hint", desc := "(LFerryHall;I[J)I" } : Jvm.MethodName)) ∈ lw_all := lw_g (lw_at lw_m8 92 rfl) rfl
theorem q1891 : (Jvm.Cond.static ({ cls := "FerryHallLaw", name := "hint", desc := "(LFerryHall;I[J)I" } : Jvm.MethodName)) ∈ lw_all := lw_g (lw_at lw_m8 93 rfl) rfl
theorem q1892 : (Jvm.Cond.codeWith ({ cls := "FerryHallLaw", name := "hint", desc := "(LFerryHall;I[J)I" } : Jvm.MethodName) method_18_code (4 : Nat) (Option.some Jvm.ClassFile.FieldType.int) [((0 : Nat), (9 : Nat), (12 : Nat), (18 : Nat))]) ∈ lw_all := lw_g (lw_at lw_m8 94 rfl) rfl
theorem q1893 : (Jvm.Cond.methodLink "FerryHallLaw" (63 : Nat) ({ cls := "FerryHall", name := "hint", desc := "(I)I" } : Jvm.MethodName)) ∈ lw_all := lw_g (lw_at lw_m8 95 rfl) rfl
theorem q1901 : (Jvm.Cond.classLink "FerryHallLaw" (67 : Nat) "FerryHallModel") ∈ lw_all := lw_g (lw_at lw_m8 103 rfl) rfl
theorem q1903 : (Jvm.Cond.methodLink "FerryHallLaw" (69 : Nat) ({ cls := "FerryHallModel", name := "<init>", desc := "()V" } : Jvm.MethodName)) ∈ lw_all := lw_g (lw_at lw_m8 105 rfl) rfl
theorem q2181 : (Jvm.Cond.methodLink "FerryHallLaw" (81 : Nat) ({ cls := "FerryHallModel", name := "thrown", desc := "()I" } : Jvm.MethodName)) ∈ lw_all := lw_g (lw_at lw_m9 143 rfl) rfl
theorem q2185 : (Jvm.Cond.methodLink "FerryHallLaw" (74 : Nat) ({ cls := "FerryHallModel", name := "feed", desc := "(IIIII)I" } : Jvm.MethodName)) ∈ lw_all := lw_g (lw_at lw_m9 147 rfl) rfl
theorem q2193 : (Jvm.Cond.methodLink "FerryHallLaw" (80 : Nat) ({ cls := "FerryHallModel", name := "text", desc := "(I)I" } : Jvm.MethodName)) ∈ lw_all := lw_g (lw_at lw_m9 155 rfl) rfl
theorem q2312 : (Jvm.Cond.methodLink "FerryHallLaw" (88 : Nat) ({ cls := "FerryHallModel", name := "fault", desc := "()I" } : Jvm.MethodName)) ∈ lw_all := lw_g (lw_at lw_m10 34 rfl) rfl
theorem q2316 : (Jvm.Cond.methodLink "FerryHallLaw" (105 : Nat) ({ cls := "FerryHallModel", name := "bars", desc := "(IIIZ)I" } : Jvm.MethodName)) ∈ lw_all := lw_g (lw_at lw_m10 38 rfl) rfl
theorem q2354 : (Jvm.Cond.methodLink "FerryHallLaw" (109 : Nat) ({ cls := "FerryHallModel", name := "safe", desc := "(IIZ)I" } : Jvm.MethodName)) ∈ lw_all := lw_g (lw_at lw_m10 76 rfl) rfl
theorem q2358 : (Jvm.Cond.methodLink "FerryHallLaw" (146 : Nat) ({ cls := "FerryHallModel", name := "alike", desc := "(I)I" } : Jvm.MethodName)) ∈ lw_all := lw_g (lw_at lw_m10 80 rfl) rfl
theorem q2366 : (Jvm.Cond.methodLink "FerryHallLaw" (91 : Nat) ({ cls := "FerryHallModel", name := "count", desc := "(I)I" } : Jvm.MethodName)) ∈ lw_all := lw_g (lw_at lw_m10 88 rfl) rfl
theorem q2370 : (Jvm.Cond.methodLink "FerryHallLaw" (95 : Nat) ({ cls := "FerryHallModel", name := "thing", desc := "(II)I" } : Jvm.MethodName)) ∈ lw_all := lw_g (lw_at lw_m10 92 rfl) rfl
theorem q2374 : (Jvm.Cond.methodLink "FerryHallLaw" (98 : Nat) ({ cls := "FerryHallModel", name := "boat", desc := "(II)I" } : Jvm.MethodName)) ∈ lw_all := lw_g (lw_at lw_m10 96 rfl) rfl
theorem q2378 : (Jvm.Cond.methodLink "FerryHallLaw" (101 : Nat) ({ cls := "FerryHallModel", name := "water", desc := "(II)Z" } : Jvm.MethodName)) ∈ lw_all := lw_g (lw_at lw_m10 100 rfl) rfl
theorem q2386 : (Jvm.Cond.methodLink "FerryHallLaw" (112 : Nat) ({ cls := "FerryHallModel", name := "reached", desc := "(I)I" } : Jvm.MethodName)) ∈ lw_all := lw_g (lw_at lw_m10 108 rfl) rfl
theorem q2443 : (Jvm.Cond.methodLink "FerryHallLaw" (116 : Nat) ({ cls := "FerryHallModel", name := "fewest", desc := "()I" } : Jvm.MethodName)) ∈ lw_all := lw_g (lw_at lw_m10 165 rfl) rfl
theorem q2459 : (Jvm.Cond.methodLink "FerryHallLaw" (120 : Nat) ({ cls := "FerryHallModel", name := "quickest", desc := "()I" } : Jvm.MethodName)) ∈ lw_all := lw_g (lw_at lw_m10 181 rfl) rfl
theorem q2469 : (Jvm.Cond.methodLink "FerryHallLaw" (124 : Nat) ({ cls := "FerryHallModel", name := "ways", desc := "()I" } : Jvm.MethodName)) ∈ lw_all := lw_g (lw_at lw_m10 191 rfl) rfl
theorem q2474 : (Jvm.Cond.methodLink "FerryHallLaw" (127 : Nat) ({ cls := "FerryHallModel", name := "way", desc := "(II)I" } : Jvm.MethodName)) ∈ lw_all := lw_g (lw_at lw_m10 196 rfl) rfl
theorem q2478 : (Jvm.Cond.methodLink "FerryHallLaw" (130 : Nat) ({ cls := "FerryHallModel", name := "where", desc := "(II)I" } : Jvm.MethodName)) ∈ lw_all := lw_g (lw_at lw_m10 200 rfl) rfl
theorem q2482 : (Jvm.Cond.methodLink "FerryHallLaw" (133 : Nat) ({ cls := "FerryHallModel", name := "rides", desc := "(II)I" } : Jvm.MethodName)) ∈ lw_all := lw_g (lw_at lw_m10 204 rfl) rfl
theorem q2486 : (Jvm.Cond.methodLink "FerryHallLaw" (136 : Nat) ({ cls := "FerryHallModel", name := "laws", desc := "(I)I" } : Jvm.MethodName)) ∈ lw_all := lw_g (lw_at lw_m10 208 rfl) rfl
theorem q2498 : (Jvm.Cond.methodLink "FerryHallLaw" (139 : Nat) ({ cls := "FerryHallModel", name := "size", desc := "(I)I" } : Jvm.MethodName)) ∈ lw_all := lw_g (lw_at lw_m10 220 rfl) rfl
theorem q2510 : (Jvm.Cond.methodLink "FerryHallLaw" (143 : Nat) ({ cls := "FerryHallModel", name := "rounds", desc := "()I" } : Jvm.MethodName)) ∈ lw_all := lw_g (lw_at lw_m10 232 rfl) rfl
theorem q2538 : (Jvm.Cond.methodLink "FerryHallLaw" (151 : Nat) ({ cls := "FerryHallModel", name := "cross", desc := "(III)I" } : Jvm.MethodName)) ∈ lw_all := lw_g (lw_at lw_m11 20 rfl) rfl
theorem q2550 : (Jvm.Cond.methodLink "FerryHallLaw" (155 : Nat) ({ cls := "FerryHallModel", name := "law", desc := "()I" } : Jvm.MethodName)) ∈ lw_all := lw_g (lw_at lw_m11 32 rfl) rfl
theorem q2554 : (Jvm.Cond.methodLink "FerryHallLaw" (159 : Nat) ({ cls := "FerryHallModel", name := "back", desc := "()I" } : Jvm.MethodName)) ∈ lw_all := lw_g (lw_at lw_m11 36 rfl) rfl
theorem q2558 : (Jvm.Cond.methodLink "FerryHallLaw" (162 : Nat) ({ cls := "FerryHallModel", name := "play", desc := "(I)I" } : Jvm.MethodName)) ∈ lw_all := lw_g (lw_at lw_m11 40 rfl) rfl
theorem q2565 : (Jvm.Cond.methodLink "FerryHallLaw" (165 : Nat) ({ cls := "FerryHallModel", name := "hint", desc := "(I)I" } : Jvm.MethodName)) ∈ lw_all := lw_g (lw_at lw_m11 47 rfl) rfl
/-! the law's own entry -/
set_option maxRecDepth 100000
abbrev cL_law : ByteArray := code
def dkwL_law_58 : List UInt8 := [153, 0, 5, 3, 172, 167, 0, 3, 132, 4, 6, 167, 250, 120, 4, 172]
abbrev dktL_law_58 : List UInt8 := dkwL_law_58 ++ []
def dkwL_law_57 : List UInt8 := [182, 0, 81, 21, 5, 159, 0, 5, 3, 172, 21, 5, 154, 0, 15, 45, 3, 47, 21, 6, 133, 148]
abbrev dktL_law_57 : List UInt8 := dkwL_law_57 ++ dktL_law_58
def dkwL_law_56 : List UInt8 := [21, 4, 4, 96, 46, 45, 184, 0, 163, 54, 5, 44, 42, 21, 4, 4, 96, 46, 182, 0, 165, 54, 6, 44]
abbrev dktL_law_56 : List UInt8 := dkwL_law_56 ++ dktL_law_57
def dkwL_law_55 : List UInt8 := [172, 21, 5, 154, 0, 15, 45, 3, 47, 21, 6, 133, 148, 153, 0, 5, 3, 172, 167, 0, 59, 43, 42]
abbrev dktL_law_55 : List UInt8 := dkwL_law_55 ++ dktL_law_56
def dkwL_law_54 : List UInt8 := [54, 5, 44, 42, 21, 4, 4, 96, 46, 182, 0, 162, 54, 6, 44, 182, 0, 81, 21, 5, 159, 0, 5, 3]
abbrev dktL_law_54 : List UInt8 := dkwL_law_54 ++ dktL_law_55
def dkwL_law_53 : List UInt8 := [182, 0, 156, 44, 182, 0, 159, 159, 0, 117, 3, 172, 43, 42, 21, 4, 4, 96, 46, 45, 184, 0, 160]
abbrev dktL_law_53 : List UInt8 := dkwL_law_53 ++ dktL_law_54
def dkwL_law_52 : List UInt8 := [182, 0, 151, 159, 0, 143, 3, 172, 43, 182, 0, 152, 44, 182, 0, 155, 159, 0, 130, 3, 172, 43]
abbrev dktL_law_52 : List UInt8 := dkwL_law_52 ++ dktL_law_53
def dkwL_law_51 : List UInt8 := [182, 0, 147, 44, 42, 21, 4, 4, 96, 46, 42, 21, 4, 5, 96, 46, 42, 21, 4, 6, 96, 46]
abbrev dktL_law_51 : List UInt8 := dkwL_law_51 ++ dktL_law_52
def dkwL_law_50 : List UInt8 := [167, 0, 190, 43, 42, 21, 4, 4, 96, 46, 42, 21, 4, 5, 96, 46, 42, 21, 4, 6, 96, 46]
abbrev dktL_law_50 : List UInt8 := dkwL_law_50 ++ dktL_law_51
def dkwL_law_49 : List UInt8 := [159, 0, 5, 3, 172, 21, 5, 154, 0, 15, 45, 3, 47, 21, 6, 133, 148, 153, 0, 5, 3, 172]
abbrev dktL_law_49 : List UInt8 := dkwL_law_49 ++ dktL_law_50
def dkwL_law_48 : List UInt8 := [184, 0, 144, 54, 5, 44, 42, 21, 4, 4, 96, 46, 182, 0, 146, 54, 6, 44, 182, 0, 81, 21, 5]
abbrev dktL_law_48 : List UInt8 := dkwL_law_48 ++ dktL_law_49
def dkwL_law_47 : List UInt8 := [167, 1, 3, 43, 182, 0, 140, 44, 182, 0, 143, 159, 0, 248, 3, 172, 43, 42, 21, 4, 4, 96, 46, 45]
abbrev dktL_law_47 : List UInt8 := dkwL_law_47 ++ dktL_law_48
def dkwL_law_46 : List UInt8 := [21, 5, 159, 0, 5, 3, 172, 21, 5, 154, 0, 15, 45, 3, 47, 21, 6, 133, 148, 153, 0, 5, 3, 172]
abbrev dktL_law_46 : List UInt8 := dkwL_law_46 ++ dktL_law_47
def dkwL_law_45 : List UInt8 := [46, 45, 184, 0, 137, 54, 5, 44, 42, 21, 4, 4, 96, 46, 182, 0, 139, 54, 6, 44, 182, 0, 81]
abbrev dktL_law_45 : List UInt8 := dkwL_law_45 ++ dktL_law_46
def dkwL_law_44 : List UInt8 := [154, 0, 15, 45, 3, 47, 21, 6, 133, 148, 153, 0, 5, 3, 172, 167, 1, 59, 43, 42, 21, 4, 4, 96]
abbrev dktL_law_44 : List UInt8 := dkwL_law_44 ++ dktL_law_45
def dkwL_law_43 : List UInt8 := [21, 4, 4, 96, 46, 182, 0, 136, 54, 6, 44, 182, 0, 81, 21, 5, 159, 0, 5, 3, 172, 21, 5]
abbrev dktL_law_43 : List UInt8 := dkwL_law_43 ++ dktL_law_44
def dkwL_law_42 : List UInt8 := [153, 0, 5, 3, 172, 167, 1, 115, 43, 42, 21, 4, 4, 96, 46, 45, 184, 0, 134, 54, 5, 44, 42]
abbrev dktL_law_42 : List UInt8 := dkwL_law_42 ++ dktL_law_43
def dkwL_law_41 : List UInt8 := [182, 0, 81, 21, 5, 159, 0, 5, 3, 172, 21, 5, 154, 0, 15, 45, 3, 47, 21, 6, 133, 148]
abbrev dktL_law_41 : List UInt8 := dkwL_law_41 ++ dktL_law_42
def dkwL_law_40 : List UInt8 := [184, 0, 131, 54, 5, 44, 42, 21, 4, 4, 96, 46, 42, 21, 4, 5, 96, 46, 182, 0, 133, 54, 6, 44]
abbrev dktL_law_40 : List UInt8 := dkwL_law_40 ++ dktL_law_41
def dkwL_law_39 : List UInt8 := [153, 0, 5, 3, 172, 167, 1, 183, 43, 42, 21, 4, 4, 96, 46, 42, 21, 4, 5, 96, 46, 45]
abbrev dktL_law_39 : List UInt8 := dkwL_law_39 ++ dktL_law_40
def dkwL_law_38 : List UInt8 := [182, 0, 81, 21, 5, 159, 0, 5, 3, 172, 21, 5, 154, 0, 15, 45, 3, 47, 21, 6, 133, 148]
abbrev dktL_law_38 : List UInt8 := dkwL_law_38 ++ dktL_law_39
def dkwL_law_37 : List UInt8 := [184, 0, 128, 54, 5, 44, 42, 21, 4, 4, 96, 46, 42, 21, 4, 5, 96, 46, 182, 0, 130, 54, 6, 44]
abbrev dktL_law_37 : List UInt8 := dkwL_law_37 ++ dktL_law_38
def dkwL_law_36 : List UInt8 := [148, 153, 0, 5, 3, 172, 167, 1, 251, 43, 42, 21, 4, 4, 96, 46, 42, 21, 4, 5, 96, 46, 45]
abbrev dktL_law_36 : List UInt8 := dkwL_law_36 ++ dktL_law_37
def dkwL_law_35 : List UInt8 := [54, 6, 44, 182, 0, 81, 21, 5, 159, 0, 5, 3, 172, 21, 5, 154, 0, 15, 45, 3, 47, 21, 6, 133]
abbrev dktL_law_35 : List UInt8 := dkwL_law_35 ++ dktL_law_36
def dkwL_law_34 : List UInt8 := [46, 45, 184, 0, 125, 54, 5, 44, 42, 21, 4, 4, 96, 46, 42, 21, 4, 5, 96, 46, 182, 0, 127]
abbrev dktL_law_34 : List UInt8 := dkwL_law_34 ++ dktL_law_35
def dkwL_law_33 : List UInt8 := [182, 0, 121, 44, 182, 0, 124, 159, 2, 65, 3, 172, 43, 42, 21, 4, 4, 96, 46, 42, 21, 4, 5, 96]
abbrev dktL_law_33 : List UInt8 := dkwL_law_33 ++ dktL_law_34
def dkwL_law_32 : List UInt8 := [182, 0, 116, 159, 2, 91, 3, 172, 43, 182, 0, 117, 44, 182, 0, 120, 159, 2, 78, 3, 172, 43]
abbrev dktL_law_32 : List UInt8 := dkwL_law_32 ++ dktL_law_33
def dkwL_law_31 : List UInt8 := [154, 0, 15, 45, 3, 47, 21, 6, 133, 148, 153, 0, 5, 3, 172, 167, 2, 102, 43, 182, 0, 113, 44]
abbrev dktL_law_31 : List UInt8 := dkwL_law_31 ++ dktL_law_32
def dkwL_law_30 : List UInt8 := [21, 4, 4, 96, 46, 182, 0, 112, 54, 6, 44, 182, 0, 81, 21, 5, 159, 0, 5, 3, 172, 21, 5]
abbrev dktL_law_30 : List UInt8 := dkwL_law_30 ++ dktL_law_31
def dkwL_law_29 : List UInt8 := [153, 0, 5, 3, 172, 167, 2, 158, 43, 42, 21, 4, 4, 96, 46, 45, 184, 0, 110, 54, 5, 44, 42]
abbrev dktL_law_29 : List UInt8 := dkwL_law_29 ++ dktL_law_30
def dkwL_law_28 : List UInt8 := [182, 0, 81, 21, 5, 159, 0, 5, 3, 172, 21, 5, 154, 0, 15, 45, 3, 47, 21, 6, 133, 148]
abbrev dktL_law_28 : List UInt8 := dkwL_law_28 ++ dktL_law_29
def dkwL_law_27 : List UInt8 := [5, 96, 46, 42, 21, 4, 6, 96, 46, 153, 0, 7, 4, 167, 0, 4, 3, 182, 0, 109, 54, 6, 44]
abbrev dktL_law_27 : List UInt8 := dkwL_law_27 ++ dktL_law_28
def dkwL_law_26 : List UInt8 := [153, 0, 7, 4, 167, 0, 4, 3, 45, 184, 0, 106, 54, 5, 44, 42, 21, 4, 4, 96, 46, 42, 21, 4]
abbrev dktL_law_26 : List UInt8 := dkwL_law_26 ++ dktL_law_27
def dkwL_law_25 : List UInt8 := [167, 2, 254, 43, 42, 21, 4, 4, 96, 46, 42, 21, 4, 5, 96, 46, 42, 21, 4, 6, 96, 46]
abbrev dktL_law_25 : List UInt8 := dkwL_law_25 ++ dktL_law_26
def dkwL_law_24 : List UInt8 := [21, 5, 159, 0, 5, 3, 172, 21, 5, 154, 0, 15, 45, 3, 47, 21, 6, 133, 148, 153, 0, 5, 3, 172]
abbrev dktL_law_24 : List UInt8 := dkwL_law_24 ++ dktL_law_25
def dkwL_law_23 : List UInt8 := [42, 21, 4, 7, 96, 46, 153, 0, 7, 4, 167, 0, 4, 3, 182, 0, 105, 54, 6, 44, 182, 0, 81]
abbrev dktL_law_23 : List UInt8 := dkwL_law_23 ++ dktL_law_24
def dkwL_law_22 : List UInt8 := [184, 0, 102, 54, 5, 44, 42, 21, 4, 4, 96, 46, 42, 21, 4, 5, 96, 46, 42, 21, 4, 6, 96, 46]
abbrev dktL_law_22 : List UInt8 := dkwL_law_22 ++ dktL_law_23
def dkwL_law_21 : List UInt8 := [96, 46, 42, 21, 4, 6, 96, 46, 42, 21, 4, 7, 96, 46, 153, 0, 7, 4, 167, 0, 4, 3, 45]
abbrev dktL_law_21 : List UInt8 := dkwL_law_21 ++ dktL_law_22
def dkwL_law_20 : List UInt8 := [167, 0, 4, 9, 148, 153, 0, 5, 3, 172, 167, 3, 106, 43, 42, 21, 4, 4, 96, 46, 42, 21, 4, 5]
abbrev dktL_law_20 : List UInt8 := dkwL_law_20 ++ dktL_law_21
def dkwL_law_19 : List UInt8 := [182, 0, 81, 21, 5, 159, 0, 5, 3, 172, 21, 5, 154, 0, 22, 45, 3, 47, 21, 6, 153, 0, 7, 10]
abbrev dktL_law_19 : List UInt8 := dkwL_law_19 ++ dktL_law_20
def dkwL_law_18 : List UInt8 := [184, 0, 99, 54, 5, 44, 42, 21, 4, 4, 96, 46, 42, 21, 4, 5, 96, 46, 182, 0, 101, 54, 6, 44]
abbrev dktL_law_18 : List UInt8 := dkwL_law_18 ++ dktL_law_19
def dkwL_law_17 : List UInt8 := [153, 0, 5, 3, 172, 167, 3, 181, 43, 42, 21, 4, 4, 96, 46, 42, 21, 4, 5, 96, 46, 45]
abbrev dktL_law_17 : List UInt8 := dkwL_law_17 ++ dktL_law_18
def dkwL_law_16 : List UInt8 := [182, 0, 81, 21, 5, 159, 0, 5, 3, 172, 21, 5, 154, 0, 15, 45, 3, 47, 21, 6, 133, 148]
abbrev dktL_law_16 : List UInt8 := dkwL_law_16 ++ dktL_law_17
def dkwL_law_15 : List UInt8 := [184, 0, 96, 54, 5, 44, 42, 21, 4, 4, 96, 46, 42, 21, 4, 5, 96, 46, 182, 0, 98, 54, 6, 44]
abbrev dktL_law_15 : List UInt8 := dkwL_law_15 ++ dktL_law_16
def dkwL_law_14 : List UInt8 := [153, 0, 5, 3, 172, 167, 3, 249, 43, 42, 21, 4, 4, 96, 46, 42, 21, 4, 5, 96, 46, 45]
abbrev dktL_law_14 : List UInt8 := dkwL_law_14 ++ dktL_law_15
def dkwL_law_13 : List UInt8 := [182, 0, 81, 21, 5, 159, 0, 5, 3, 172, 21, 5, 154, 0, 15, 45, 3, 47, 21, 6, 133, 148]
abbrev dktL_law_13 : List UInt8 := dkwL_law_13 ++ dktL_law_14
def dkwL_law_12 : List UInt8 := [184, 0, 92, 54, 5, 44, 42, 21, 4, 4, 96, 46, 42, 21, 4, 5, 96, 46, 182, 0, 95, 54, 6, 44]
abbrev dktL_law_12 : List UInt8 := dkwL_law_12 ++ dktL_law_13
def dkwL_law_11 : List UInt8 := [153, 0, 5, 3, 172, 167, 4, 61, 43, 42, 21, 4, 4, 96, 46, 42, 21, 4, 5, 96, 46, 45]
abbrev dktL_law_11 : List UInt8 := dkwL_law_11 ++ dktL_law_12
def dkwL_law_10 : List UInt8 := [182, 0, 81, 21, 5, 159, 0, 5, 3, 172, 21, 5, 154, 0, 15, 45, 3, 47, 21, 6, 133, 148]
abbrev dktL_law_10 : List UInt8 := dkwL_law_10 ++ dktL_law_11
def dkwL_law_9 : List UInt8 := [21, 4, 4, 96, 46, 45, 184, 0, 89, 54, 5, 44, 42, 21, 4, 4, 96, 46, 182, 0, 91, 54, 6, 44]
abbrev dktL_law_9 : List UInt8 := dkwL_law_9 ++ dktL_law_10
def dkwL_law_8 : List UInt8 := [148, 153, 0, 5, 3, 172, 167, 4, 130, 43, 182, 0, 85, 44, 182, 0, 88, 159, 4, 119, 3, 172, 43, 42]
abbrev dktL_law_8 : List UInt8 := dkwL_law_8 ++ dktL_law_9
def dkwL_law_7 : List UInt8 := [54, 6, 44, 182, 0, 81, 21, 5, 159, 0, 5, 3, 172, 21, 5, 154, 0, 15, 45, 3, 47, 21, 6, 133]
abbrev dktL_law_7 : List UInt8 := dkwL_law_7 ++ dktL_law_8
def dkwL_law_6 : List UInt8 := [172, 43, 42, 21, 4, 4, 96, 46, 45, 184, 0, 75, 54, 5, 44, 42, 21, 4, 4, 96, 46, 182, 0, 80]
abbrev dktL_law_6 : List UInt8 := dkwL_law_6 ++ dktL_law_7
def dkwL_law_5 : List UInt8 := [21, 4, 6, 96, 46, 42, 21, 4, 7, 96, 46, 42, 21, 4, 8, 96, 46, 182, 0, 74, 159, 4, 188, 3]
abbrev dktL_law_5 : List UInt8 := dkwL_law_5 ++ dktL_law_6
def dkwL_law_4 : List UInt8 := [46, 42, 21, 4, 8, 96, 46, 182, 0, 70, 44, 42, 21, 4, 4, 96, 46, 42, 21, 4, 5, 96, 46, 42]
abbrev dktL_law_4 : List UInt8 := dkwL_law_4 ++ dktL_law_5
def dkwL_law_3 : List UInt8 := [43, 42, 21, 4, 4, 96, 46, 42, 21, 4, 5, 96, 46, 42, 21, 4, 6, 96, 46, 42, 21, 4, 7, 96]
abbrev dktL_law_3 : List UInt8 := dkwL_law_3 ++ dktL_law_4
def dkwL_law_2 : List UInt8 := [170, 0, 0, 0, 0, 0, 5, 116, 0, 0, 0, 0, 0, 0, 0, 24, 0, 0, 0, 116, 0, 0, 0, 189, 0, 0, 0, 245, 0, 0, 1, 2, 0, 0, 1, 58, 0, 0, 1, 126, 0, 0, 1, 194, 0, 0, 2, 13, 0, 0, 2, 121, 0, 0, 2, 217, 0, 0, 3, 17, 0, 0, 3, 30, 0, 0, 3, 43, 0, 0, 3, 56, 0, 0, 3, 124, 0, 0, 3, 192, 0, 0, 4, 4, 0, 0, 4, 60, 0, 0, 4, 116, 0, 0, 4, 129, 0, 0, 4, 185, 0, 0, 4, 234, 0, 0, 4, 247, 0, 0, 5, 4, 0, 0, 5, 60]
abbrev dktL_law_2 : List UInt8 := dkwL_law_2 ++ dktL_law_3
def dkwL_law_1 : List UInt8 := [21, 4, 42, 190, 16, 6, 100, 163, 5, 132, 42, 21, 4, 46, 16, 31, 126]
abbrev dktL_law_1 : List UInt8 := dkwL_law_1 ++ dktL_law_2
def dkwL_law_0 : List UInt8 := [187, 0, 8, 89, 183, 0, 66, 76, 187, 0, 67, 89, 183, 0, 69, 77, 4, 188, 11, 78, 3, 54, 4]
abbrev dktL_law_0 : List UInt8 := dkwL_law_0 ++ dktL_law_1
theorem dksL_law_0 : cL_law.data.toList.drop 0 = dktL_law_0 := by decide +kernel
theorem dksL_law_1 : cL_law.data.toList.drop 23 = dktL_law_1 := dk_seg dksL_law_0 23 rfl rfl
theorem dksL_law_2 : cL_law.data.toList.drop 40 = dktL_law_2 := dk_seg dksL_law_1 17 rfl rfl
theorem dksL_law_3 : cL_law.data.toList.drop 156 = dktL_law_3 := dk_seg dksL_law_2 116 rfl rfl
theorem dksL_law_4 : cL_law.data.toList.drop 180 = dktL_law_4 := dk_seg dksL_law_3 24 rfl rfl
theorem dksL_law_5 : cL_law.data.toList.drop 204 = dktL_law_5 := dk_seg dksL_law_4 24 rfl rfl
theorem dksL_law_6 : cL_law.data.toList.drop 228 = dktL_law_6 := dk_seg dksL_law_5 24 rfl rfl
theorem dksL_law_7 : cL_law.data.toList.drop 252 = dktL_law_7 := dk_seg dksL_law_6 24 rfl rfl
theorem dksL_law_8 : cL_law.data.toList.drop 276 = dktL_law_8 := dk_seg dksL_law_7 24 rfl rfl
theorem dksL_law_9 : cL_law.data.toList.drop 300 = dktL_law_9 := dk_seg dksL_law_8 24 rfl rfl
theorem dksL_law_10 : cL_law.data.toList.drop 324 = dktL_law_10 := dk_seg dksL_law_9 24 rfl rfl
theorem dksL_law_11 : cL_law.data.toList.drop 346 = dktL_law_11 := dk_seg dksL_law_10 22 rfl rfl
theorem dksL_law_12 : cL_law.data.toList.drop 368 = dktL_law_12 := dk_seg dksL_law_11 22 rfl rfl
theorem dksL_law_13 : cL_law.data.toList.drop 392 = dktL_law_13 := dk_seg dksL_law_12 24 rfl rfl
theorem dksL_law_14 : cL_law.data.toList.drop 414 = dktL_law_14 := dk_seg dksL_law_13 22 rfl rfl
theorem dksL_law_15 : cL_law.data.toList.drop 436 = dktL_law_15 := dk_seg dksL_law_14 22 rfl rfl
theorem dksL_law_16 : cL_law.data.toList.drop 460 = dktL_law_16 := dk_seg dksL_law_15 24 rfl rfl
theorem dksL_law_17 : cL_law.data.toList.drop 482 = dktL_law_17 := dk_seg dksL_law_16 22 rfl rfl
theorem dksL_law_18 : cL_law.data.toList.drop 504 = dktL_law_18 := dk_seg dksL_law_17 22 rfl rfl
theorem dksL_law_19 : cL_law.data.toList.drop 528 = dktL_law_19 := dk_seg dksL_law_18 24 rfl rfl
theorem dksL_law_20 : cL_law.data.toList.drop 552 = dktL_law_20 := dk_seg dksL_law_19 24 rfl rfl
theorem dksL_law_21 : cL_law.data.toList.drop 576 = dktL_law_21 := dk_seg dksL_law_20 24 rfl rfl
theorem dksL_law_22 : cL_law.data.toList.drop 599 = dktL_law_22 := dk_seg dksL_law_21 23 rfl rfl
theorem dksL_law_23 : cL_law.data.toList.drop 623 = dktL_law_23 := dk_seg dksL_law_22 24 rfl rfl
theorem dksL_law_24 : cL_law.data.toList.drop 646 = dktL_law_24 := dk_seg dksL_law_23 23 rfl rfl
theorem dksL_law_25 : cL_law.data.toList.drop 670 = dktL_law_25 := dk_seg dksL_law_24 24 rfl rfl
theorem dksL_law_26 : cL_law.data.toList.drop 692 = dktL_law_26 := dk_seg dksL_law_25 22 rfl rfl
theorem dksL_law_27 : cL_law.data.toList.drop 716 = dktL_law_27 := dk_seg dksL_law_26 24 rfl rfl
theorem dksL_law_28 : cL_law.data.toList.drop 739 = dktL_law_28 := dk_seg dksL_law_27 23 rfl rfl
theorem dksL_law_29 : cL_law.data.toList.drop 761 = dktL_law_29 := dk_seg dksL_law_28 22 rfl rfl
theorem dksL_law_30 : cL_law.data.toList.drop 784 = dktL_law_30 := dk_seg dksL_law_29 23 rfl rfl
theorem dksL_law_31 : cL_law.data.toList.drop 807 = dktL_law_31 := dk_seg dksL_law_30 23 rfl rfl
theorem dksL_law_32 : cL_law.data.toList.drop 830 = dktL_law_32 := dk_seg dksL_law_31 23 rfl rfl
theorem dksL_law_33 : cL_law.data.toList.drop 852 = dktL_law_33 := dk_seg dksL_law_32 22 rfl rfl
theorem dksL_law_34 : cL_law.data.toList.drop 876 = dktL_law_34 := dk_seg dksL_law_33 24 rfl rfl
theorem dksL_law_35 : cL_law.data.toList.drop 899 = dktL_law_35 := dk_seg dksL_law_34 23 rfl rfl
theorem dksL_law_36 : cL_law.data.toList.drop 923 = dktL_law_36 := dk_seg dksL_law_35 24 rfl rfl
theorem dksL_law_37 : cL_law.data.toList.drop 946 = dktL_law_37 := dk_seg dksL_law_36 23 rfl rfl
theorem dksL_law_38 : cL_law.data.toList.drop 970 = dktL_law_38 := dk_seg dksL_law_37 24 rfl rfl
theorem dksL_law_39 : cL_law.data.toList.drop 992 = dktL_law_39 := dk_seg dksL_law_38 22 rfl rfl
theorem dksL_law_40 : cL_law.data.toList.drop 1014 = dktL_law_40 := dk_seg dksL_law_39 22 rfl rfl
theorem dksL_law_41 : cL_law.data.toList.drop 1038 = dktL_law_41 := dk_seg dksL_law_40 24 rfl rfl
theorem dksL_law_42 : cL_law.data.toList.drop 1060 = dktL_law_42 := dk_seg dksL_law_41 22 rfl rfl
theorem dksL_law_43 : cL_law.data.toList.drop 1083 = dktL_law_43 := dk_seg dksL_law_42 23 rfl rfl
theorem dksL_law_44 : cL_law.data.toList.drop 1106 = dktL_law_44 := dk_seg dksL_law_43 23 rfl rfl
theorem dksL_law_45 : cL_law.data.toList.drop 1130 = dktL_law_45 := dk_seg dksL_law_44 24 rfl rfl
theorem dksL_law_46 : cL_law.data.toList.drop 1153 = dktL_law_46 := dk_seg dksL_law_45 23 rfl rfl
theorem dksL_law_47 : cL_law.data.toList.drop 1177 = dktL_law_47 := dk_seg dksL_law_46 24 rfl rfl
theorem dksL_law_48 : cL_law.data.toList.drop 1201 = dktL_law_48 := dk_seg dksL_law_47 24 rfl rfl
theorem dksL_law_49 : cL_law.data.toList.drop 1224 = dktL_law_49 := dk_seg dksL_law_48 23 rfl rfl
theorem dksL_law_50 : cL_law.data.toList.drop 1246 = dktL_law_50 := dk_seg dksL_law_49 22 rfl rfl
theorem dksL_law_51 : cL_law.data.toList.drop 1268 = dktL_law_51 := dk_seg dksL_law_50 22 rfl rfl
theorem dksL_law_52 : cL_law.data.toList.drop 1290 = dktL_law_52 := dk_seg dksL_law_51 22 rfl rfl
theorem dksL_law_53 : cL_law.data.toList.drop 1312 = dktL_law_53 := dk_seg dksL_law_52 22 rfl rfl
theorem dksL_law_54 : cL_law.data.toList.drop 1335 = dktL_law_54 := dk_seg dksL_law_53 23 rfl rfl
theorem dksL_law_55 : cL_law.data.toList.drop 1359 = dktL_law_55 := dk_seg dksL_law_54 24 rfl rfl
theorem dksL_law_56 : cL_law.data.toList.drop 1382 = dktL_law_56 := dk_seg dksL_law_55 23 rfl rfl
theorem dksL_law_57 : cL_law.data.toList.drop 1406 = dktL_law_57 := dk_seg dksL_law_56 24 rfl rfl
theorem dksL_law_58 : cL_law.data.toList.drop 1428 = dktL_law_58 := dk_seg dksL_law_57 22 rfl rfl
theorem dL_law_0 : decode cL_law 0 = .ok (.new 8, 3) := dk_187 0 8 (dk_at dksL_law_0 0 rfl rfl)
theorem dL_law_3 : decode cL_law 3 = .ok (.dup, 1) := dk_89 (dk_at dksL_law_0 3 rfl rfl)
theorem dL_law_4 : decode cL_law 4 = .ok (.invokespecial 66, 3) := dk_183 0 66 (dk_at dksL_law_0 4 rfl rfl)
theorem dL_law_7 : decode cL_law 7 = .ok (.astore_n 1, 1) := dk_76 (dk_at dksL_law_0 7 rfl rfl)
theorem dL_law_8 : decode cL_law 8 = .ok (.new 67, 3) := dk_187 0 67 (dk_at dksL_law_0 8 rfl rfl)
theorem dL_law_11 : decode cL_law 11 = .ok (.dup, 1) := dk_89 (dk_at dksL_law_0 11 rfl rfl)
theorem dL_law_12 : decode cL_law 12 = .ok (.invokespecial 69, 3) := dk_183 0 69 (dk_at dksL_law_0 12 rfl rfl)
theorem dL_law_15 : decode cL_law 15 = .ok (.astore_n 2, 1) := dk_77 (dk_at dksL_law_0 15 rfl rfl)
theorem dL_law_16 : decode cL_law 16 = .ok (.iconst 1, 1) := dk_4 (dk_at dksL_law_0 16 rfl rfl)
theorem dL_law_17 : decode cL_law 17 = .ok (.newarray .long, 2) := dk_188_11 (dk_at dksL_law_0 17 rfl rfl)
theorem dL_law_19 : decode cL_law 19 = .ok (.astore_n 3, 1) := dk_78 (dk_at dksL_law_0 19 rfl rfl)
theorem dL_law_20 : decode cL_law 20 = .ok (.iconst 0, 1) := dk_3 (dk_at dksL_law_0 20 rfl rfl)
theorem dL_law_21 : decode cL_law 21 = .ok (.istore 4, 2) := dk_54 4 (dk_at dksL_law_0 21 rfl rfl)
theorem dL_law_23 : decode cL_law 23 = .ok (.iload 4, 2) := dk_21 4 (dk_at dksL_law_1 0 rfl rfl)
theorem dL_law_25 : decode cL_law 25 = .ok (.aload_n 0, 1) := dk_42 (dk_at dksL_law_1 2 rfl rfl)
theorem dL_law_26 : decode cL_law 26 = .ok (.arraylength, 1) := dk_190 (dk_at dksL_law_1 3 rfl rfl)
theorem dL_law_27 : decode cL_law 27 = .ok (.bipush 6, 2) := dk_16 6 (dk_at dksL_law_1 4 rfl rfl)
theorem dL_law_29 : decode cL_law 29 = .ok (.isub, 1) := dk_100 (dk_at dksL_law_1 6 rfl rfl)
theorem dL_law_30 : decode cL_law 30 = .ok (.if_icmp .gt 1412, 3) := dk_163 5 132 (dk_at dksL_law_1 7 rfl rfl)
theorem dL_law_33 : decode cL_law 33 = .ok (.aload_n 0, 1) := dk_42 (dk_at dksL_law_1 10 rfl rfl)
theorem dL_law_34 : decode cL_law 34 = .ok (.iload 4, 2) := dk_21 4 (dk_at dksL_law_1 11 rfl rfl)
theorem dL_law_36 : decode cL_law 36 = .ok (.iaload, 1) := dk_46 (dk_at dksL_law_1 13 rfl rfl)
theorem dL_law_37 : decode cL_law 37 = .ok (.bipush 31, 2) := dk_16 31 (dk_at dksL_law_1 14 rfl rfl)
theorem dL_law_39 : decode cL_law 39 = .ok (.iand, 1) := dk_126 (dk_at dksL_law_1 16 rfl rfl)
theorem dL_law_40 : decode cL_law 40 = .ok (.tableswitch 1396 0 24 #[116, 189, 245, 258, 314, 382, 450, 525, 633, 729, 785, 798, 811, 824, 892, 960, 1028, 1084, 1140, 1153, 1209, 1258, 1271, 1284, 1340], 116) := by decide +kernel
theorem dL_law_156 : decode cL_law 156 = .ok (.aload_n 1, 1) := dk_43 (dk_at dksL_law_3 0 rfl rfl)
theorem dL_law_157 : decode cL_law 157 = .ok (.aload_n 0, 1) := dk_42 (dk_at dksL_law_3 1 rfl rfl)
theorem dL_law_158 : decode cL_law 158 = .ok (.iload 4, 2) := dk_21 4 (dk_at dksL_law_3 2 rfl rfl)
theorem dL_law_160 : decode cL_law 160 = .ok (.iconst 1, 1) := dk_4 (dk_at dksL_law_3 4 rfl rfl)
theorem dL_law_161 : decode cL_law 161 = .ok (.iadd, 1) := dk_96 (dk_at dksL_law_3 5 rfl rfl)
theorem dL_law_162 : decode cL_law 162 = .ok (.iaload, 1) := dk_46 (dk_at dksL_law_3 6 rfl rfl)
theorem dL_law_163 : decode cL_law 163 = .ok (.aload_n 0, 1) := dk_42 (dk_at dksL_law_3 7 rfl rfl)
theorem dL_law_164 : decode cL_law 164 = .ok (.iload 4, 2) := dk_21 4 (dk_at dksL_law_3 8 rfl rfl)
theorem dL_law_166 : decode cL_law 166 = .ok (.iconst 2, 1) := dk_5 (dk_at dksL_law_3 10 rfl rfl)
theorem dL_law_167 : decode cL_law 167 = .ok (.iadd, 1) := dk_96 (dk_at dksL_law_3 11 rfl rfl)
theorem dL_law_168 : decode cL_law 168 = .ok (.iaload, 1) := dk_46 (dk_at dksL_law_3 12 rfl rfl)
theorem dL_law_169 : decode cL_law 169 = .ok (.aload_n 0, 1) := dk_42 (dk_at dksL_law_3 13 rfl rfl)
theorem dL_law_170 : decode cL_law 170 = .ok (.iload 4, 2) := dk_21 4 (dk_at dksL_law_3 14 rfl rfl)
theorem dL_law_172 : decode cL_law 172 = .ok (.iconst 3, 1) := dk_6 (dk_at dksL_law_3 16 rfl rfl)
theorem dL_law_173 : decode cL_law 173 = .ok (.iadd, 1) := dk_96 (dk_at dksL_law_3 17 rfl rfl)
theorem dL_law_174 : decode cL_law 174 = .ok (.iaload, 1) := dk_46 (dk_at dksL_law_3 18 rfl rfl)
theorem dL_law_175 : decode cL_law 175 = .ok (.aload_n 0, 1) := dk_42 (dk_at dksL_law_3 19 rfl rfl)
theorem dL_law_176 : decode cL_law 176 = .ok (.iload 4, 2) := dk_21 4 (dk_at dksL_law_3 20 rfl rfl)
theorem dL_law_178 : decode cL_law 178 = .ok (.iconst 4, 1) := dk_7 (dk_at dksL_law_3 22 rfl rfl)
theorem dL_law_179 : decode cL_law 179 = .ok (.iadd, 1) := dk_96 (dk_at dksL_law_3 23 rfl rfl)
theorem dL_law_180 : decode cL_law 180 = .ok (.iaload, 1) := dk_46 (dk_at dksL_law_4 0 rfl rfl)
theorem dL_law_181 : decode cL_law 181 = .ok (.aload_n 0, 1) := dk_42 (dk_at dksL_law_4 1 rfl rfl)
theorem dL_law_182 : decode cL_law 182 = .ok (.iload 4, 2) := dk_21 4 (dk_at dksL_law_4 2 rfl rfl)
theorem dL_law_184 : decode cL_law 184 = .ok (.iconst 5, 1) := dk_8 (dk_at dksL_law_4 4 rfl rfl)
theorem dL_law_185 : decode cL_law 185 = .ok (.iadd, 1) := dk_96 (dk_at dksL_law_4 5 rfl rfl)
theorem dL_law_186 : decode cL_law 186 = .ok (.iaload, 1) := dk_46 (dk_at dksL_law_4 6 rfl rfl)
theorem dL_law_187 : decode cL_law 187 = .ok (.invokevirtual 70, 3) := dk_182 0 70 (dk_at dksL_law_4 7 rfl rfl)
theorem dL_law_190 : decode cL_law 190 = .ok (.aload_n 2, 1) := dk_44 (dk_at dksL_law_4 10 rfl rfl)
theorem dL_law_191 : decode cL_law 191 = .ok (.aload_n 0, 1) := dk_42 (dk_at dksL_law_4 11 rfl rfl)
theorem dL_law_192 : decode cL_law 192 = .ok (.iload 4, 2) := dk_21 4 (dk_at dksL_law_4 12 rfl rfl)
theorem dL_law_194 : decode cL_law 194 = .ok (.iconst 1, 1) := dk_4 (dk_at dksL_law_4 14 rfl rfl)
theorem dL_law_195 : decode cL_law 195 = .ok (.iadd, 1) := dk_96 (dk_at dksL_law_4 15 rfl rfl)
theorem dL_law_196 : decode cL_law 196 = .ok (.iaload, 1) := dk_46 (dk_at dksL_law_4 16 rfl rfl)
theorem dL_law_197 : decode cL_law 197 = .ok (.aload_n 0, 1) := dk_42 (dk_at dksL_law_4 17 rfl rfl)
theorem dL_law_198 : decode cL_law 198 = .ok (.iload 4, 2) := dk_21 4 (dk_at dksL_law_4 18 rfl rfl)
theorem dL_law_200 : decode cL_law 200 = .ok (.iconst 2, 1) := dk_5 (dk_at dksL_law_4 20 rfl rfl)
theorem dL_law_201 : decode cL_law 201 = .ok (.iadd, 1) := dk_96 (dk_at dksL_law_4 21 rfl rfl)
theorem dL_law_202 : decode cL_law 202 = .ok (.iaload, 1) := dk_46 (dk_at dksL_law_4 22 rfl rfl)
theorem dL_law_203 : decode cL_law 203 = .ok (.aload_n 0, 1) := dk_42 (dk_at dksL_law_4 23 rfl rfl)
theorem dL_law_204 : decode cL_law 204 = .ok (.iload 4, 2) := dk_21 4 (dk_at dksL_law_5 0 rfl rfl)
theorem dL_law_206 : decode cL_law 206 = .ok (.iconst 3, 1) := dk_6 (dk_at dksL_law_5 2 rfl rfl)
theorem dL_law_207 : decode cL_law 207 = .ok (.iadd, 1) := dk_96 (dk_at dksL_law_5 3 rfl rfl)
theorem dL_law_208 : decode cL_law 208 = .ok (.iaload, 1) := dk_46 (dk_at dksL_law_5 4 rfl rfl)
theorem dL_law_209 : decode cL_law 209 = .ok (.aload_n 0, 1) := dk_42 (dk_at dksL_law_5 5 rfl rfl)
theorem dL_law_210 : decode cL_law 210 = .ok (.iload 4, 2) := dk_21 4 (dk_at dksL_law_5 6 rfl rfl)
theorem dL_law_212 : decode cL_law 212 = .ok (.iconst 4, 1) := dk_7 (dk_at dksL_law_5 8 rfl rfl)
theorem dL_law_213 : decode cL_law 213 = .ok (.iadd, 1) := dk_96 (dk_at dksL_law_5 9 rfl rfl)
theorem dL_law_214 : decode cL_law 214 = .ok (.iaload, 1) := dk_46 (dk_at dksL_law_5 10 rfl rfl)
theorem dL_law_215 : decode cL_law 215 = .ok (.aload_n 0, 1) := dk_42 (dk_at dksL_law_5 11 rfl rfl)
theorem dL_law_216 : decode cL_law 216 = .ok (.iload 4, 2) := dk_21 4 (dk_at dksL_law_5 12 rfl rfl)
theorem dL_law_218 : decode cL_law 218 = .ok (.iconst 5, 1) := dk_8 (dk_at dksL_law_5 14 rfl rfl)
theorem dL_law_219 : decode cL_law 219 = .ok (.iadd, 1) := dk_96 (dk_at dksL_law_5 15 rfl rfl)
theorem dL_law_220 : decode cL_law 220 = .ok (.iaload, 1) := dk_46 (dk_at dksL_law_5 16 rfl rfl)
theorem dL_law_221 : decode cL_law 221 = .ok (.invokevirtual 74, 3) := dk_182 0 74 (dk_at dksL_law_5 17 rfl rfl)
theorem dL_law_224 : decode cL_law 224 = .ok (.if_icmp .eq 1212, 3) := dk_159 4 188 (dk_at dksL_law_5 20 rfl rfl)
theorem dL_law_227 : decode cL_law 227 = .ok (.iconst 0, 1) := dk_3 (dk_at dksL_law_5 23 rfl rfl)
theorem dL_law_228 : decode cL_law 228 = .ok (.ireturn, 1) := dk_172 (dk_at dksL_law_6 0 rfl rfl)
theorem dL_law_229 : decode cL_law 229 = .ok (.aload_n 1, 1) := dk_43 (dk_at dksL_law_6 1 rfl rfl)
theorem dL_law_230 : decode cL_law 230 = .ok (.aload_n 0, 1) := dk_42 (dk_at dksL_law_6 2 rfl rfl)
theorem dL_law_231 : decode cL_law 231 = .ok (.iload 4, 2) := dk_21 4 (dk_at dksL_law_6 3 rfl rfl)
theorem dL_law_233 : decode cL_law 233 = .ok (.iconst 1, 1) := dk_4 (dk_at dksL_law_6 5 rfl rfl)
theorem dL_law_234 : decode cL_law 234 = .ok (.iadd, 1) := dk_96 (dk_at dksL_law_6 6 rfl rfl)
theorem dL_law_235 : decode cL_law 235 = .ok (.iaload, 1) := dk_46 (dk_at dksL_law_6 7 rfl rfl)
theorem dL_law_236 : decode cL_law 236 = .ok (.aload_n 3, 1) := dk_45 (dk_at dksL_law_6 8 rfl rfl)
theorem dL_law_237 : decode cL_law 237 = .ok (.invokestatic 75, 3) := dk_184 0 75 (dk_at dksL_law_6 9 rfl rfl)
theorem dL_law_240 : decode cL_law 240 = .ok (.istore 5, 2) := dk_54 5 (dk_at dksL_law_6 12 rfl rfl)
theorem dL_law_242 : decode cL_law 242 = .ok (.aload_n 2, 1) := dk_44 (dk_at dksL_law_6 14 rfl rfl)
theorem dL_law_243 : decode cL_law 243 = .ok (.aload_n 0, 1) := dk_42 (dk_at dksL_law_6 15 rfl rfl)
theorem dL_law_244 : decode cL_law 244 = .ok (.iload 4, 2) := dk_21 4 (dk_at dksL_law_6 16 rfl rfl)
theorem dL_law_246 : decode cL_law 246 = .ok (.iconst 1, 1) := dk_4 (dk_at dksL_law_6 18 rfl rfl)
theorem dL_law_247 : decode cL_law 247 = .ok (.iadd, 1) := dk_96 (dk_at dksL_law_6 19 rfl rfl)
theorem dL_law_248 : decode cL_law 248 = .ok (.iaload, 1) := dk_46 (dk_at dksL_law_6 20 rfl rfl)
theorem dL_law_249 : decode cL_law 249 = .ok (.invokevirtual 80, 3) := dk_182 0 80 (dk_at dksL_law_6 21 rfl rfl)
theorem dL_law_252 : decode cL_law 252 = .ok (.istore 6, 2) := dk_54 6 (dk_at dksL_law_7 0 rfl rfl)
theorem dL_law_254 : decode cL_law 254 = .ok (.aload_n 2, 1) := dk_44 (dk_at dksL_law_7 2 rfl rfl)
theorem dL_law_255 : decode cL_law 255 = .ok (.invokevirtual 81, 3) := dk_182 0 81 (dk_at dksL_law_7 3 rfl rfl)
theorem dL_law_258 : decode cL_law 258 = .ok (.iload 5, 2) := dk_21 5 (dk_at dksL_law_7 6 rfl rfl)
theorem dL_law_260 : decode cL_law 260 = .ok (.if_icmp .eq 5, 3) := dk_159 0 5 (dk_at dksL_law_7 8 rfl rfl)
theorem dL_law_263 : decode cL_law 263 = .ok (.iconst 0, 1) := dk_3 (dk_at dksL_law_7 11 rfl rfl)
theorem dL_law_264 : decode cL_law 264 = .ok (.ireturn, 1) := dk_172 (dk_at dksL_law_7 12 rfl rfl)
theorem dL_law_265 : decode cL_law 265 = .ok (.iload 5, 2) := dk_21 5 (dk_at dksL_law_7 13 rfl rfl)
theorem dL_law_267 : decode cL_law 267 = .ok (.ifCond .ne 15, 3) := dk_154 0 15 (dk_at dksL_law_7 15 rfl rfl)
theorem dL_law_270 : decode cL_law 270 = .ok (.aload_n 3, 1) := dk_45 (dk_at dksL_law_7 18 rfl rfl)
theorem dL_law_271 : decode cL_law 271 = .ok (.iconst 0, 1) := dk_3 (dk_at dksL_law_7 19 rfl rfl)
theorem dL_law_272 : decode cL_law 272 = .ok (.laload, 1) := dk_47 (dk_at dksL_law_7 20 rfl rfl)
theorem dL_law_273 : decode cL_law 273 = .ok (.iload 6, 2) := dk_21 6 (dk_at dksL_law_7 21 rfl rfl)
theorem dL_law_275 : decode cL_law 275 = .ok (.i2l, 1) := dk_133 (dk_at dksL_law_7 23 rfl rfl)
theorem dL_law_276 : decode cL_law 276 = .ok (.lcmp, 1) := dk_148 (dk_at dksL_law_8 0 rfl rfl)
theorem dL_law_277 : decode cL_law 277 = .ok (.ifCond .eq 5, 3) := dk_153 0 5 (dk_at dksL_law_8 1 rfl rfl)
theorem dL_law_280 : decode cL_law 280 = .ok (.iconst 0, 1) := dk_3 (dk_at dksL_law_8 4 rfl rfl)
theorem dL_law_281 : decode cL_law 281 = .ok (.ireturn, 1) := dk_172 (dk_at dksL_law_8 5 rfl rfl)
theorem dL_law_282 : decode cL_law 282 = .ok (.goto 1154, 3) := dk_167 4 130 (dk_at dksL_law_8 6 rfl rfl)
theorem dL_law_285 : decode cL_law 285 = .ok (.aload_n 1, 1) := dk_43 (dk_at dksL_law_8 9 rfl rfl)
theorem dL_law_286 : decode cL_law 286 = .ok (.invokevirtual 85, 3) := dk_182 0 85 (dk_at dksL_law_8 10 rfl rfl)
theorem dL_law_289 : decode cL_law 289 = .ok (.aload_n 2, 1) := dk_44 (dk_at dksL_law_8 13 rfl rfl)
theorem dL_law_290 : decode cL_law 290 = .ok (.invokevirtual 88, 3) := dk_182 0 88 (dk_at dksL_law_8 14 rfl rfl)
theorem dL_law_293 : decode cL_law 293 = .ok (.if_icmp .eq 1143, 3) := dk_159 4 119 (dk_at dksL_law_8 17 rfl rfl)
theorem dL_law_296 : decode cL_law 296 = .ok (.iconst 0, 1) := dk_3 (dk_at dksL_law_8 20 rfl rfl)
theorem dL_law_297 : decode cL_law 297 = .ok (.ireturn, 1) := dk_172 (dk_at dksL_law_8 21 rfl rfl)
theorem dL_law_298 : decode cL_law 298 = .ok (.aload_n 1, 1) := dk_43 (dk_at dksL_law_8 22 rfl rfl)
theorem dL_law_299 : decode cL_law 299 = .ok (.aload_n 0, 1) := dk_42 (dk_at dksL_law_8 23 rfl rfl)
theorem dL_law_300 : decode cL_law 300 = .ok (.iload 4, 2) := dk_21 4 (dk_at dksL_law_9 0 rfl rfl)
theorem dL_law_302 : decode cL_law 302 = .ok (.iconst 1, 1) := dk_4 (dk_at dksL_law_9 2 rfl rfl)
theorem dL_law_303 : decode cL_law 303 = .ok (.iadd, 1) := dk_96 (dk_at dksL_law_9 3 rfl rfl)
theorem dL_law_304 : decode cL_law 304 = .ok (.iaload, 1) := dk_46 (dk_at dksL_law_9 4 rfl rfl)
theorem dL_law_305 : decode cL_law 305 = .ok (.aload_n 3, 1) := dk_45 (dk_at dksL_law_9 5 rfl rfl)
theorem dL_law_306 : decode cL_law 306 = .ok (.invokestatic 89, 3) := dk_184 0 89 (dk_at dksL_law_9 6 rfl rfl)
theorem dL_law_309 : decode cL_law 309 = .ok (.istore 5, 2) := dk_54 5 (dk_at dksL_law_9 9 rfl rfl)
theorem dL_law_311 : decode cL_law 311 = .ok (.aload_n 2, 1) := dk_44 (dk_at dksL_law_9 11 rfl rfl)
theorem dL_law_312 : decode cL_law 312 = .ok (.aload_n 0, 1) := dk_42 (dk_at dksL_law_9 12 rfl rfl)
theorem dL_law_313 : decode cL_law 313 = .ok (.iload 4, 2) := dk_21 4 (dk_at dksL_law_9 13 rfl rfl)
theorem dL_law_315 : decode cL_law 315 = .ok (.iconst 1, 1) := dk_4 (dk_at dksL_law_9 15 rfl rfl)
theorem dL_law_316 : decode cL_law 316 = .ok (.iadd, 1) := dk_96 (dk_at dksL_law_9 16 rfl rfl)
theorem dL_law_317 : decode cL_law 317 = .ok (.iaload, 1) := dk_46 (dk_at dksL_law_9 17 rfl rfl)
theorem dL_law_318 : decode cL_law 318 = .ok (.invokevirtual 91, 3) := dk_182 0 91 (dk_at dksL_law_9 18 rfl rfl)
theorem dL_law_321 : decode cL_law 321 = .ok (.istore 6, 2) := dk_54 6 (dk_at dksL_law_9 21 rfl rfl)
theorem dL_law_323 : decode cL_law 323 = .ok (.aload_n 2, 1) := dk_44 (dk_at dksL_law_9 23 rfl rfl)
theorem dL_law_324 : decode cL_law 324 = .ok (.invokevirtual 81, 3) := dk_182 0 81 (dk_at dksL_law_10 0 rfl rfl)
theorem dL_law_327 : decode cL_law 327 = .ok (.iload 5, 2) := dk_21 5 (dk_at dksL_law_10 3 rfl rfl)
theorem dL_law_329 : decode cL_law 329 = .ok (.if_icmp .eq 5, 3) := dk_159 0 5 (dk_at dksL_law_10 5 rfl rfl)
theorem dL_law_332 : decode cL_law 332 = .ok (.iconst 0, 1) := dk_3 (dk_at dksL_law_10 8 rfl rfl)
theorem dL_law_333 : decode cL_law 333 = .ok (.ireturn, 1) := dk_172 (dk_at dksL_law_10 9 rfl rfl)
theorem dL_law_334 : decode cL_law 334 = .ok (.iload 5, 2) := dk_21 5 (dk_at dksL_law_10 10 rfl rfl)
theorem dL_law_336 : decode cL_law 336 = .ok (.ifCond .ne 15, 3) := dk_154 0 15 (dk_at dksL_law_10 12 rfl rfl)
theorem dL_law_339 : decode cL_law 339 = .ok (.aload_n 3, 1) := dk_45 (dk_at dksL_law_10 15 rfl rfl)
theorem dL_law_340 : decode cL_law 340 = .ok (.iconst 0, 1) := dk_3 (dk_at dksL_law_10 16 rfl rfl)
theorem dL_law_341 : decode cL_law 341 = .ok (.laload, 1) := dk_47 (dk_at dksL_law_10 17 rfl rfl)
theorem dL_law_342 : decode cL_law 342 = .ok (.iload 6, 2) := dk_21 6 (dk_at dksL_law_10 18 rfl rfl)
theorem dL_law_344 : decode cL_law 344 = .ok (.i2l, 1) := dk_133 (dk_at dksL_law_10 20 rfl rfl)
theorem dL_law_345 : decode cL_law 345 = .ok (.lcmp, 1) := dk_148 (dk_at dksL_law_10 21 rfl rfl)
theorem dL_law_346 : decode cL_law 346 = .ok (.ifCond .eq 5, 3) := dk_153 0 5 (dk_at dksL_law_11 0 rfl rfl)
theorem dL_law_349 : decode cL_law 349 = .ok (.iconst 0, 1) := dk_3 (dk_at dksL_law_11 3 rfl rfl)
theorem dL_law_350 : decode cL_law 350 = .ok (.ireturn, 1) := dk_172 (dk_at dksL_law_11 4 rfl rfl)
theorem dL_law_351 : decode cL_law 351 = .ok (.goto 1085, 3) := dk_167 4 61 (dk_at dksL_law_11 5 rfl rfl)
theorem dL_law_354 : decode cL_law 354 = .ok (.aload_n 1, 1) := dk_43 (dk_at dksL_law_11 8 rfl rfl)
theorem dL_law_355 : decode cL_law 355 = .ok (.aload_n 0, 1) := dk_42 (dk_at dksL_law_11 9 rfl rfl)
theorem dL_law_356 : decode cL_law 356 = .ok (.iload 4, 2) := dk_21 4 (dk_at dksL_law_11 10 rfl rfl)
theorem dL_law_358 : decode cL_law 358 = .ok (.iconst 1, 1) := dk_4 (dk_at dksL_law_11 12 rfl rfl)
theorem dL_law_359 : decode cL_law 359 = .ok (.iadd, 1) := dk_96 (dk_at dksL_law_11 13 rfl rfl)
theorem dL_law_360 : decode cL_law 360 = .ok (.iaload, 1) := dk_46 (dk_at dksL_law_11 14 rfl rfl)
theorem dL_law_361 : decode cL_law 361 = .ok (.aload_n 0, 1) := dk_42 (dk_at dksL_law_11 15 rfl rfl)
theorem dL_law_362 : decode cL_law 362 = .ok (.iload 4, 2) := dk_21 4 (dk_at dksL_law_11 16 rfl rfl)
theorem dL_law_364 : decode cL_law 364 = .ok (.iconst 2, 1) := dk_5 (dk_at dksL_law_11 18 rfl rfl)
theorem dL_law_365 : decode cL_law 365 = .ok (.iadd, 1) := dk_96 (dk_at dksL_law_11 19 rfl rfl)
theorem dL_law_366 : decode cL_law 366 = .ok (.iaload, 1) := dk_46 (dk_at dksL_law_11 20 rfl rfl)
theorem dL_law_367 : decode cL_law 367 = .ok (.aload_n 3, 1) := dk_45 (dk_at dksL_law_11 21 rfl rfl)
theorem dL_law_368 : decode cL_law 368 = .ok (.invokestatic 92, 3) := dk_184 0 92 (dk_at dksL_law_12 0 rfl rfl)
theorem dL_law_371 : decode cL_law 371 = .ok (.istore 5, 2) := dk_54 5 (dk_at dksL_law_12 3 rfl rfl)
theorem dL_law_373 : decode cL_law 373 = .ok (.aload_n 2, 1) := dk_44 (dk_at dksL_law_12 5 rfl rfl)
theorem dL_law_374 : decode cL_law 374 = .ok (.aload_n 0, 1) := dk_42 (dk_at dksL_law_12 6 rfl rfl)
theorem dL_law_375 : decode cL_law 375 = .ok (.iload 4, 2) := dk_21 4 (dk_at dksL_law_12 7 rfl rfl)
theorem dL_law_377 : decode cL_law 377 = .ok (.iconst 1, 1) := dk_4 (dk_at dksL_law_12 9 rfl rfl)
theorem dL_law_378 : decode cL_law 378 = .ok (.iadd, 1) := dk_96 (dk_at dksL_law_12 10 rfl rfl)
theorem dL_law_379 : decode cL_law 379 = .ok (.iaload, 1) := dk_46 (dk_at dksL_law_12 11 rfl rfl)
theorem dL_law_380 : decode cL_law 380 = .ok (.aload_n 0, 1) := dk_42 (dk_at dksL_law_12 12 rfl rfl)
theorem dL_law_381 : decode cL_law 381 = .ok (.iload 4, 2) := dk_21 4 (dk_at dksL_law_12 13 rfl rfl)
theorem dL_law_383 : decode cL_law 383 = .ok (.iconst 2, 1) := dk_5 (dk_at dksL_law_12 15 rfl rfl)
theorem dL_law_384 : decode cL_law 384 = .ok (.iadd, 1) := dk_96 (dk_at dksL_law_12 16 rfl rfl)
theorem dL_law_385 : decode cL_law 385 = .ok (.iaload, 1) := dk_46 (dk_at dksL_law_12 17 rfl rfl)
theorem dL_law_386 : decode cL_law 386 = .ok (.invokevirtual 95, 3) := dk_182 0 95 (dk_at dksL_law_12 18 rfl rfl)
theorem dL_law_389 : decode cL_law 389 = .ok (.istore 6, 2) := dk_54 6 (dk_at dksL_law_12 21 rfl rfl)
theorem dL_law_391 : decode cL_law 391 = .ok (.aload_n 2, 1) := dk_44 (dk_at dksL_law_12 23 rfl rfl)
theorem dL_law_392 : decode cL_law 392 = .ok (.invokevirtual 81, 3) := dk_182 0 81 (dk_at dksL_law_13 0 rfl rfl)
theorem dL_law_395 : decode cL_law 395 = .ok (.iload 5, 2) := dk_21 5 (dk_at dksL_law_13 3 rfl rfl)
theorem dL_law_397 : decode cL_law 397 = .ok (.if_icmp .eq 5, 3) := dk_159 0 5 (dk_at dksL_law_13 5 rfl rfl)
theorem dL_law_400 : decode cL_law 400 = .ok (.iconst 0, 1) := dk_3 (dk_at dksL_law_13 8 rfl rfl)
theorem dL_law_401 : decode cL_law 401 = .ok (.ireturn, 1) := dk_172 (dk_at dksL_law_13 9 rfl rfl)
theorem dL_law_402 : decode cL_law 402 = .ok (.iload 5, 2) := dk_21 5 (dk_at dksL_law_13 10 rfl rfl)
theorem dL_law_404 : decode cL_law 404 = .ok (.ifCond .ne 15, 3) := dk_154 0 15 (dk_at dksL_law_13 12 rfl rfl)
theorem dL_law_407 : decode cL_law 407 = .ok (.aload_n 3, 1) := dk_45 (dk_at dksL_law_13 15 rfl rfl)
theorem dL_law_408 : decode cL_law 408 = .ok (.iconst 0, 1) := dk_3 (dk_at dksL_law_13 16 rfl rfl)
theorem dL_law_409 : decode cL_law 409 = .ok (.laload, 1) := dk_47 (dk_at dksL_law_13 17 rfl rfl)
theorem dL_law_410 : decode cL_law 410 = .ok (.iload 6, 2) := dk_21 6 (dk_at dksL_law_13 18 rfl rfl)
theorem dL_law_412 : decode cL_law 412 = .ok (.i2l, 1) := dk_133 (dk_at dksL_law_13 20 rfl rfl)
theorem dL_law_413 : decode cL_law 413 = .ok (.lcmp, 1) := dk_148 (dk_at dksL_law_13 21 rfl rfl)
theorem dL_law_414 : decode cL_law 414 = .ok (.ifCond .eq 5, 3) := dk_153 0 5 (dk_at dksL_law_14 0 rfl rfl)
theorem dL_law_417 : decode cL_law 417 = .ok (.iconst 0, 1) := dk_3 (dk_at dksL_law_14 3 rfl rfl)
theorem dL_law_418 : decode cL_law 418 = .ok (.ireturn, 1) := dk_172 (dk_at dksL_law_14 4 rfl rfl)
theorem dL_law_419 : decode cL_law 419 = .ok (.goto 1017, 3) := dk_167 3 249 (dk_at dksL_law_14 5 rfl rfl)
theorem dL_law_422 : decode cL_law 422 = .ok (.aload_n 1, 1) := dk_43 (dk_at dksL_law_14 8 rfl rfl)
theorem dL_law_423 : decode cL_law 423 = .ok (.aload_n 0, 1) := dk_42 (dk_at dksL_law_14 9 rfl rfl)
theorem dL_law_424 : decode cL_law 424 = .ok (.iload 4, 2) := dk_21 4 (dk_at dksL_law_14 10 rfl rfl)
theorem dL_law_426 : decode cL_law 426 = .ok (.iconst 1, 1) := dk_4 (dk_at dksL_law_14 12 rfl rfl)
theorem dL_law_427 : decode cL_law 427 = .ok (.iadd, 1) := dk_96 (dk_at dksL_law_14 13 rfl rfl)
theorem dL_law_428 : decode cL_law 428 = .ok (.iaload, 1) := dk_46 (dk_at dksL_law_14 14 rfl rfl)
theorem dL_law_429 : decode cL_law 429 = .ok (.aload_n 0, 1) := dk_42 (dk_at dksL_law_14 15 rfl rfl)
theorem dL_law_430 : decode cL_law 430 = .ok (.iload 4, 2) := dk_21 4 (dk_at dksL_law_14 16 rfl rfl)
theorem dL_law_432 : decode cL_law 432 = .ok (.iconst 2, 1) := dk_5 (dk_at dksL_law_14 18 rfl rfl)
theorem dL_law_433 : decode cL_law 433 = .ok (.iadd, 1) := dk_96 (dk_at dksL_law_14 19 rfl rfl)
theorem dL_law_434 : decode cL_law 434 = .ok (.iaload, 1) := dk_46 (dk_at dksL_law_14 20 rfl rfl)
theorem dL_law_435 : decode cL_law 435 = .ok (.aload_n 3, 1) := dk_45 (dk_at dksL_law_14 21 rfl rfl)
theorem dL_law_436 : decode cL_law 436 = .ok (.invokestatic 96, 3) := dk_184 0 96 (dk_at dksL_law_15 0 rfl rfl)
theorem dL_law_439 : decode cL_law 439 = .ok (.istore 5, 2) := dk_54 5 (dk_at dksL_law_15 3 rfl rfl)
theorem dL_law_441 : decode cL_law 441 = .ok (.aload_n 2, 1) := dk_44 (dk_at dksL_law_15 5 rfl rfl)
theorem dL_law_442 : decode cL_law 442 = .ok (.aload_n 0, 1) := dk_42 (dk_at dksL_law_15 6 rfl rfl)
theorem dL_law_443 : decode cL_law 443 = .ok (.iload 4, 2) := dk_21 4 (dk_at dksL_law_15 7 rfl rfl)
theorem dL_law_445 : decode cL_law 445 = .ok (.iconst 1, 1) := dk_4 (dk_at dksL_law_15 9 rfl rfl)
theorem dL_law_446 : decode cL_law 446 = .ok (.iadd, 1) := dk_96 (dk_at dksL_law_15 10 rfl rfl)
theorem dL_law_447 : decode cL_law 447 = .ok (.iaload, 1) := dk_46 (dk_at dksL_law_15 11 rfl rfl)
theorem dL_law_448 : decode cL_law 448 = .ok (.aload_n 0, 1) := dk_42 (dk_at dksL_law_15 12 rfl rfl)
theorem dL_law_449 : decode cL_law 449 = .ok (.iload 4, 2) := dk_21 4 (dk_at dksL_law_15 13 rfl rfl)
theorem dL_law_451 : decode cL_law 451 = .ok (.iconst 2, 1) := dk_5 (dk_at dksL_law_15 15 rfl rfl)
theorem dL_law_452 : decode cL_law 452 = .ok (.iadd, 1) := dk_96 (dk_at dksL_law_15 16 rfl rfl)
theorem dL_law_453 : decode cL_law 453 = .ok (.iaload, 1) := dk_46 (dk_at dksL_law_15 17 rfl rfl)
theorem dL_law_454 : decode cL_law 454 = .ok (.invokevirtual 98, 3) := dk_182 0 98 (dk_at dksL_law_15 18 rfl rfl)
theorem dL_law_457 : decode cL_law 457 = .ok (.istore 6, 2) := dk_54 6 (dk_at dksL_law_15 21 rfl rfl)
theorem dL_law_459 : decode cL_law 459 = .ok (.aload_n 2, 1) := dk_44 (dk_at dksL_law_15 23 rfl rfl)
theorem dL_law_460 : decode cL_law 460 = .ok (.invokevirtual 81, 3) := dk_182 0 81 (dk_at dksL_law_16 0 rfl rfl)
theorem dL_law_463 : decode cL_law 463 = .ok (.iload 5, 2) := dk_21 5 (dk_at dksL_law_16 3 rfl rfl)
theorem dL_law_465 : decode cL_law 465 = .ok (.if_icmp .eq 5, 3) := dk_159 0 5 (dk_at dksL_law_16 5 rfl rfl)
theorem dL_law_468 : decode cL_law 468 = .ok (.iconst 0, 1) := dk_3 (dk_at dksL_law_16 8 rfl rfl)
theorem dL_law_469 : decode cL_law 469 = .ok (.ireturn, 1) := dk_172 (dk_at dksL_law_16 9 rfl rfl)
theorem dL_law_470 : decode cL_law 470 = .ok (.iload 5, 2) := dk_21 5 (dk_at dksL_law_16 10 rfl rfl)
theorem dL_law_472 : decode cL_law 472 = .ok (.ifCond .ne 15, 3) := dk_154 0 15 (dk_at dksL_law_16 12 rfl rfl)
theorem dL_law_475 : decode cL_law 475 = .ok (.aload_n 3, 1) := dk_45 (dk_at dksL_law_16 15 rfl rfl)
theorem dL_law_476 : decode cL_law 476 = .ok (.iconst 0, 1) := dk_3 (dk_at dksL_law_16 16 rfl rfl)
theorem dL_law_477 : decode cL_law 477 = .ok (.laload, 1) := dk_47 (dk_at dksL_law_16 17 rfl rfl)
theorem dL_law_478 : decode cL_law 478 = .ok (.iload 6, 2) := dk_21 6 (dk_at dksL_law_16 18 rfl rfl)
theorem dL_law_480 : decode cL_law 480 = .ok (.i2l, 1) := dk_133 (dk_at dksL_law_16 20 rfl rfl)
theorem dL_law_481 : decode cL_law 481 = .ok (.lcmp, 1) := dk_148 (dk_at dksL_law_16 21 rfl rfl)
theorem dL_law_482 : decode cL_law 482 = .ok (.ifCond .eq 5, 3) := dk_153 0 5 (dk_at dksL_law_17 0 rfl rfl)
theorem dL_law_485 : decode cL_law 485 = .ok (.iconst 0, 1) := dk_3 (dk_at dksL_law_17 3 rfl rfl)
theorem dL_law_486 : decode cL_law 486 = .ok (.ireturn, 1) := dk_172 (dk_at dksL_law_17 4 rfl rfl)
theorem dL_law_487 : decode cL_law 487 = .ok (.goto 949, 3) := dk_167 3 181 (dk_at dksL_law_17 5 rfl rfl)
theorem dL_law_490 : decode cL_law 490 = .ok (.aload_n 1, 1) := dk_43 (dk_at dksL_law_17 8 rfl rfl)
theorem dL_law_491 : decode cL_law 491 = .ok (.aload_n 0, 1) := dk_42 (dk_at dksL_law_17 9 rfl rfl)
theorem dL_law_492 : decode cL_law 492 = .ok (.iload 4, 2) := dk_21 4 (dk_at dksL_law_17 10 rfl rfl)
theorem dL_law_494 : decode cL_law 494 = .ok (.iconst 1, 1) := dk_4 (dk_at dksL_law_17 12 rfl rfl)
theorem dL_law_495 : decode cL_law 495 = .ok (.iadd, 1) := dk_96 (dk_at dksL_law_17 13 rfl rfl)
theorem dL_law_496 : decode cL_law 496 = .ok (.iaload, 1) := dk_46 (dk_at dksL_law_17 14 rfl rfl)
theorem dL_law_497 : decode cL_law 497 = .ok (.aload_n 0, 1) := dk_42 (dk_at dksL_law_17 15 rfl rfl)
theorem dL_law_498 : decode cL_law 498 = .ok (.iload 4, 2) := dk_21 4 (dk_at dksL_law_17 16 rfl rfl)
theorem dL_law_500 : decode cL_law 500 = .ok (.iconst 2, 1) := dk_5 (dk_at dksL_law_17 18 rfl rfl)
theorem dL_law_501 : decode cL_law 501 = .ok (.iadd, 1) := dk_96 (dk_at dksL_law_17 19 rfl rfl)
theorem dL_law_502 : decode cL_law 502 = .ok (.iaload, 1) := dk_46 (dk_at dksL_law_17 20 rfl rfl)
theorem dL_law_503 : decode cL_law 503 = .ok (.aload_n 3, 1) := dk_45 (dk_at dksL_law_17 21 rfl rfl)
theorem dL_law_504 : decode cL_law 504 = .ok (.invokestatic 99, 3) := dk_184 0 99 (dk_at dksL_law_18 0 rfl rfl)
theorem dL_law_507 : decode cL_law 507 = .ok (.istore 5, 2) := dk_54 5 (dk_at dksL_law_18 3 rfl rfl)
theorem dL_law_509 : decode cL_law 509 = .ok (.aload_n 2, 1) := dk_44 (dk_at dksL_law_18 5 rfl rfl)
theorem dL_law_510 : decode cL_law 510 = .ok (.aload_n 0, 1) := dk_42 (dk_at dksL_law_18 6 rfl rfl)
theorem dL_law_511 : decode cL_law 511 = .ok (.iload 4, 2) := dk_21 4 (dk_at dksL_law_18 7 rfl rfl)
theorem dL_law_513 : decode cL_law 513 = .ok (.iconst 1, 1) := dk_4 (dk_at dksL_law_18 9 rfl rfl)
theorem dL_law_514 : decode cL_law 514 = .ok (.iadd, 1) := dk_96 (dk_at dksL_law_18 10 rfl rfl)
theorem dL_law_515 : decode cL_law 515 = .ok (.iaload, 1) := dk_46 (dk_at dksL_law_18 11 rfl rfl)
theorem dL_law_516 : decode cL_law 516 = .ok (.aload_n 0, 1) := dk_42 (dk_at dksL_law_18 12 rfl rfl)
theorem dL_law_517 : decode cL_law 517 = .ok (.iload 4, 2) := dk_21 4 (dk_at dksL_law_18 13 rfl rfl)
theorem dL_law_519 : decode cL_law 519 = .ok (.iconst 2, 1) := dk_5 (dk_at dksL_law_18 15 rfl rfl)
theorem dL_law_520 : decode cL_law 520 = .ok (.iadd, 1) := dk_96 (dk_at dksL_law_18 16 rfl rfl)
theorem dL_law_521 : decode cL_law 521 = .ok (.iaload, 1) := dk_46 (dk_at dksL_law_18 17 rfl rfl)
theorem dL_law_522 : decode cL_law 522 = .ok (.invokevirtual 101, 3) := dk_182 0 101 (dk_at dksL_law_18 18 rfl rfl)
theorem dL_law_525 : decode cL_law 525 = .ok (.istore 6, 2) := dk_54 6 (dk_at dksL_law_18 21 rfl rfl)
theorem dL_law_527 : decode cL_law 527 = .ok (.aload_n 2, 1) := dk_44 (dk_at dksL_law_18 23 rfl rfl)
theorem dL_law_528 : decode cL_law 528 = .ok (.invokevirtual 81, 3) := dk_182 0 81 (dk_at dksL_law_19 0 rfl rfl)
theorem dL_law_531 : decode cL_law 531 = .ok (.iload 5, 2) := dk_21 5 (dk_at dksL_law_19 3 rfl rfl)
theorem dL_law_533 : decode cL_law 533 = .ok (.if_icmp .eq 5, 3) := dk_159 0 5 (dk_at dksL_law_19 5 rfl rfl)
theorem dL_law_536 : decode cL_law 536 = .ok (.iconst 0, 1) := dk_3 (dk_at dksL_law_19 8 rfl rfl)
theorem dL_law_537 : decode cL_law 537 = .ok (.ireturn, 1) := dk_172 (dk_at dksL_law_19 9 rfl rfl)
theorem dL_law_538 : decode cL_law 538 = .ok (.iload 5, 2) := dk_21 5 (dk_at dksL_law_19 10 rfl rfl)
theorem dL_law_540 : decode cL_law 540 = .ok (.ifCond .ne 22, 3) := dk_154 0 22 (dk_at dksL_law_19 12 rfl rfl)
theorem dL_law_543 : decode cL_law 543 = .ok (.aload_n 3, 1) := dk_45 (dk_at dksL_law_19 15 rfl rfl)
theorem dL_law_544 : decode cL_law 544 = .ok (.iconst 0, 1) := dk_3 (dk_at dksL_law_19 16 rfl rfl)
theorem dL_law_545 : decode cL_law 545 = .ok (.laload, 1) := dk_47 (dk_at dksL_law_19 17 rfl rfl)
theorem dL_law_546 : decode cL_law 546 = .ok (.iload 6, 2) := dk_21 6 (dk_at dksL_law_19 18 rfl rfl)
theorem dL_law_548 : decode cL_law 548 = .ok (.ifCond .eq 7, 3) := dk_153 0 7 (dk_at dksL_law_19 20 rfl rfl)
theorem dL_law_551 : decode cL_law 551 = .ok (.lconst 1, 1) := dk_10 (dk_at dksL_law_19 23 rfl rfl)
theorem dL_law_552 : decode cL_law 552 = .ok (.goto 4, 3) := dk_167 0 4 (dk_at dksL_law_20 0 rfl rfl)
theorem dL_law_555 : decode cL_law 555 = .ok (.lconst 0, 1) := dk_9 (dk_at dksL_law_20 3 rfl rfl)
theorem dL_law_556 : decode cL_law 556 = .ok (.lcmp, 1) := dk_148 (dk_at dksL_law_20 4 rfl rfl)
theorem dL_law_557 : decode cL_law 557 = .ok (.ifCond .eq 5, 3) := dk_153 0 5 (dk_at dksL_law_20 5 rfl rfl)
theorem dL_law_560 : decode cL_law 560 = .ok (.iconst 0, 1) := dk_3 (dk_at dksL_law_20 8 rfl rfl)
theorem dL_law_561 : decode cL_law 561 = .ok (.ireturn, 1) := dk_172 (dk_at dksL_law_20 9 rfl rfl)
theorem dL_law_562 : decode cL_law 562 = .ok (.goto 874, 3) := dk_167 3 106 (dk_at dksL_law_20 10 rfl rfl)
theorem dL_law_565 : decode cL_law 565 = .ok (.aload_n 1, 1) := dk_43 (dk_at dksL_law_20 13 rfl rfl)
theorem dL_law_566 : decode cL_law 566 = .ok (.aload_n 0, 1) := dk_42 (dk_at dksL_law_20 14 rfl rfl)
theorem dL_law_567 : decode cL_law 567 = .ok (.iload 4, 2) := dk_21 4 (dk_at dksL_law_20 15 rfl rfl)
theorem dL_law_569 : decode cL_law 569 = .ok (.iconst 1, 1) := dk_4 (dk_at dksL_law_20 17 rfl rfl)
theorem dL_law_570 : decode cL_law 570 = .ok (.iadd, 1) := dk_96 (dk_at dksL_law_20 18 rfl rfl)
theorem dL_law_571 : decode cL_law 571 = .ok (.iaload, 1) := dk_46 (dk_at dksL_law_20 19 rfl rfl)
theorem dL_law_572 : decode cL_law 572 = .ok (.aload_n 0, 1) := dk_42 (dk_at dksL_law_20 20 rfl rfl)
theorem dL_law_573 : decode cL_law 573 = .ok (.iload 4, 2) := dk_21 4 (dk_at dksL_law_20 21 rfl rfl)
theorem dL_law_575 : decode cL_law 575 = .ok (.iconst 2, 1) := dk_5 (dk_at dksL_law_20 23 rfl rfl)
theorem dL_law_576 : decode cL_law 576 = .ok (.iadd, 1) := dk_96 (dk_at dksL_law_21 0 rfl rfl)
theorem dL_law_577 : decode cL_law 577 = .ok (.iaload, 1) := dk_46 (dk_at dksL_law_21 1 rfl rfl)
theorem dL_law_578 : decode cL_law 578 = .ok (.aload_n 0, 1) := dk_42 (dk_at dksL_law_21 2 rfl rfl)
theorem dL_law_579 : decode cL_law 579 = .ok (.iload 4, 2) := dk_21 4 (dk_at dksL_law_21 3 rfl rfl)
theorem dL_law_581 : decode cL_law 581 = .ok (.iconst 3, 1) := dk_6 (dk_at dksL_law_21 5 rfl rfl)
theorem dL_law_582 : decode cL_law 582 = .ok (.iadd, 1) := dk_96 (dk_at dksL_law_21 6 rfl rfl)
theorem dL_law_583 : decode cL_law 583 = .ok (.iaload, 1) := dk_46 (dk_at dksL_law_21 7 rfl rfl)
theorem dL_law_584 : decode cL_law 584 = .ok (.aload_n 0, 1) := dk_42 (dk_at dksL_law_21 8 rfl rfl)
theorem dL_law_585 : decode cL_law 585 = .ok (.iload 4, 2) := dk_21 4 (dk_at dksL_law_21 9 rfl rfl)
theorem dL_law_587 : decode cL_law 587 = .ok (.iconst 4, 1) := dk_7 (dk_at dksL_law_21 11 rfl rfl)
theorem dL_law_588 : decode cL_law 588 = .ok (.iadd, 1) := dk_96 (dk_at dksL_law_21 12 rfl rfl)
theorem dL_law_589 : decode cL_law 589 = .ok (.iaload, 1) := dk_46 (dk_at dksL_law_21 13 rfl rfl)
theorem dL_law_590 : decode cL_law 590 = .ok (.ifCond .eq 7, 3) := dk_153 0 7 (dk_at dksL_law_21 14 rfl rfl)
theorem dL_law_593 : decode cL_law 593 = .ok (.iconst 1, 1) := dk_4 (dk_at dksL_law_21 17 rfl rfl)
theorem dL_law_594 : decode cL_law 594 = .ok (.goto 4, 3) := dk_167 0 4 (dk_at dksL_law_21 18 rfl rfl)
theorem dL_law_597 : decode cL_law 597 = .ok (.iconst 0, 1) := dk_3 (dk_at dksL_law_21 21 rfl rfl)
theorem dL_law_598 : decode cL_law 598 = .ok (.aload_n 3, 1) := dk_45 (dk_at dksL_law_21 22 rfl rfl)
theorem dL_law_599 : decode cL_law 599 = .ok (.invokestatic 102, 3) := dk_184 0 102 (dk_at dksL_law_22 0 rfl rfl)
theorem dL_law_602 : decode cL_law 602 = .ok (.istore 5, 2) := dk_54 5 (dk_at dksL_law_22 3 rfl rfl)
theorem dL_law_604 : decode cL_law 604 = .ok (.aload_n 2, 1) := dk_44 (dk_at dksL_law_22 5 rfl rfl)
theorem dL_law_605 : decode cL_law 605 = .ok (.aload_n 0, 1) := dk_42 (dk_at dksL_law_22 6 rfl rfl)
theorem dL_law_606 : decode cL_law 606 = .ok (.iload 4, 2) := dk_21 4 (dk_at dksL_law_22 7 rfl rfl)
theorem dL_law_608 : decode cL_law 608 = .ok (.iconst 1, 1) := dk_4 (dk_at dksL_law_22 9 rfl rfl)
theorem dL_law_609 : decode cL_law 609 = .ok (.iadd, 1) := dk_96 (dk_at dksL_law_22 10 rfl rfl)
theorem dL_law_610 : decode cL_law 610 = .ok (.iaload, 1) := dk_46 (dk_at dksL_law_22 11 rfl rfl)
theorem dL_law_611 : decode cL_law 611 = .ok (.aload_n 0, 1) := dk_42 (dk_at dksL_law_22 12 rfl rfl)
theorem dL_law_612 : decode cL_law 612 = .ok (.iload 4, 2) := dk_21 4 (dk_at dksL_law_22 13 rfl rfl)
theorem dL_law_614 : decode cL_law 614 = .ok (.iconst 2, 1) := dk_5 (dk_at dksL_law_22 15 rfl rfl)
theorem dL_law_615 : decode cL_law 615 = .ok (.iadd, 1) := dk_96 (dk_at dksL_law_22 16 rfl rfl)
theorem dL_law_616 : decode cL_law 616 = .ok (.iaload, 1) := dk_46 (dk_at dksL_law_22 17 rfl rfl)
theorem dL_law_617 : decode cL_law 617 = .ok (.aload_n 0, 1) := dk_42 (dk_at dksL_law_22 18 rfl rfl)
theorem dL_law_618 : decode cL_law 618 = .ok (.iload 4, 2) := dk_21 4 (dk_at dksL_law_22 19 rfl rfl)
theorem dL_law_620 : decode cL_law 620 = .ok (.iconst 3, 1) := dk_6 (dk_at dksL_law_22 21 rfl rfl)
theorem dL_law_621 : decode cL_law 621 = .ok (.iadd, 1) := dk_96 (dk_at dksL_law_22 22 rfl rfl)
theorem dL_law_622 : decode cL_law 622 = .ok (.iaload, 1) := dk_46 (dk_at dksL_law_22 23 rfl rfl)
theorem dL_law_623 : decode cL_law 623 = .ok (.aload_n 0, 1) := dk_42 (dk_at dksL_law_23 0 rfl rfl)
theorem dL_law_624 : decode cL_law 624 = .ok (.iload 4, 2) := dk_21 4 (dk_at dksL_law_23 1 rfl rfl)
theorem dL_law_626 : decode cL_law 626 = .ok (.iconst 4, 1) := dk_7 (dk_at dksL_law_23 3 rfl rfl)
theorem dL_law_627 : decode cL_law 627 = .ok (.iadd, 1) := dk_96 (dk_at dksL_law_23 4 rfl rfl)
theorem dL_law_628 : decode cL_law 628 = .ok (.iaload, 1) := dk_46 (dk_at dksL_law_23 5 rfl rfl)
theorem dL_law_629 : decode cL_law 629 = .ok (.ifCond .eq 7, 3) := dk_153 0 7 (dk_at dksL_law_23 6 rfl rfl)
theorem dL_law_632 : decode cL_law 632 = .ok (.iconst 1, 1) := dk_4 (dk_at dksL_law_23 9 rfl rfl)
theorem dL_law_633 : decode cL_law 633 = .ok (.goto 4, 3) := dk_167 0 4 (dk_at dksL_law_23 10 rfl rfl)
theorem dL_law_636 : decode cL_law 636 = .ok (.iconst 0, 1) := dk_3 (dk_at dksL_law_23 13 rfl rfl)
theorem dL_law_637 : decode cL_law 637 = .ok (.invokevirtual 105, 3) := dk_182 0 105 (dk_at dksL_law_23 14 rfl rfl)
theorem dL_law_640 : decode cL_law 640 = .ok (.istore 6, 2) := dk_54 6 (dk_at dksL_law_23 17 rfl rfl)
theorem dL_law_642 : decode cL_law 642 = .ok (.aload_n 2, 1) := dk_44 (dk_at dksL_law_23 19 rfl rfl)
theorem dL_law_643 : decode cL_law 643 = .ok (.invokevirtual 81, 3) := dk_182 0 81 (dk_at dksL_law_23 20 rfl rfl)
theorem dL_law_646 : decode cL_law 646 = .ok (.iload 5, 2) := dk_21 5 (dk_at dksL_law_24 0 rfl rfl)
theorem dL_law_648 : decode cL_law 648 = .ok (.if_icmp .eq 5, 3) := dk_159 0 5 (dk_at dksL_law_24 2 rfl rfl)
theorem dL_law_651 : decode cL_law 651 = .ok (.iconst 0, 1) := dk_3 (dk_at dksL_law_24 5 rfl rfl)
theorem dL_law_652 : decode cL_law 652 = .ok (.ireturn, 1) := dk_172 (dk_at dksL_law_24 6 rfl rfl)
theorem dL_law_653 : decode cL_law 653 = .ok (.iload 5, 2) := dk_21 5 (dk_at dksL_law_24 7 rfl rfl)
theorem dL_law_655 : decode cL_law 655 = .ok (.ifCond .ne 15, 3) := dk_154 0 15 (dk_at dksL_law_24 9 rfl rfl)
theorem dL_law_658 : decode cL_law 658 = .ok (.aload_n 3, 1) := dk_45 (dk_at dksL_law_24 12 rfl rfl)
theorem dL_law_659 : decode cL_law 659 = .ok (.iconst 0, 1) := dk_3 (dk_at dksL_law_24 13 rfl rfl)
theorem dL_law_660 : decode cL_law 660 = .ok (.laload, 1) := dk_47 (dk_at dksL_law_24 14 rfl rfl)
theorem dL_law_661 : decode cL_law 661 = .ok (.iload 6, 2) := dk_21 6 (dk_at dksL_law_24 15 rfl rfl)
theorem dL_law_663 : decode cL_law 663 = .ok (.i2l, 1) := dk_133 (dk_at dksL_law_24 17 rfl rfl)
theorem dL_law_664 : decode cL_law 664 = .ok (.lcmp, 1) := dk_148 (dk_at dksL_law_24 18 rfl rfl)
theorem dL_law_665 : decode cL_law 665 = .ok (.ifCond .eq 5, 3) := dk_153 0 5 (dk_at dksL_law_24 19 rfl rfl)
theorem dL_law_668 : decode cL_law 668 = .ok (.iconst 0, 1) := dk_3 (dk_at dksL_law_24 22 rfl rfl)
theorem dL_law_669 : decode cL_law 669 = .ok (.ireturn, 1) := dk_172 (dk_at dksL_law_24 23 rfl rfl)
theorem dL_law_670 : decode cL_law 670 = .ok (.goto 766, 3) := dk_167 2 254 (dk_at dksL_law_25 0 rfl rfl)
theorem dL_law_673 : decode cL_law 673 = .ok (.aload_n 1, 1) := dk_43 (dk_at dksL_law_25 3 rfl rfl)
theorem dL_law_674 : decode cL_law 674 = .ok (.aload_n 0, 1) := dk_42 (dk_at dksL_law_25 4 rfl rfl)
theorem dL_law_675 : decode cL_law 675 = .ok (.iload 4, 2) := dk_21 4 (dk_at dksL_law_25 5 rfl rfl)
theorem dL_law_677 : decode cL_law 677 = .ok (.iconst 1, 1) := dk_4 (dk_at dksL_law_25 7 rfl rfl)
theorem dL_law_678 : decode cL_law 678 = .ok (.iadd, 1) := dk_96 (dk_at dksL_law_25 8 rfl rfl)
theorem dL_law_679 : decode cL_law 679 = .ok (.iaload, 1) := dk_46 (dk_at dksL_law_25 9 rfl rfl)
theorem dL_law_680 : decode cL_law 680 = .ok (.aload_n 0, 1) := dk_42 (dk_at dksL_law_25 10 rfl rfl)
theorem dL_law_681 : decode cL_law 681 = .ok (.iload 4, 2) := dk_21 4 (dk_at dksL_law_25 11 rfl rfl)
theorem dL_law_683 : decode cL_law 683 = .ok (.iconst 2, 1) := dk_5 (dk_at dksL_law_25 13 rfl rfl)
theorem dL_law_684 : decode cL_law 684 = .ok (.iadd, 1) := dk_96 (dk_at dksL_law_25 14 rfl rfl)
theorem dL_law_685 : decode cL_law 685 = .ok (.iaload, 1) := dk_46 (dk_at dksL_law_25 15 rfl rfl)
theorem dL_law_686 : decode cL_law 686 = .ok (.aload_n 0, 1) := dk_42 (dk_at dksL_law_25 16 rfl rfl)
theorem dL_law_687 : decode cL_law 687 = .ok (.iload 4, 2) := dk_21 4 (dk_at dksL_law_25 17 rfl rfl)
theorem dL_law_689 : decode cL_law 689 = .ok (.iconst 3, 1) := dk_6 (dk_at dksL_law_25 19 rfl rfl)
theorem dL_law_690 : decode cL_law 690 = .ok (.iadd, 1) := dk_96 (dk_at dksL_law_25 20 rfl rfl)
theorem dL_law_691 : decode cL_law 691 = .ok (.iaload, 1) := dk_46 (dk_at dksL_law_25 21 rfl rfl)
theorem dL_law_692 : decode cL_law 692 = .ok (.ifCond .eq 7, 3) := dk_153 0 7 (dk_at dksL_law_26 0 rfl rfl)
theorem dL_law_695 : decode cL_law 695 = .ok (.iconst 1, 1) := dk_4 (dk_at dksL_law_26 3 rfl rfl)
theorem dL_law_696 : decode cL_law 696 = .ok (.goto 4, 3) := dk_167 0 4 (dk_at dksL_law_26 4 rfl rfl)
theorem dL_law_699 : decode cL_law 699 = .ok (.iconst 0, 1) := dk_3 (dk_at dksL_law_26 7 rfl rfl)
theorem dL_law_700 : decode cL_law 700 = .ok (.aload_n 3, 1) := dk_45 (dk_at dksL_law_26 8 rfl rfl)
theorem dL_law_701 : decode cL_law 701 = .ok (.invokestatic 106, 3) := dk_184 0 106 (dk_at dksL_law_26 9 rfl rfl)
theorem dL_law_704 : decode cL_law 704 = .ok (.istore 5, 2) := dk_54 5 (dk_at dksL_law_26 12 rfl rfl)
theorem dL_law_706 : decode cL_law 706 = .ok (.aload_n 2, 1) := dk_44 (dk_at dksL_law_26 14 rfl rfl)
theorem dL_law_707 : decode cL_law 707 = .ok (.aload_n 0, 1) := dk_42 (dk_at dksL_law_26 15 rfl rfl)
theorem dL_law_708 : decode cL_law 708 = .ok (.iload 4, 2) := dk_21 4 (dk_at dksL_law_26 16 rfl rfl)
theorem dL_law_710 : decode cL_law 710 = .ok (.iconst 1, 1) := dk_4 (dk_at dksL_law_26 18 rfl rfl)
theorem dL_law_711 : decode cL_law 711 = .ok (.iadd, 1) := dk_96 (dk_at dksL_law_26 19 rfl rfl)
theorem dL_law_712 : decode cL_law 712 = .ok (.iaload, 1) := dk_46 (dk_at dksL_law_26 20 rfl rfl)
theorem dL_law_713 : decode cL_law 713 = .ok (.aload_n 0, 1) := dk_42 (dk_at dksL_law_26 21 rfl rfl)
theorem dL_law_714 : decode cL_law 714 = .ok (.iload 4, 2) := dk_21 4 (dk_at dksL_law_26 22 rfl rfl)
theorem dL_law_716 : decode cL_law 716 = .ok (.iconst 2, 1) := dk_5 (dk_at dksL_law_27 0 rfl rfl)
theorem dL_law_717 : decode cL_law 717 = .ok (.iadd, 1) := dk_96 (dk_at dksL_law_27 1 rfl rfl)
theorem dL_law_718 : decode cL_law 718 = .ok (.iaload, 1) := dk_46 (dk_at dksL_law_27 2 rfl rfl)
theorem dL_law_719 : decode cL_law 719 = .ok (.aload_n 0, 1) := dk_42 (dk_at dksL_law_27 3 rfl rfl)
theorem dL_law_720 : decode cL_law 720 = .ok (.iload 4, 2) := dk_21 4 (dk_at dksL_law_27 4 rfl rfl)
theorem dL_law_722 : decode cL_law 722 = .ok (.iconst 3, 1) := dk_6 (dk_at dksL_law_27 6 rfl rfl)
theorem dL_law_723 : decode cL_law 723 = .ok (.iadd, 1) := dk_96 (dk_at dksL_law_27 7 rfl rfl)
theorem dL_law_724 : decode cL_law 724 = .ok (.iaload, 1) := dk_46 (dk_at dksL_law_27 8 rfl rfl)
theorem dL_law_725 : decode cL_law 725 = .ok (.ifCond .eq 7, 3) := dk_153 0 7 (dk_at dksL_law_27 9 rfl rfl)
theorem dL_law_728 : decode cL_law 728 = .ok (.iconst 1, 1) := dk_4 (dk_at dksL_law_27 12 rfl rfl)
theorem dL_law_729 : decode cL_law 729 = .ok (.goto 4, 3) := dk_167 0 4 (dk_at dksL_law_27 13 rfl rfl)
theorem dL_law_732 : decode cL_law 732 = .ok (.iconst 0, 1) := dk_3 (dk_at dksL_law_27 16 rfl rfl)
theorem dL_law_733 : decode cL_law 733 = .ok (.invokevirtual 109, 3) := dk_182 0 109 (dk_at dksL_law_27 17 rfl rfl)
theorem dL_law_736 : decode cL_law 736 = .ok (.istore 6, 2) := dk_54 6 (dk_at dksL_law_27 20 rfl rfl)
theorem dL_law_738 : decode cL_law 738 = .ok (.aload_n 2, 1) := dk_44 (dk_at dksL_law_27 22 rfl rfl)
theorem dL_law_739 : decode cL_law 739 = .ok (.invokevirtual 81, 3) := dk_182 0 81 (dk_at dksL_law_28 0 rfl rfl)
theorem dL_law_742 : decode cL_law 742 = .ok (.iload 5, 2) := dk_21 5 (dk_at dksL_law_28 3 rfl rfl)
theorem dL_law_744 : decode cL_law 744 = .ok (.if_icmp .eq 5, 3) := dk_159 0 5 (dk_at dksL_law_28 5 rfl rfl)
theorem dL_law_747 : decode cL_law 747 = .ok (.iconst 0, 1) := dk_3 (dk_at dksL_law_28 8 rfl rfl)
theorem dL_law_748 : decode cL_law 748 = .ok (.ireturn, 1) := dk_172 (dk_at dksL_law_28 9 rfl rfl)
theorem dL_law_749 : decode cL_law 749 = .ok (.iload 5, 2) := dk_21 5 (dk_at dksL_law_28 10 rfl rfl)
theorem dL_law_751 : decode cL_law 751 = .ok (.ifCond .ne 15, 3) := dk_154 0 15 (dk_at dksL_law_28 12 rfl rfl)
theorem dL_law_754 : decode cL_law 754 = .ok (.aload_n 3, 1) := dk_45 (dk_at dksL_law_28 15 rfl rfl)
theorem dL_law_755 : decode cL_law 755 = .ok (.iconst 0, 1) := dk_3 (dk_at dksL_law_28 16 rfl rfl)
theorem dL_law_756 : decode cL_law 756 = .ok (.laload, 1) := dk_47 (dk_at dksL_law_28 17 rfl rfl)
theorem dL_law_757 : decode cL_law 757 = .ok (.iload 6, 2) := dk_21 6 (dk_at dksL_law_28 18 rfl rfl)
theorem dL_law_759 : decode cL_law 759 = .ok (.i2l, 1) := dk_133 (dk_at dksL_law_28 20 rfl rfl)
theorem dL_law_760 : decode cL_law 760 = .ok (.lcmp, 1) := dk_148 (dk_at dksL_law_28 21 rfl rfl)
theorem dL_law_761 : decode cL_law 761 = .ok (.ifCond .eq 5, 3) := dk_153 0 5 (dk_at dksL_law_29 0 rfl rfl)
theorem dL_law_764 : decode cL_law 764 = .ok (.iconst 0, 1) := dk_3 (dk_at dksL_law_29 3 rfl rfl)
theorem dL_law_765 : decode cL_law 765 = .ok (.ireturn, 1) := dk_172 (dk_at dksL_law_29 4 rfl rfl)
theorem dL_law_766 : decode cL_law 766 = .ok (.goto 670, 3) := dk_167 2 158 (dk_at dksL_law_29 5 rfl rfl)
theorem dL_law_769 : decode cL_law 769 = .ok (.aload_n 1, 1) := dk_43 (dk_at dksL_law_29 8 rfl rfl)
theorem dL_law_770 : decode cL_law 770 = .ok (.aload_n 0, 1) := dk_42 (dk_at dksL_law_29 9 rfl rfl)
theorem dL_law_771 : decode cL_law 771 = .ok (.iload 4, 2) := dk_21 4 (dk_at dksL_law_29 10 rfl rfl)
theorem dL_law_773 : decode cL_law 773 = .ok (.iconst 1, 1) := dk_4 (dk_at dksL_law_29 12 rfl rfl)
theorem dL_law_774 : decode cL_law 774 = .ok (.iadd, 1) := dk_96 (dk_at dksL_law_29 13 rfl rfl)
theorem dL_law_775 : decode cL_law 775 = .ok (.iaload, 1) := dk_46 (dk_at dksL_law_29 14 rfl rfl)
theorem dL_law_776 : decode cL_law 776 = .ok (.aload_n 3, 1) := dk_45 (dk_at dksL_law_29 15 rfl rfl)
theorem dL_law_777 : decode cL_law 777 = .ok (.invokestatic 110, 3) := dk_184 0 110 (dk_at dksL_law_29 16 rfl rfl)
theorem dL_law_780 : decode cL_law 780 = .ok (.istore 5, 2) := dk_54 5 (dk_at dksL_law_29 19 rfl rfl)
theorem dL_law_782 : decode cL_law 782 = .ok (.aload_n 2, 1) := dk_44 (dk_at dksL_law_29 21 rfl rfl)
theorem dL_law_783 : decode cL_law 783 = .ok (.aload_n 0, 1) := dk_42 (dk_at dksL_law_29 22 rfl rfl)
theorem dL_law_784 : decode cL_law 784 = .ok (.iload 4, 2) := dk_21 4 (dk_at dksL_law_30 0 rfl rfl)
theorem dL_law_786 : decode cL_law 786 = .ok (.iconst 1, 1) := dk_4 (dk_at dksL_law_30 2 rfl rfl)
theorem dL_law_787 : decode cL_law 787 = .ok (.iadd, 1) := dk_96 (dk_at dksL_law_30 3 rfl rfl)
theorem dL_law_788 : decode cL_law 788 = .ok (.iaload, 1) := dk_46 (dk_at dksL_law_30 4 rfl rfl)
theorem dL_law_789 : decode cL_law 789 = .ok (.invokevirtual 112, 3) := dk_182 0 112 (dk_at dksL_law_30 5 rfl rfl)
theorem dL_law_792 : decode cL_law 792 = .ok (.istore 6, 2) := dk_54 6 (dk_at dksL_law_30 8 rfl rfl)
theorem dL_law_794 : decode cL_law 794 = .ok (.aload_n 2, 1) := dk_44 (dk_at dksL_law_30 10 rfl rfl)
theorem dL_law_795 : decode cL_law 795 = .ok (.invokevirtual 81, 3) := dk_182 0 81 (dk_at dksL_law_30 11 rfl rfl)
theorem dL_law_798 : decode cL_law 798 = .ok (.iload 5, 2) := dk_21 5 (dk_at dksL_law_30 14 rfl rfl)
theorem dL_law_800 : decode cL_law 800 = .ok (.if_icmp .eq 5, 3) := dk_159 0 5 (dk_at dksL_law_30 16 rfl rfl)
theorem dL_law_803 : decode cL_law 803 = .ok (.iconst 0, 1) := dk_3 (dk_at dksL_law_30 19 rfl rfl)
theorem dL_law_804 : decode cL_law 804 = .ok (.ireturn, 1) := dk_172 (dk_at dksL_law_30 20 rfl rfl)
theorem dL_law_805 : decode cL_law 805 = .ok (.iload 5, 2) := dk_21 5 (dk_at dksL_law_30 21 rfl rfl)
theorem dL_law_807 : decode cL_law 807 = .ok (.ifCond .ne 15, 3) := dk_154 0 15 (dk_at dksL_law_31 0 rfl rfl)
theorem dL_law_810 : decode cL_law 810 = .ok (.aload_n 3, 1) := dk_45 (dk_at dksL_law_31 3 rfl rfl)
theorem dL_law_811 : decode cL_law 811 = .ok (.iconst 0, 1) := dk_3 (dk_at dksL_law_31 4 rfl rfl)
theorem dL_law_812 : decode cL_law 812 = .ok (.laload, 1) := dk_47 (dk_at dksL_law_31 5 rfl rfl)
theorem dL_law_813 : decode cL_law 813 = .ok (.iload 6, 2) := dk_21 6 (dk_at dksL_law_31 6 rfl rfl)
theorem dL_law_815 : decode cL_law 815 = .ok (.i2l, 1) := dk_133 (dk_at dksL_law_31 8 rfl rfl)
theorem dL_law_816 : decode cL_law 816 = .ok (.lcmp, 1) := dk_148 (dk_at dksL_law_31 9 rfl rfl)
theorem dL_law_817 : decode cL_law 817 = .ok (.ifCond .eq 5, 3) := dk_153 0 5 (dk_at dksL_law_31 10 rfl rfl)
theorem dL_law_820 : decode cL_law 820 = .ok (.iconst 0, 1) := dk_3 (dk_at dksL_law_31 13 rfl rfl)
theorem dL_law_821 : decode cL_law 821 = .ok (.ireturn, 1) := dk_172 (dk_at dksL_law_31 14 rfl rfl)
theorem dL_law_822 : decode cL_law 822 = .ok (.goto 614, 3) := dk_167 2 102 (dk_at dksL_law_31 15 rfl rfl)
theorem dL_law_825 : decode cL_law 825 = .ok (.aload_n 1, 1) := dk_43 (dk_at dksL_law_31 18 rfl rfl)
theorem dL_law_826 : decode cL_law 826 = .ok (.invokevirtual 113, 3) := dk_182 0 113 (dk_at dksL_law_31 19 rfl rfl)
theorem dL_law_829 : decode cL_law 829 = .ok (.aload_n 2, 1) := dk_44 (dk_at dksL_law_31 22 rfl rfl)
theorem dL_law_830 : decode cL_law 830 = .ok (.invokevirtual 116, 3) := dk_182 0 116 (dk_at dksL_law_32 0 rfl rfl)
theorem dL_law_833 : decode cL_law 833 = .ok (.if_icmp .eq 603, 3) := dk_159 2 91 (dk_at dksL_law_32 3 rfl rfl)
theorem dL_law_836 : decode cL_law 836 = .ok (.iconst 0, 1) := dk_3 (dk_at dksL_law_32 6 rfl rfl)
theorem dL_law_837 : decode cL_law 837 = .ok (.ireturn, 1) := dk_172 (dk_at dksL_law_32 7 rfl rfl)
theorem dL_law_838 : decode cL_law 838 = .ok (.aload_n 1, 1) := dk_43 (dk_at dksL_law_32 8 rfl rfl)
theorem dL_law_839 : decode cL_law 839 = .ok (.invokevirtual 117, 3) := dk_182 0 117 (dk_at dksL_law_32 9 rfl rfl)
theorem dL_law_842 : decode cL_law 842 = .ok (.aload_n 2, 1) := dk_44 (dk_at dksL_law_32 12 rfl rfl)
theorem dL_law_843 : decode cL_law 843 = .ok (.invokevirtual 120, 3) := dk_182 0 120 (dk_at dksL_law_32 13 rfl rfl)
theorem dL_law_846 : decode cL_law 846 = .ok (.if_icmp .eq 590, 3) := dk_159 2 78 (dk_at dksL_law_32 16 rfl rfl)
theorem dL_law_849 : decode cL_law 849 = .ok (.iconst 0, 1) := dk_3 (dk_at dksL_law_32 19 rfl rfl)
theorem dL_law_850 : decode cL_law 850 = .ok (.ireturn, 1) := dk_172 (dk_at dksL_law_32 20 rfl rfl)
theorem dL_law_851 : decode cL_law 851 = .ok (.aload_n 1, 1) := dk_43 (dk_at dksL_law_32 21 rfl rfl)
theorem dL_law_852 : decode cL_law 852 = .ok (.invokevirtual 121, 3) := dk_182 0 121 (dk_at dksL_law_33 0 rfl rfl)
theorem dL_law_855 : decode cL_law 855 = .ok (.aload_n 2, 1) := dk_44 (dk_at dksL_law_33 3 rfl rfl)
theorem dL_law_856 : decode cL_law 856 = .ok (.invokevirtual 124, 3) := dk_182 0 124 (dk_at dksL_law_33 4 rfl rfl)
theorem dL_law_859 : decode cL_law 859 = .ok (.if_icmp .eq 577, 3) := dk_159 2 65 (dk_at dksL_law_33 7 rfl rfl)
theorem dL_law_862 : decode cL_law 862 = .ok (.iconst 0, 1) := dk_3 (dk_at dksL_law_33 10 rfl rfl)
theorem dL_law_863 : decode cL_law 863 = .ok (.ireturn, 1) := dk_172 (dk_at dksL_law_33 11 rfl rfl)
theorem dL_law_864 : decode cL_law 864 = .ok (.aload_n 1, 1) := dk_43 (dk_at dksL_law_33 12 rfl rfl)
theorem dL_law_865 : decode cL_law 865 = .ok (.aload_n 0, 1) := dk_42 (dk_at dksL_law_33 13 rfl rfl)
theorem dL_law_866 : decode cL_law 866 = .ok (.iload 4, 2) := dk_21 4 (dk_at dksL_law_33 14 rfl rfl)
theorem dL_law_868 : decode cL_law 868 = .ok (.iconst 1, 1) := dk_4 (dk_at dksL_law_33 16 rfl rfl)
theorem dL_law_869 : decode cL_law 869 = .ok (.iadd, 1) := dk_96 (dk_at dksL_law_33 17 rfl rfl)
theorem dL_law_870 : decode cL_law 870 = .ok (.iaload, 1) := dk_46 (dk_at dksL_law_33 18 rfl rfl)
theorem dL_law_871 : decode cL_law 871 = .ok (.aload_n 0, 1) := dk_42 (dk_at dksL_law_33 19 rfl rfl)
theorem dL_law_872 : decode cL_law 872 = .ok (.iload 4, 2) := dk_21 4 (dk_at dksL_law_33 20 rfl rfl)
theorem dL_law_874 : decode cL_law 874 = .ok (.iconst 2, 1) := dk_5 (dk_at dksL_law_33 22 rfl rfl)
theorem dL_law_875 : decode cL_law 875 = .ok (.iadd, 1) := dk_96 (dk_at dksL_law_33 23 rfl rfl)
theorem dL_law_876 : decode cL_law 876 = .ok (.iaload, 1) := dk_46 (dk_at dksL_law_34 0 rfl rfl)
theorem dL_law_877 : decode cL_law 877 = .ok (.aload_n 3, 1) := dk_45 (dk_at dksL_law_34 1 rfl rfl)
theorem dL_law_878 : decode cL_law 878 = .ok (.invokestatic 125, 3) := dk_184 0 125 (dk_at dksL_law_34 2 rfl rfl)
theorem dL_law_881 : decode cL_law 881 = .ok (.istore 5, 2) := dk_54 5 (dk_at dksL_law_34 5 rfl rfl)
theorem dL_law_883 : decode cL_law 883 = .ok (.aload_n 2, 1) := dk_44 (dk_at dksL_law_34 7 rfl rfl)
theorem dL_law_884 : decode cL_law 884 = .ok (.aload_n 0, 1) := dk_42 (dk_at dksL_law_34 8 rfl rfl)
theorem dL_law_885 : decode cL_law 885 = .ok (.iload 4, 2) := dk_21 4 (dk_at dksL_law_34 9 rfl rfl)
theorem dL_law_887 : decode cL_law 887 = .ok (.iconst 1, 1) := dk_4 (dk_at dksL_law_34 11 rfl rfl)
theorem dL_law_888 : decode cL_law 888 = .ok (.iadd, 1) := dk_96 (dk_at dksL_law_34 12 rfl rfl)
theorem dL_law_889 : decode cL_law 889 = .ok (.iaload, 1) := dk_46 (dk_at dksL_law_34 13 rfl rfl)
theorem dL_law_890 : decode cL_law 890 = .ok (.aload_n 0, 1) := dk_42 (dk_at dksL_law_34 14 rfl rfl)
theorem dL_law_891 : decode cL_law 891 = .ok (.iload 4, 2) := dk_21 4 (dk_at dksL_law_34 15 rfl rfl)
theorem dL_law_893 : decode cL_law 893 = .ok (.iconst 2, 1) := dk_5 (dk_at dksL_law_34 17 rfl rfl)
theorem dL_law_894 : decode cL_law 894 = .ok (.iadd, 1) := dk_96 (dk_at dksL_law_34 18 rfl rfl)
theorem dL_law_895 : decode cL_law 895 = .ok (.iaload, 1) := dk_46 (dk_at dksL_law_34 19 rfl rfl)
theorem dL_law_896 : decode cL_law 896 = .ok (.invokevirtual 127, 3) := dk_182 0 127 (dk_at dksL_law_34 20 rfl rfl)
theorem dL_law_899 : decode cL_law 899 = .ok (.istore 6, 2) := dk_54 6 (dk_at dksL_law_35 0 rfl rfl)
theorem dL_law_901 : decode cL_law 901 = .ok (.aload_n 2, 1) := dk_44 (dk_at dksL_law_35 2 rfl rfl)
theorem dL_law_902 : decode cL_law 902 = .ok (.invokevirtual 81, 3) := dk_182 0 81 (dk_at dksL_law_35 3 rfl rfl)
theorem dL_law_905 : decode cL_law 905 = .ok (.iload 5, 2) := dk_21 5 (dk_at dksL_law_35 6 rfl rfl)
theorem dL_law_907 : decode cL_law 907 = .ok (.if_icmp .eq 5, 3) := dk_159 0 5 (dk_at dksL_law_35 8 rfl rfl)
theorem dL_law_910 : decode cL_law 910 = .ok (.iconst 0, 1) := dk_3 (dk_at dksL_law_35 11 rfl rfl)
theorem dL_law_911 : decode cL_law 911 = .ok (.ireturn, 1) := dk_172 (dk_at dksL_law_35 12 rfl rfl)
theorem dL_law_912 : decode cL_law 912 = .ok (.iload 5, 2) := dk_21 5 (dk_at dksL_law_35 13 rfl rfl)
theorem dL_law_914 : decode cL_law 914 = .ok (.ifCond .ne 15, 3) := dk_154 0 15 (dk_at dksL_law_35 15 rfl rfl)
theorem dL_law_917 : decode cL_law 917 = .ok (.aload_n 3, 1) := dk_45 (dk_at dksL_law_35 18 rfl rfl)
theorem dL_law_918 : decode cL_law 918 = .ok (.iconst 0, 1) := dk_3 (dk_at dksL_law_35 19 rfl rfl)
theorem dL_law_919 : decode cL_law 919 = .ok (.laload, 1) := dk_47 (dk_at dksL_law_35 20 rfl rfl)
theorem dL_law_920 : decode cL_law 920 = .ok (.iload 6, 2) := dk_21 6 (dk_at dksL_law_35 21 rfl rfl)
theorem dL_law_922 : decode cL_law 922 = .ok (.i2l, 1) := dk_133 (dk_at dksL_law_35 23 rfl rfl)
theorem dL_law_923 : decode cL_law 923 = .ok (.lcmp, 1) := dk_148 (dk_at dksL_law_36 0 rfl rfl)
theorem dL_law_924 : decode cL_law 924 = .ok (.ifCond .eq 5, 3) := dk_153 0 5 (dk_at dksL_law_36 1 rfl rfl)
theorem dL_law_927 : decode cL_law 927 = .ok (.iconst 0, 1) := dk_3 (dk_at dksL_law_36 4 rfl rfl)
theorem dL_law_928 : decode cL_law 928 = .ok (.ireturn, 1) := dk_172 (dk_at dksL_law_36 5 rfl rfl)
theorem dL_law_929 : decode cL_law 929 = .ok (.goto 507, 3) := dk_167 1 251 (dk_at dksL_law_36 6 rfl rfl)
theorem dL_law_932 : decode cL_law 932 = .ok (.aload_n 1, 1) := dk_43 (dk_at dksL_law_36 9 rfl rfl)
theorem dL_law_933 : decode cL_law 933 = .ok (.aload_n 0, 1) := dk_42 (dk_at dksL_law_36 10 rfl rfl)
theorem dL_law_934 : decode cL_law 934 = .ok (.iload 4, 2) := dk_21 4 (dk_at dksL_law_36 11 rfl rfl)
theorem dL_law_936 : decode cL_law 936 = .ok (.iconst 1, 1) := dk_4 (dk_at dksL_law_36 13 rfl rfl)
theorem dL_law_937 : decode cL_law 937 = .ok (.iadd, 1) := dk_96 (dk_at dksL_law_36 14 rfl rfl)
theorem dL_law_938 : decode cL_law 938 = .ok (.iaload, 1) := dk_46 (dk_at dksL_law_36 15 rfl rfl)
theorem dL_law_939 : decode cL_law 939 = .ok (.aload_n 0, 1) := dk_42 (dk_at dksL_law_36 16 rfl rfl)
theorem dL_law_940 : decode cL_law 940 = .ok (.iload 4, 2) := dk_21 4 (dk_at dksL_law_36 17 rfl rfl)
theorem dL_law_942 : decode cL_law 942 = .ok (.iconst 2, 1) := dk_5 (dk_at dksL_law_36 19 rfl rfl)
theorem dL_law_943 : decode cL_law 943 = .ok (.iadd, 1) := dk_96 (dk_at dksL_law_36 20 rfl rfl)
theorem dL_law_944 : decode cL_law 944 = .ok (.iaload, 1) := dk_46 (dk_at dksL_law_36 21 rfl rfl)
theorem dL_law_945 : decode cL_law 945 = .ok (.aload_n 3, 1) := dk_45 (dk_at dksL_law_36 22 rfl rfl)
theorem dL_law_946 : decode cL_law 946 = .ok (.invokestatic 128, 3) := dk_184 0 128 (dk_at dksL_law_37 0 rfl rfl)
theorem dL_law_949 : decode cL_law 949 = .ok (.istore 5, 2) := dk_54 5 (dk_at dksL_law_37 3 rfl rfl)
theorem dL_law_951 : decode cL_law 951 = .ok (.aload_n 2, 1) := dk_44 (dk_at dksL_law_37 5 rfl rfl)
theorem dL_law_952 : decode cL_law 952 = .ok (.aload_n 0, 1) := dk_42 (dk_at dksL_law_37 6 rfl rfl)
theorem dL_law_953 : decode cL_law 953 = .ok (.iload 4, 2) := dk_21 4 (dk_at dksL_law_37 7 rfl rfl)
theorem dL_law_955 : decode cL_law 955 = .ok (.iconst 1, 1) := dk_4 (dk_at dksL_law_37 9 rfl rfl)
theorem dL_law_956 : decode cL_law 956 = .ok (.iadd, 1) := dk_96 (dk_at dksL_law_37 10 rfl rfl)
theorem dL_law_957 : decode cL_law 957 = .ok (.iaload, 1) := dk_46 (dk_at dksL_law_37 11 rfl rfl)
theorem dL_law_958 : decode cL_law 958 = .ok (.aload_n 0, 1) := dk_42 (dk_at dksL_law_37 12 rfl rfl)
theorem dL_law_959 : decode cL_law 959 = .ok (.iload 4, 2) := dk_21 4 (dk_at dksL_law_37 13 rfl rfl)
theorem dL_law_961 : decode cL_law 961 = .ok (.iconst 2, 1) := dk_5 (dk_at dksL_law_37 15 rfl rfl)
theorem dL_law_962 : decode cL_law 962 = .ok (.iadd, 1) := dk_96 (dk_at dksL_law_37 16 rfl rfl)
theorem dL_law_963 : decode cL_law 963 = .ok (.iaload, 1) := dk_46 (dk_at dksL_law_37 17 rfl rfl)
theorem dL_law_964 : decode cL_law 964 = .ok (.invokevirtual 130, 3) := dk_182 0 130 (dk_at dksL_law_37 18 rfl rfl)
theorem dL_law_967 : decode cL_law 967 = .ok (.istore 6, 2) := dk_54 6 (dk_at dksL_law_37 21 rfl rfl)
theorem dL_law_969 : decode cL_law 969 = .ok (.aload_n 2, 1) := dk_44 (dk_at dksL_law_37 23 rfl rfl)
theorem dL_law_970 : decode cL_law 970 = .ok (.invokevirtual 81, 3) := dk_182 0 81 (dk_at dksL_law_38 0 rfl rfl)
theorem dL_law_973 : decode cL_law 973 = .ok (.iload 5, 2) := dk_21 5 (dk_at dksL_law_38 3 rfl rfl)
theorem dL_law_975 : decode cL_law 975 = .ok (.if_icmp .eq 5, 3) := dk_159 0 5 (dk_at dksL_law_38 5 rfl rfl)
theorem dL_law_978 : decode cL_law 978 = .ok (.iconst 0, 1) := dk_3 (dk_at dksL_law_38 8 rfl rfl)
theorem dL_law_979 : decode cL_law 979 = .ok (.ireturn, 1) := dk_172 (dk_at dksL_law_38 9 rfl rfl)
theorem dL_law_980 : decode cL_law 980 = .ok (.iload 5, 2) := dk_21 5 (dk_at dksL_law_38 10 rfl rfl)
theorem dL_law_982 : decode cL_law 982 = .ok (.ifCond .ne 15, 3) := dk_154 0 15 (dk_at dksL_law_38 12 rfl rfl)
theorem dL_law_985 : decode cL_law 985 = .ok (.aload_n 3, 1) := dk_45 (dk_at dksL_law_38 15 rfl rfl)
theorem dL_law_986 : decode cL_law 986 = .ok (.iconst 0, 1) := dk_3 (dk_at dksL_law_38 16 rfl rfl)
theorem dL_law_987 : decode cL_law 987 = .ok (.laload, 1) := dk_47 (dk_at dksL_law_38 17 rfl rfl)
theorem dL_law_988 : decode cL_law 988 = .ok (.iload 6, 2) := dk_21 6 (dk_at dksL_law_38 18 rfl rfl)
theorem dL_law_990 : decode cL_law 990 = .ok (.i2l, 1) := dk_133 (dk_at dksL_law_38 20 rfl rfl)
theorem dL_law_991 : decode cL_law 991 = .ok (.lcmp, 1) := dk_148 (dk_at dksL_law_38 21 rfl rfl)
theorem dL_law_992 : decode cL_law 992 = .ok (.ifCond .eq 5, 3) := dk_153 0 5 (dk_at dksL_law_39 0 rfl rfl)
theorem dL_law_995 : decode cL_law 995 = .ok (.iconst 0, 1) := dk_3 (dk_at dksL_law_39 3 rfl rfl)
theorem dL_law_996 : decode cL_law 996 = .ok (.ireturn, 1) := dk_172 (dk_at dksL_law_39 4 rfl rfl)
theorem dL_law_997 : decode cL_law 997 = .ok (.goto 439, 3) := dk_167 1 183 (dk_at dksL_law_39 5 rfl rfl)
theorem dL_law_1000 : decode cL_law 1000 = .ok (.aload_n 1, 1) := dk_43 (dk_at dksL_law_39 8 rfl rfl)
theorem dL_law_1001 : decode cL_law 1001 = .ok (.aload_n 0, 1) := dk_42 (dk_at dksL_law_39 9 rfl rfl)
theorem dL_law_1002 : decode cL_law 1002 = .ok (.iload 4, 2) := dk_21 4 (dk_at dksL_law_39 10 rfl rfl)
theorem dL_law_1004 : decode cL_law 1004 = .ok (.iconst 1, 1) := dk_4 (dk_at dksL_law_39 12 rfl rfl)
theorem dL_law_1005 : decode cL_law 1005 = .ok (.iadd, 1) := dk_96 (dk_at dksL_law_39 13 rfl rfl)
theorem dL_law_1006 : decode cL_law 1006 = .ok (.iaload, 1) := dk_46 (dk_at dksL_law_39 14 rfl rfl)
theorem dL_law_1007 : decode cL_law 1007 = .ok (.aload_n 0, 1) := dk_42 (dk_at dksL_law_39 15 rfl rfl)
theorem dL_law_1008 : decode cL_law 1008 = .ok (.iload 4, 2) := dk_21 4 (dk_at dksL_law_39 16 rfl rfl)
theorem dL_law_1010 : decode cL_law 1010 = .ok (.iconst 2, 1) := dk_5 (dk_at dksL_law_39 18 rfl rfl)
theorem dL_law_1011 : decode cL_law 1011 = .ok (.iadd, 1) := dk_96 (dk_at dksL_law_39 19 rfl rfl)
theorem dL_law_1012 : decode cL_law 1012 = .ok (.iaload, 1) := dk_46 (dk_at dksL_law_39 20 rfl rfl)
theorem dL_law_1013 : decode cL_law 1013 = .ok (.aload_n 3, 1) := dk_45 (dk_at dksL_law_39 21 rfl rfl)
theorem dL_law_1014 : decode cL_law 1014 = .ok (.invokestatic 131, 3) := dk_184 0 131 (dk_at dksL_law_40 0 rfl rfl)
theorem dL_law_1017 : decode cL_law 1017 = .ok (.istore 5, 2) := dk_54 5 (dk_at dksL_law_40 3 rfl rfl)
theorem dL_law_1019 : decode cL_law 1019 = .ok (.aload_n 2, 1) := dk_44 (dk_at dksL_law_40 5 rfl rfl)
theorem dL_law_1020 : decode cL_law 1020 = .ok (.aload_n 0, 1) := dk_42 (dk_at dksL_law_40 6 rfl rfl)
theorem dL_law_1021 : decode cL_law 1021 = .ok (.iload 4, 2) := dk_21 4 (dk_at dksL_law_40 7 rfl rfl)
theorem dL_law_1023 : decode cL_law 1023 = .ok (.iconst 1, 1) := dk_4 (dk_at dksL_law_40 9 rfl rfl)
theorem dL_law_1024 : decode cL_law 1024 = .ok (.iadd, 1) := dk_96 (dk_at dksL_law_40 10 rfl rfl)
theorem dL_law_1025 : decode cL_law 1025 = .ok (.iaload, 1) := dk_46 (dk_at dksL_law_40 11 rfl rfl)
theorem dL_law_1026 : decode cL_law 1026 = .ok (.aload_n 0, 1) := dk_42 (dk_at dksL_law_40 12 rfl rfl)
theorem dL_law_1027 : decode cL_law 1027 = .ok (.iload 4, 2) := dk_21 4 (dk_at dksL_law_40 13 rfl rfl)
theorem dL_law_1029 : decode cL_law 1029 = .ok (.iconst 2, 1) := dk_5 (dk_at dksL_law_40 15 rfl rfl)
theorem dL_law_1030 : decode cL_law 1030 = .ok (.iadd, 1) := dk_96 (dk_at dksL_law_40 16 rfl rfl)
theorem dL_law_1031 : decode cL_law 1031 = .ok (.iaload, 1) := dk_46 (dk_at dksL_law_40 17 rfl rfl)
theorem dL_law_1032 : decode cL_law 1032 = .ok (.invokevirtual 133, 3) := dk_182 0 133 (dk_at dksL_law_40 18 rfl rfl)
theorem dL_law_1035 : decode cL_law 1035 = .ok (.istore 6, 2) := dk_54 6 (dk_at dksL_law_40 21 rfl rfl)
theorem dL_law_1037 : decode cL_law 1037 = .ok (.aload_n 2, 1) := dk_44 (dk_at dksL_law_40 23 rfl rfl)
theorem dL_law_1038 : decode cL_law 1038 = .ok (.invokevirtual 81, 3) := dk_182 0 81 (dk_at dksL_law_41 0 rfl rfl)
theorem dL_law_1041 : decode cL_law 1041 = .ok (.iload 5, 2) := dk_21 5 (dk_at dksL_law_41 3 rfl rfl)
theorem dL_law_1043 : decode cL_law 1043 = .ok (.if_icmp .eq 5, 3) := dk_159 0 5 (dk_at dksL_law_41 5 rfl rfl)
theorem dL_law_1046 : decode cL_law 1046 = .ok (.iconst 0, 1) := dk_3 (dk_at dksL_law_41 8 rfl rfl)
theorem dL_law_1047 : decode cL_law 1047 = .ok (.ireturn, 1) := dk_172 (dk_at dksL_law_41 9 rfl rfl)
theorem dL_law_1048 : decode cL_law 1048 = .ok (.iload 5, 2) := dk_21 5 (dk_at dksL_law_41 10 rfl rfl)
theorem dL_law_1050 : decode cL_law 1050 = .ok (.ifCond .ne 15, 3) := dk_154 0 15 (dk_at dksL_law_41 12 rfl rfl)
theorem dL_law_1053 : decode cL_law 1053 = .ok (.aload_n 3, 1) := dk_45 (dk_at dksL_law_41 15 rfl rfl)
theorem dL_law_1054 : decode cL_law 1054 = .ok (.iconst 0, 1) := dk_3 (dk_at dksL_law_41 16 rfl rfl)
theorem dL_law_1055 : decode cL_law 1055 = .ok (.laload, 1) := dk_47 (dk_at dksL_law_41 17 rfl rfl)
theorem dL_law_1056 : decode cL_law 1056 = .ok (.iload 6, 2) := dk_21 6 (dk_at dksL_law_41 18 rfl rfl)
theorem dL_law_1058 : decode cL_law 1058 = .ok (.i2l, 1) := dk_133 (dk_at dksL_law_41 20 rfl rfl)
theorem dL_law_1059 : decode cL_law 1059 = .ok (.lcmp, 1) := dk_148 (dk_at dksL_law_41 21 rfl rfl)
theorem dL_law_1060 : decode cL_law 1060 = .ok (.ifCond .eq 5, 3) := dk_153 0 5 (dk_at dksL_law_42 0 rfl rfl)
theorem dL_law_1063 : decode cL_law 1063 = .ok (.iconst 0, 1) := dk_3 (dk_at dksL_law_42 3 rfl rfl)
theorem dL_law_1064 : decode cL_law 1064 = .ok (.ireturn, 1) := dk_172 (dk_at dksL_law_42 4 rfl rfl)
theorem dL_law_1065 : decode cL_law 1065 = .ok (.goto 371, 3) := dk_167 1 115 (dk_at dksL_law_42 5 rfl rfl)
theorem dL_law_1068 : decode cL_law 1068 = .ok (.aload_n 1, 1) := dk_43 (dk_at dksL_law_42 8 rfl rfl)
theorem dL_law_1069 : decode cL_law 1069 = .ok (.aload_n 0, 1) := dk_42 (dk_at dksL_law_42 9 rfl rfl)
theorem dL_law_1070 : decode cL_law 1070 = .ok (.iload 4, 2) := dk_21 4 (dk_at dksL_law_42 10 rfl rfl)
theorem dL_law_1072 : decode cL_law 1072 = .ok (.iconst 1, 1) := dk_4 (dk_at dksL_law_42 12 rfl rfl)
theorem dL_law_1073 : decode cL_law 1073 = .ok (.iadd, 1) := dk_96 (dk_at dksL_law_42 13 rfl rfl)
theorem dL_law_1074 : decode cL_law 1074 = .ok (.iaload, 1) := dk_46 (dk_at dksL_law_42 14 rfl rfl)
theorem dL_law_1075 : decode cL_law 1075 = .ok (.aload_n 3, 1) := dk_45 (dk_at dksL_law_42 15 rfl rfl)
theorem dL_law_1076 : decode cL_law 1076 = .ok (.invokestatic 134, 3) := dk_184 0 134 (dk_at dksL_law_42 16 rfl rfl)
theorem dL_law_1079 : decode cL_law 1079 = .ok (.istore 5, 2) := dk_54 5 (dk_at dksL_law_42 19 rfl rfl)
theorem dL_law_1081 : decode cL_law 1081 = .ok (.aload_n 2, 1) := dk_44 (dk_at dksL_law_42 21 rfl rfl)
theorem dL_law_1082 : decode cL_law 1082 = .ok (.aload_n 0, 1) := dk_42 (dk_at dksL_law_42 22 rfl rfl)
theorem dL_law_1083 : decode cL_law 1083 = .ok (.iload 4, 2) := dk_21 4 (dk_at dksL_law_43 0 rfl rfl)
theorem dL_law_1085 : decode cL_law 1085 = .ok (.iconst 1, 1) := dk_4 (dk_at dksL_law_43 2 rfl rfl)
theorem dL_law_1086 : decode cL_law 1086 = .ok (.iadd, 1) := dk_96 (dk_at dksL_law_43 3 rfl rfl)
theorem dL_law_1087 : decode cL_law 1087 = .ok (.iaload, 1) := dk_46 (dk_at dksL_law_43 4 rfl rfl)
theorem dL_law_1088 : decode cL_law 1088 = .ok (.invokevirtual 136, 3) := dk_182 0 136 (dk_at dksL_law_43 5 rfl rfl)
theorem dL_law_1091 : decode cL_law 1091 = .ok (.istore 6, 2) := dk_54 6 (dk_at dksL_law_43 8 rfl rfl)
theorem dL_law_1093 : decode cL_law 1093 = .ok (.aload_n 2, 1) := dk_44 (dk_at dksL_law_43 10 rfl rfl)
theorem dL_law_1094 : decode cL_law 1094 = .ok (.invokevirtual 81, 3) := dk_182 0 81 (dk_at dksL_law_43 11 rfl rfl)
theorem dL_law_1097 : decode cL_law 1097 = .ok (.iload 5, 2) := dk_21 5 (dk_at dksL_law_43 14 rfl rfl)
theorem dL_law_1099 : decode cL_law 1099 = .ok (.if_icmp .eq 5, 3) := dk_159 0 5 (dk_at dksL_law_43 16 rfl rfl)
theorem dL_law_1102 : decode cL_law 1102 = .ok (.iconst 0, 1) := dk_3 (dk_at dksL_law_43 19 rfl rfl)
theorem dL_law_1103 : decode cL_law 1103 = .ok (.ireturn, 1) := dk_172 (dk_at dksL_law_43 20 rfl rfl)
theorem dL_law_1104 : decode cL_law 1104 = .ok (.iload 5, 2) := dk_21 5 (dk_at dksL_law_43 21 rfl rfl)
theorem dL_law_1106 : decode cL_law 1106 = .ok (.ifCond .ne 15, 3) := dk_154 0 15 (dk_at dksL_law_44 0 rfl rfl)
theorem dL_law_1109 : decode cL_law 1109 = .ok (.aload_n 3, 1) := dk_45 (dk_at dksL_law_44 3 rfl rfl)
theorem dL_law_1110 : decode cL_law 1110 = .ok (.iconst 0, 1) := dk_3 (dk_at dksL_law_44 4 rfl rfl)
theorem dL_law_1111 : decode cL_law 1111 = .ok (.laload, 1) := dk_47 (dk_at dksL_law_44 5 rfl rfl)
theorem dL_law_1112 : decode cL_law 1112 = .ok (.iload 6, 2) := dk_21 6 (dk_at dksL_law_44 6 rfl rfl)
theorem dL_law_1114 : decode cL_law 1114 = .ok (.i2l, 1) := dk_133 (dk_at dksL_law_44 8 rfl rfl)
theorem dL_law_1115 : decode cL_law 1115 = .ok (.lcmp, 1) := dk_148 (dk_at dksL_law_44 9 rfl rfl)
theorem dL_law_1116 : decode cL_law 1116 = .ok (.ifCond .eq 5, 3) := dk_153 0 5 (dk_at dksL_law_44 10 rfl rfl)
theorem dL_law_1119 : decode cL_law 1119 = .ok (.iconst 0, 1) := dk_3 (dk_at dksL_law_44 13 rfl rfl)
theorem dL_law_1120 : decode cL_law 1120 = .ok (.ireturn, 1) := dk_172 (dk_at dksL_law_44 14 rfl rfl)
theorem dL_law_1121 : decode cL_law 1121 = .ok (.goto 315, 3) := dk_167 1 59 (dk_at dksL_law_44 15 rfl rfl)
theorem dL_law_1124 : decode cL_law 1124 = .ok (.aload_n 1, 1) := dk_43 (dk_at dksL_law_44 18 rfl rfl)
theorem dL_law_1125 : decode cL_law 1125 = .ok (.aload_n 0, 1) := dk_42 (dk_at dksL_law_44 19 rfl rfl)
theorem dL_law_1126 : decode cL_law 1126 = .ok (.iload 4, 2) := dk_21 4 (dk_at dksL_law_44 20 rfl rfl)
theorem dL_law_1128 : decode cL_law 1128 = .ok (.iconst 1, 1) := dk_4 (dk_at dksL_law_44 22 rfl rfl)
theorem dL_law_1129 : decode cL_law 1129 = .ok (.iadd, 1) := dk_96 (dk_at dksL_law_44 23 rfl rfl)
theorem dL_law_1130 : decode cL_law 1130 = .ok (.iaload, 1) := dk_46 (dk_at dksL_law_45 0 rfl rfl)
theorem dL_law_1131 : decode cL_law 1131 = .ok (.aload_n 3, 1) := dk_45 (dk_at dksL_law_45 1 rfl rfl)
theorem dL_law_1132 : decode cL_law 1132 = .ok (.invokestatic 137, 3) := dk_184 0 137 (dk_at dksL_law_45 2 rfl rfl)
theorem dL_law_1135 : decode cL_law 1135 = .ok (.istore 5, 2) := dk_54 5 (dk_at dksL_law_45 5 rfl rfl)
theorem dL_law_1137 : decode cL_law 1137 = .ok (.aload_n 2, 1) := dk_44 (dk_at dksL_law_45 7 rfl rfl)
theorem dL_law_1138 : decode cL_law 1138 = .ok (.aload_n 0, 1) := dk_42 (dk_at dksL_law_45 8 rfl rfl)
theorem dL_law_1139 : decode cL_law 1139 = .ok (.iload 4, 2) := dk_21 4 (dk_at dksL_law_45 9 rfl rfl)
theorem dL_law_1141 : decode cL_law 1141 = .ok (.iconst 1, 1) := dk_4 (dk_at dksL_law_45 11 rfl rfl)
theorem dL_law_1142 : decode cL_law 1142 = .ok (.iadd, 1) := dk_96 (dk_at dksL_law_45 12 rfl rfl)
theorem dL_law_1143 : decode cL_law 1143 = .ok (.iaload, 1) := dk_46 (dk_at dksL_law_45 13 rfl rfl)
theorem dL_law_1144 : decode cL_law 1144 = .ok (.invokevirtual 139, 3) := dk_182 0 139 (dk_at dksL_law_45 14 rfl rfl)
theorem dL_law_1147 : decode cL_law 1147 = .ok (.istore 6, 2) := dk_54 6 (dk_at dksL_law_45 17 rfl rfl)
theorem dL_law_1149 : decode cL_law 1149 = .ok (.aload_n 2, 1) := dk_44 (dk_at dksL_law_45 19 rfl rfl)
theorem dL_law_1150 : decode cL_law 1150 = .ok (.invokevirtual 81, 3) := dk_182 0 81 (dk_at dksL_law_45 20 rfl rfl)
theorem dL_law_1153 : decode cL_law 1153 = .ok (.iload 5, 2) := dk_21 5 (dk_at dksL_law_46 0 rfl rfl)
theorem dL_law_1155 : decode cL_law 1155 = .ok (.if_icmp .eq 5, 3) := dk_159 0 5 (dk_at dksL_law_46 2 rfl rfl)
theorem dL_law_1158 : decode cL_law 1158 = .ok (.iconst 0, 1) := dk_3 (dk_at dksL_law_46 5 rfl rfl)
theorem dL_law_1159 : decode cL_law 1159 = .ok (.ireturn, 1) := dk_172 (dk_at dksL_law_46 6 rfl rfl)
theorem dL_law_1160 : decode cL_law 1160 = .ok (.iload 5, 2) := dk_21 5 (dk_at dksL_law_46 7 rfl rfl)
theorem dL_law_1162 : decode cL_law 1162 = .ok (.ifCond .ne 15, 3) := dk_154 0 15 (dk_at dksL_law_46 9 rfl rfl)
theorem dL_law_1165 : decode cL_law 1165 = .ok (.aload_n 3, 1) := dk_45 (dk_at dksL_law_46 12 rfl rfl)
theorem dL_law_1166 : decode cL_law 1166 = .ok (.iconst 0, 1) := dk_3 (dk_at dksL_law_46 13 rfl rfl)
theorem dL_law_1167 : decode cL_law 1167 = .ok (.laload, 1) := dk_47 (dk_at dksL_law_46 14 rfl rfl)
theorem dL_law_1168 : decode cL_law 1168 = .ok (.iload 6, 2) := dk_21 6 (dk_at dksL_law_46 15 rfl rfl)
theorem dL_law_1170 : decode cL_law 1170 = .ok (.i2l, 1) := dk_133 (dk_at dksL_law_46 17 rfl rfl)
theorem dL_law_1171 : decode cL_law 1171 = .ok (.lcmp, 1) := dk_148 (dk_at dksL_law_46 18 rfl rfl)
theorem dL_law_1172 : decode cL_law 1172 = .ok (.ifCond .eq 5, 3) := dk_153 0 5 (dk_at dksL_law_46 19 rfl rfl)
theorem dL_law_1175 : decode cL_law 1175 = .ok (.iconst 0, 1) := dk_3 (dk_at dksL_law_46 22 rfl rfl)
theorem dL_law_1176 : decode cL_law 1176 = .ok (.ireturn, 1) := dk_172 (dk_at dksL_law_46 23 rfl rfl)
theorem dL_law_1177 : decode cL_law 1177 = .ok (.goto 259, 3) := dk_167 1 3 (dk_at dksL_law_47 0 rfl rfl)
theorem dL_law_1180 : decode cL_law 1180 = .ok (.aload_n 1, 1) := dk_43 (dk_at dksL_law_47 3 rfl rfl)
theorem dL_law_1181 : decode cL_law 1181 = .ok (.invokevirtual 140, 3) := dk_182 0 140 (dk_at dksL_law_47 4 rfl rfl)
theorem dL_law_1184 : decode cL_law 1184 = .ok (.aload_n 2, 1) := dk_44 (dk_at dksL_law_47 7 rfl rfl)
theorem dL_law_1185 : decode cL_law 1185 = .ok (.invokevirtual 143, 3) := dk_182 0 143 (dk_at dksL_law_47 8 rfl rfl)
theorem dL_law_1188 : decode cL_law 1188 = .ok (.if_icmp .eq 248, 3) := dk_159 0 248 (dk_at dksL_law_47 11 rfl rfl)
theorem dL_law_1191 : decode cL_law 1191 = .ok (.iconst 0, 1) := dk_3 (dk_at dksL_law_47 14 rfl rfl)
theorem dL_law_1192 : decode cL_law 1192 = .ok (.ireturn, 1) := dk_172 (dk_at dksL_law_47 15 rfl rfl)
theorem dL_law_1193 : decode cL_law 1193 = .ok (.aload_n 1, 1) := dk_43 (dk_at dksL_law_47 16 rfl rfl)
theorem dL_law_1194 : decode cL_law 1194 = .ok (.aload_n 0, 1) := dk_42 (dk_at dksL_law_47 17 rfl rfl)
theorem dL_law_1195 : decode cL_law 1195 = .ok (.iload 4, 2) := dk_21 4 (dk_at dksL_law_47 18 rfl rfl)
theorem dL_law_1197 : decode cL_law 1197 = .ok (.iconst 1, 1) := dk_4 (dk_at dksL_law_47 20 rfl rfl)
theorem dL_law_1198 : decode cL_law 1198 = .ok (.iadd, 1) := dk_96 (dk_at dksL_law_47 21 rfl rfl)
theorem dL_law_1199 : decode cL_law 1199 = .ok (.iaload, 1) := dk_46 (dk_at dksL_law_47 22 rfl rfl)
theorem dL_law_1200 : decode cL_law 1200 = .ok (.aload_n 3, 1) := dk_45 (dk_at dksL_law_47 23 rfl rfl)
theorem dL_law_1201 : decode cL_law 1201 = .ok (.invokestatic 144, 3) := dk_184 0 144 (dk_at dksL_law_48 0 rfl rfl)
theorem dL_law_1204 : decode cL_law 1204 = .ok (.istore 5, 2) := dk_54 5 (dk_at dksL_law_48 3 rfl rfl)
theorem dL_law_1206 : decode cL_law 1206 = .ok (.aload_n 2, 1) := dk_44 (dk_at dksL_law_48 5 rfl rfl)
theorem dL_law_1207 : decode cL_law 1207 = .ok (.aload_n 0, 1) := dk_42 (dk_at dksL_law_48 6 rfl rfl)
theorem dL_law_1208 : decode cL_law 1208 = .ok (.iload 4, 2) := dk_21 4 (dk_at dksL_law_48 7 rfl rfl)
theorem dL_law_1210 : decode cL_law 1210 = .ok (.iconst 1, 1) := dk_4 (dk_at dksL_law_48 9 rfl rfl)
theorem dL_law_1211 : decode cL_law 1211 = .ok (.iadd, 1) := dk_96 (dk_at dksL_law_48 10 rfl rfl)
theorem dL_law_1212 : decode cL_law 1212 = .ok (.iaload, 1) := dk_46 (dk_at dksL_law_48 11 rfl rfl)
theorem dL_law_1213 : decode cL_law 1213 = .ok (.invokevirtual 146, 3) := dk_182 0 146 (dk_at dksL_law_48 12 rfl rfl)
theorem dL_law_1216 : decode cL_law 1216 = .ok (.istore 6, 2) := dk_54 6 (dk_at dksL_law_48 15 rfl rfl)
theorem dL_law_1218 : decode cL_law 1218 = .ok (.aload_n 2, 1) := dk_44 (dk_at dksL_law_48 17 rfl rfl)
theorem dL_law_1219 : decode cL_law 1219 = .ok (.invokevirtual 81, 3) := dk_182 0 81 (dk_at dksL_law_48 18 rfl rfl)
theorem dL_law_1222 : decode cL_law 1222 = .ok (.iload 5, 2) := dk_21 5 (dk_at dksL_law_48 21 rfl rfl)
theorem dL_law_1224 : decode cL_law 1224 = .ok (.if_icmp .eq 5, 3) := dk_159 0 5 (dk_at dksL_law_49 0 rfl rfl)
theorem dL_law_1227 : decode cL_law 1227 = .ok (.iconst 0, 1) := dk_3 (dk_at dksL_law_49 3 rfl rfl)
theorem dL_law_1228 : decode cL_law 1228 = .ok (.ireturn, 1) := dk_172 (dk_at dksL_law_49 4 rfl rfl)
theorem dL_law_1229 : decode cL_law 1229 = .ok (.iload 5, 2) := dk_21 5 (dk_at dksL_law_49 5 rfl rfl)
theorem dL_law_1231 : decode cL_law 1231 = .ok (.ifCond .ne 15, 3) := dk_154 0 15 (dk_at dksL_law_49 7 rfl rfl)
theorem dL_law_1234 : decode cL_law 1234 = .ok (.aload_n 3, 1) := dk_45 (dk_at dksL_law_49 10 rfl rfl)
theorem dL_law_1235 : decode cL_law 1235 = .ok (.iconst 0, 1) := dk_3 (dk_at dksL_law_49 11 rfl rfl)
theorem dL_law_1236 : decode cL_law 1236 = .ok (.laload, 1) := dk_47 (dk_at dksL_law_49 12 rfl rfl)
theorem dL_law_1237 : decode cL_law 1237 = .ok (.iload 6, 2) := dk_21 6 (dk_at dksL_law_49 13 rfl rfl)
theorem dL_law_1239 : decode cL_law 1239 = .ok (.i2l, 1) := dk_133 (dk_at dksL_law_49 15 rfl rfl)
theorem dL_law_1240 : decode cL_law 1240 = .ok (.lcmp, 1) := dk_148 (dk_at dksL_law_49 16 rfl rfl)
theorem dL_law_1241 : decode cL_law 1241 = .ok (.ifCond .eq 5, 3) := dk_153 0 5 (dk_at dksL_law_49 17 rfl rfl)
theorem dL_law_1244 : decode cL_law 1244 = .ok (.iconst 0, 1) := dk_3 (dk_at dksL_law_49 20 rfl rfl)
theorem dL_law_1245 : decode cL_law 1245 = .ok (.ireturn, 1) := dk_172 (dk_at dksL_law_49 21 rfl rfl)
theorem dL_law_1246 : decode cL_law 1246 = .ok (.goto 190, 3) := dk_167 0 190 (dk_at dksL_law_50 0 rfl rfl)
theorem dL_law_1249 : decode cL_law 1249 = .ok (.aload_n 1, 1) := dk_43 (dk_at dksL_law_50 3 rfl rfl)
theorem dL_law_1250 : decode cL_law 1250 = .ok (.aload_n 0, 1) := dk_42 (dk_at dksL_law_50 4 rfl rfl)
theorem dL_law_1251 : decode cL_law 1251 = .ok (.iload 4, 2) := dk_21 4 (dk_at dksL_law_50 5 rfl rfl)
theorem dL_law_1253 : decode cL_law 1253 = .ok (.iconst 1, 1) := dk_4 (dk_at dksL_law_50 7 rfl rfl)
theorem dL_law_1254 : decode cL_law 1254 = .ok (.iadd, 1) := dk_96 (dk_at dksL_law_50 8 rfl rfl)
theorem dL_law_1255 : decode cL_law 1255 = .ok (.iaload, 1) := dk_46 (dk_at dksL_law_50 9 rfl rfl)
theorem dL_law_1256 : decode cL_law 1256 = .ok (.aload_n 0, 1) := dk_42 (dk_at dksL_law_50 10 rfl rfl)
theorem dL_law_1257 : decode cL_law 1257 = .ok (.iload 4, 2) := dk_21 4 (dk_at dksL_law_50 11 rfl rfl)
theorem dL_law_1259 : decode cL_law 1259 = .ok (.iconst 2, 1) := dk_5 (dk_at dksL_law_50 13 rfl rfl)
theorem dL_law_1260 : decode cL_law 1260 = .ok (.iadd, 1) := dk_96 (dk_at dksL_law_50 14 rfl rfl)
theorem dL_law_1261 : decode cL_law 1261 = .ok (.iaload, 1) := dk_46 (dk_at dksL_law_50 15 rfl rfl)
theorem dL_law_1262 : decode cL_law 1262 = .ok (.aload_n 0, 1) := dk_42 (dk_at dksL_law_50 16 rfl rfl)
theorem dL_law_1263 : decode cL_law 1263 = .ok (.iload 4, 2) := dk_21 4 (dk_at dksL_law_50 17 rfl rfl)
theorem dL_law_1265 : decode cL_law 1265 = .ok (.iconst 3, 1) := dk_6 (dk_at dksL_law_50 19 rfl rfl)
theorem dL_law_1266 : decode cL_law 1266 = .ok (.iadd, 1) := dk_96 (dk_at dksL_law_50 20 rfl rfl)
theorem dL_law_1267 : decode cL_law 1267 = .ok (.iaload, 1) := dk_46 (dk_at dksL_law_50 21 rfl rfl)
theorem dL_law_1268 : decode cL_law 1268 = .ok (.invokevirtual 147, 3) := dk_182 0 147 (dk_at dksL_law_51 0 rfl rfl)
theorem dL_law_1271 : decode cL_law 1271 = .ok (.aload_n 2, 1) := dk_44 (dk_at dksL_law_51 3 rfl rfl)
theorem dL_law_1272 : decode cL_law 1272 = .ok (.aload_n 0, 1) := dk_42 (dk_at dksL_law_51 4 rfl rfl)
theorem dL_law_1273 : decode cL_law 1273 = .ok (.iload 4, 2) := dk_21 4 (dk_at dksL_law_51 5 rfl rfl)
theorem dL_law_1275 : decode cL_law 1275 = .ok (.iconst 1, 1) := dk_4 (dk_at dksL_law_51 7 rfl rfl)
theorem dL_law_1276 : decode cL_law 1276 = .ok (.iadd, 1) := dk_96 (dk_at dksL_law_51 8 rfl rfl)
theorem dL_law_1277 : decode cL_law 1277 = .ok (.iaload, 1) := dk_46 (dk_at dksL_law_51 9 rfl rfl)
theorem dL_law_1278 : decode cL_law 1278 = .ok (.aload_n 0, 1) := dk_42 (dk_at dksL_law_51 10 rfl rfl)
theorem dL_law_1279 : decode cL_law 1279 = .ok (.iload 4, 2) := dk_21 4 (dk_at dksL_law_51 11 rfl rfl)
theorem dL_law_1281 : decode cL_law 1281 = .ok (.iconst 2, 1) := dk_5 (dk_at dksL_law_51 13 rfl rfl)
theorem dL_law_1282 : decode cL_law 1282 = .ok (.iadd, 1) := dk_96 (dk_at dksL_law_51 14 rfl rfl)
theorem dL_law_1283 : decode cL_law 1283 = .ok (.iaload, 1) := dk_46 (dk_at dksL_law_51 15 rfl rfl)
theorem dL_law_1284 : decode cL_law 1284 = .ok (.aload_n 0, 1) := dk_42 (dk_at dksL_law_51 16 rfl rfl)
theorem dL_law_1285 : decode cL_law 1285 = .ok (.iload 4, 2) := dk_21 4 (dk_at dksL_law_51 17 rfl rfl)
theorem dL_law_1287 : decode cL_law 1287 = .ok (.iconst 3, 1) := dk_6 (dk_at dksL_law_51 19 rfl rfl)
theorem dL_law_1288 : decode cL_law 1288 = .ok (.iadd, 1) := dk_96 (dk_at dksL_law_51 20 rfl rfl)
theorem dL_law_1289 : decode cL_law 1289 = .ok (.iaload, 1) := dk_46 (dk_at dksL_law_51 21 rfl rfl)
theorem dL_law_1290 : decode cL_law 1290 = .ok (.invokevirtual 151, 3) := dk_182 0 151 (dk_at dksL_law_52 0 rfl rfl)
theorem dL_law_1293 : decode cL_law 1293 = .ok (.if_icmp .eq 143, 3) := dk_159 0 143 (dk_at dksL_law_52 3 rfl rfl)
theorem dL_law_1296 : decode cL_law 1296 = .ok (.iconst 0, 1) := dk_3 (dk_at dksL_law_52 6 rfl rfl)
theorem dL_law_1297 : decode cL_law 1297 = .ok (.ireturn, 1) := dk_172 (dk_at dksL_law_52 7 rfl rfl)
theorem dL_law_1298 : decode cL_law 1298 = .ok (.aload_n 1, 1) := dk_43 (dk_at dksL_law_52 8 rfl rfl)
theorem dL_law_1299 : decode cL_law 1299 = .ok (.invokevirtual 152, 3) := dk_182 0 152 (dk_at dksL_law_52 9 rfl rfl)
theorem dL_law_1302 : decode cL_law 1302 = .ok (.aload_n 2, 1) := dk_44 (dk_at dksL_law_52 12 rfl rfl)
theorem dL_law_1303 : decode cL_law 1303 = .ok (.invokevirtual 155, 3) := dk_182 0 155 (dk_at dksL_law_52 13 rfl rfl)
theorem dL_law_1306 : decode cL_law 1306 = .ok (.if_icmp .eq 130, 3) := dk_159 0 130 (dk_at dksL_law_52 16 rfl rfl)
theorem dL_law_1309 : decode cL_law 1309 = .ok (.iconst 0, 1) := dk_3 (dk_at dksL_law_52 19 rfl rfl)
theorem dL_law_1310 : decode cL_law 1310 = .ok (.ireturn, 1) := dk_172 (dk_at dksL_law_52 20 rfl rfl)
theorem dL_law_1311 : decode cL_law 1311 = .ok (.aload_n 1, 1) := dk_43 (dk_at dksL_law_52 21 rfl rfl)
theorem dL_law_1312 : decode cL_law 1312 = .ok (.invokevirtual 156, 3) := dk_182 0 156 (dk_at dksL_law_53 0 rfl rfl)
theorem dL_law_1315 : decode cL_law 1315 = .ok (.aload_n 2, 1) := dk_44 (dk_at dksL_law_53 3 rfl rfl)
theorem dL_law_1316 : decode cL_law 1316 = .ok (.invokevirtual 159, 3) := dk_182 0 159 (dk_at dksL_law_53 4 rfl rfl)
theorem dL_law_1319 : decode cL_law 1319 = .ok (.if_icmp .eq 117, 3) := dk_159 0 117 (dk_at dksL_law_53 7 rfl rfl)
theorem dL_law_1322 : decode cL_law 1322 = .ok (.iconst 0, 1) := dk_3 (dk_at dksL_law_53 10 rfl rfl)
theorem dL_law_1323 : decode cL_law 1323 = .ok (.ireturn, 1) := dk_172 (dk_at dksL_law_53 11 rfl rfl)
theorem dL_law_1324 : decode cL_law 1324 = .ok (.aload_n 1, 1) := dk_43 (dk_at dksL_law_53 12 rfl rfl)
theorem dL_law_1325 : decode cL_law 1325 = .ok (.aload_n 0, 1) := dk_42 (dk_at dksL_law_53 13 rfl rfl)
theorem dL_law_1326 : decode cL_law 1326 = .ok (.iload 4, 2) := dk_21 4 (dk_at dksL_law_53 14 rfl rfl)
theorem dL_law_1328 : decode cL_law 1328 = .ok (.iconst 1, 1) := dk_4 (dk_at dksL_law_53 16 rfl rfl)
theorem dL_law_1329 : decode cL_law 1329 = .ok (.iadd, 1) := dk_96 (dk_at dksL_law_53 17 rfl rfl)
theorem dL_law_1330 : decode cL_law 1330 = .ok (.iaload, 1) := dk_46 (dk_at dksL_law_53 18 rfl rfl)
theorem dL_law_1331 : decode cL_law 1331 = .ok (.aload_n 3, 1) := dk_45 (dk_at dksL_law_53 19 rfl rfl)
theorem dL_law_1332 : decode cL_law 1332 = .ok (.invokestatic 160, 3) := dk_184 0 160 (dk_at dksL_law_53 20 rfl rfl)
theorem dL_law_1335 : decode cL_law 1335 = .ok (.istore 5, 2) := dk_54 5 (dk_at dksL_law_54 0 rfl rfl)
theorem dL_law_1337 : decode cL_law 1337 = .ok (.aload_n 2, 1) := dk_44 (dk_at dksL_law_54 2 rfl rfl)
theorem dL_law_1338 : decode cL_law 1338 = .ok (.aload_n 0, 1) := dk_42 (dk_at dksL_law_54 3 rfl rfl)
theorem dL_law_1339 : decode cL_law 1339 = .ok (.iload 4, 2) := dk_21 4 (dk_at dksL_law_54 4 rfl rfl)
theorem dL_law_1341 : decode cL_law 1341 = .ok (.iconst 1, 1) := dk_4 (dk_at dksL_law_54 6 rfl rfl)
theorem dL_law_1342 : decode cL_law 1342 = .ok (.iadd, 1) := dk_96 (dk_at dksL_law_54 7 rfl rfl)
theorem dL_law_1343 : decode cL_law 1343 = .ok (.iaload, 1) := dk_46 (dk_at dksL_law_54 8 rfl rfl)
theorem dL_law_1344 : decode cL_law 1344 = .ok (.invokevirtual 162, 3) := dk_182 0 162 (dk_at dksL_law_54 9 rfl rfl)
theorem dL_law_1347 : decode cL_law 1347 = .ok (.istore 6, 2) := dk_54 6 (dk_at dksL_law_54 12 rfl rfl)
theorem dL_law_1349 : decode cL_law 1349 = .ok (.aload_n 2, 1) := dk_44 (dk_at dksL_law_54 14 rfl rfl)
theorem dL_law_1350 : decode cL_law 1350 = .ok (.invokevirtual 81, 3) := dk_182 0 81 (dk_at dksL_law_54 15 rfl rfl)
theorem dL_law_1353 : decode cL_law 1353 = .ok (.iload 5, 2) := dk_21 5 (dk_at dksL_law_54 18 rfl rfl)
theorem dL_law_1355 : decode cL_law 1355 = .ok (.if_icmp .eq 5, 3) := dk_159 0 5 (dk_at dksL_law_54 20 rfl rfl)
theorem dL_law_1358 : decode cL_law 1358 = .ok (.iconst 0, 1) := dk_3 (dk_at dksL_law_54 23 rfl rfl)
theorem dL_law_1359 : decode cL_law 1359 = .ok (.ireturn, 1) := dk_172 (dk_at dksL_law_55 0 rfl rfl)
theorem dL_law_1360 : decode cL_law 1360 = .ok (.iload 5, 2) := dk_21 5 (dk_at dksL_law_55 1 rfl rfl)
theorem dL_law_1362 : decode cL_law 1362 = .ok (.ifCond .ne 15, 3) := dk_154 0 15 (dk_at dksL_law_55 3 rfl rfl)
theorem dL_law_1365 : decode cL_law 1365 = .ok (.aload_n 3, 1) := dk_45 (dk_at dksL_law_55 6 rfl rfl)
theorem dL_law_1366 : decode cL_law 1366 = .ok (.iconst 0, 1) := dk_3 (dk_at dksL_law_55 7 rfl rfl)
theorem dL_law_1367 : decode cL_law 1367 = .ok (.laload, 1) := dk_47 (dk_at dksL_law_55 8 rfl rfl)
theorem dL_law_1368 : decode cL_law 1368 = .ok (.iload 6, 2) := dk_21 6 (dk_at dksL_law_55 9 rfl rfl)
theorem dL_law_1370 : decode cL_law 1370 = .ok (.i2l, 1) := dk_133 (dk_at dksL_law_55 11 rfl rfl)
theorem dL_law_1371 : decode cL_law 1371 = .ok (.lcmp, 1) := dk_148 (dk_at dksL_law_55 12 rfl rfl)
theorem dL_law_1372 : decode cL_law 1372 = .ok (.ifCond .eq 5, 3) := dk_153 0 5 (dk_at dksL_law_55 13 rfl rfl)
theorem dL_law_1375 : decode cL_law 1375 = .ok (.iconst 0, 1) := dk_3 (dk_at dksL_law_55 16 rfl rfl)
theorem dL_law_1376 : decode cL_law 1376 = .ok (.ireturn, 1) := dk_172 (dk_at dksL_law_55 17 rfl rfl)
theorem dL_law_1377 : decode cL_law 1377 = .ok (.goto 59, 3) := dk_167 0 59 (dk_at dksL_law_55 18 rfl rfl)
theorem dL_law_1380 : decode cL_law 1380 = .ok (.aload_n 1, 1) := dk_43 (dk_at dksL_law_55 21 rfl rfl)
theorem dL_law_1381 : decode cL_law 1381 = .ok (.aload_n 0, 1) := dk_42 (dk_at dksL_law_55 22 rfl rfl)
theorem dL_law_1382 : decode cL_law 1382 = .ok (.iload 4, 2) := dk_21 4 (dk_at dksL_law_56 0 rfl rfl)
theorem dL_law_1384 : decode cL_law 1384 = .ok (.iconst 1, 1) := dk_4 (dk_at dksL_law_56 2 rfl rfl)
theorem dL_law_1385 : decode cL_law 1385 = .ok (.iadd, 1) := dk_96 (dk_at dksL_law_56 3 rfl rfl)
theorem dL_law_1386 : decode cL_law 1386 = .ok (.iaload, 1) := dk_46 (dk_at dksL_law_56 4 rfl rfl)
theorem dL_law_1387 : decode cL_law 1387 = .ok (.aload_n 3, 1) := dk_45 (dk_at dksL_law_56 5 rfl rfl)
theorem dL_law_1388 : decode cL_law 1388 = .ok (.invokestatic 163, 3) := dk_184 0 163 (dk_at dksL_law_56 6 rfl rfl)
theorem dL_law_1391 : decode cL_law 1391 = .ok (.istore 5, 2) := dk_54 5 (dk_at dksL_law_56 9 rfl rfl)
theorem dL_law_1393 : decode cL_law 1393 = .ok (.aload_n 2, 1) := dk_44 (dk_at dksL_law_56 11 rfl rfl)
theorem dL_law_1394 : decode cL_law 1394 = .ok (.aload_n 0, 1) := dk_42 (dk_at dksL_law_56 12 rfl rfl)
theorem dL_law_1395 : decode cL_law 1395 = .ok (.iload 4, 2) := dk_21 4 (dk_at dksL_law_56 13 rfl rfl)
theorem dL_law_1397 : decode cL_law 1397 = .ok (.iconst 1, 1) := dk_4 (dk_at dksL_law_56 15 rfl rfl)
theorem dL_law_1398 : decode cL_law 1398 = .ok (.iadd, 1) := dk_96 (dk_at dksL_law_56 16 rfl rfl)
theorem dL_law_1399 : decode cL_law 1399 = .ok (.iaload, 1) := dk_46 (dk_at dksL_law_56 17 rfl rfl)
theorem dL_law_1400 : decode cL_law 1400 = .ok (.invokevirtual 165, 3) := dk_182 0 165 (dk_at dksL_law_56 18 rfl rfl)
theorem dL_law_1403 : decode cL_law 1403 = .ok (.istore 6, 2) := dk_54 6 (dk_at dksL_law_56 21 rfl rfl)
theorem dL_law_1405 : decode cL_law 1405 = .ok (.aload_n 2, 1) := dk_44 (dk_at dksL_law_56 23 rfl rfl)
theorem dL_law_1406 : decode cL_law 1406 = .ok (.invokevirtual 81, 3) := dk_182 0 81 (dk_at dksL_law_57 0 rfl rfl)
theorem dL_law_1409 : decode cL_law 1409 = .ok (.iload 5, 2) := dk_21 5 (dk_at dksL_law_57 3 rfl rfl)
theorem dL_law_1411 : decode cL_law 1411 = .ok (.if_icmp .eq 5, 3) := dk_159 0 5 (dk_at dksL_law_57 5 rfl rfl)
theorem dL_law_1414 : decode cL_law 1414 = .ok (.iconst 0, 1) := dk_3 (dk_at dksL_law_57 8 rfl rfl)
theorem dL_law_1415 : decode cL_law 1415 = .ok (.ireturn, 1) := dk_172 (dk_at dksL_law_57 9 rfl rfl)
theorem dL_law_1416 : decode cL_law 1416 = .ok (.iload 5, 2) := dk_21 5 (dk_at dksL_law_57 10 rfl rfl)
theorem dL_law_1418 : decode cL_law 1418 = .ok (.ifCond .ne 15, 3) := dk_154 0 15 (dk_at dksL_law_57 12 rfl rfl)
theorem dL_law_1421 : decode cL_law 1421 = .ok (.aload_n 3, 1) := dk_45 (dk_at dksL_law_57 15 rfl rfl)
theorem dL_law_1422 : decode cL_law 1422 = .ok (.iconst 0, 1) := dk_3 (dk_at dksL_law_57 16 rfl rfl)
theorem dL_law_1423 : decode cL_law 1423 = .ok (.laload, 1) := dk_47 (dk_at dksL_law_57 17 rfl rfl)
theorem dL_law_1424 : decode cL_law 1424 = .ok (.iload 6, 2) := dk_21 6 (dk_at dksL_law_57 18 rfl rfl)
theorem dL_law_1426 : decode cL_law 1426 = .ok (.i2l, 1) := dk_133 (dk_at dksL_law_57 20 rfl rfl)
theorem dL_law_1427 : decode cL_law 1427 = .ok (.lcmp, 1) := dk_148 (dk_at dksL_law_57 21 rfl rfl)
theorem dL_law_1428 : decode cL_law 1428 = .ok (.ifCond .eq 5, 3) := dk_153 0 5 (dk_at dksL_law_58 0 rfl rfl)
theorem dL_law_1431 : decode cL_law 1431 = .ok (.iconst 0, 1) := dk_3 (dk_at dksL_law_58 3 rfl rfl)
theorem dL_law_1432 : decode cL_law 1432 = .ok (.ireturn, 1) := dk_172 (dk_at dksL_law_58 4 rfl rfl)
theorem dL_law_1433 : decode cL_law 1433 = .ok (.goto 3, 3) := dk_167 0 3 (dk_at dksL_law_58 5 rfl rfl)
theorem dL_law_1436 : decode cL_law 1436 = .ok (.iinc 4 6, 3) := dk_132 4 6 (dk_at dksL_law_58 8 rfl rfl)
theorem dL_law_1439 : decode cL_law 1439 = .ok (.goto (-1416), 3) := dk_167 250 120 (dk_at dksL_law_58 11 rfl rfl)
theorem dL_law_1442 : decode cL_law 1442 = .ok (.iconst 1, 1) := dk_4 (dk_at dksL_law_58 14 rfl rfl)
theorem dL_law_1443 : decode cL_law 1443 = .ok (.ireturn, 1) := dk_172 (dk_at dksL_law_58 15 rfl rfl)
