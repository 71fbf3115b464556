set_option maxRecDepth 100000
/-! RainWheelLaw -/
set_option maxRecDepth 100000
def RX0 : String := "RainWheelLaw"
abbrev cX0_road : ByteArray := method_3_code
def yX0_road : MethodName := ⟨RX0, "road", "(LRainWheel;I[J)I"⟩
def dkwX0_road_0 : List UInt8 := [44, 3, 42, 27, 182, 0, 7, 133, 80, 167, 0, 6, 78, 4, 172, 3, 172]
abbrev dktX0_road_0 : List UInt8 := dkwX0_road_0 ++ []
theorem dksX0_road_0 : cX0_road.data.toList.drop 0 = dktX0_road_0 := by decide +kernel
theorem dX0_road_0 : decode cX0_road 0 = .ok (.aload_n 2, 1) := dk_44 (dk_at dksX0_road_0 0 rfl rfl)
theorem dX0_road_1 : decode cX0_road 1 = .ok (.iconst 0, 1) := dk_3 (dk_at dksX0_road_0 1 rfl rfl)
theorem dX0_road_2 : decode cX0_road 2 = .ok (.aload_n 0, 1) := dk_42 (dk_at dksX0_road_0 2 rfl rfl)
theorem dX0_road_3 : decode cX0_road 3 = .ok (.iload_n 1, 1) := dk_27 (dk_at dksX0_road_0 3 rfl rfl)
theorem dX0_road_4 : decode cX0_road 4 = .ok (.invokevirtual 7, 3) := dk_182 0 7 (dk_at dksX0_road_0 4 rfl rfl)
theorem dX0_road_7 : decode cX0_road 7 = .ok (.i2l, 1) := dk_133 (dk_at dksX0_road_0 7 rfl rfl)
theorem dX0_road_8 : decode cX0_road 8 = .ok (.lastore, 1) := dk_80 (dk_at dksX0_road_0 8 rfl rfl)
theorem dX0_road_9 : decode cX0_road 9 = .ok (.goto 6, 3) := dk_167 0 6 (dk_at dksX0_road_0 9 rfl rfl)
theorem dX0_road_12 : decode cX0_road 12 = .ok (.astore_n 3, 1) := dk_78 (dk_at dksX0_road_0 12 rfl rfl)
theorem dX0_road_13 : decode cX0_road 13 = .ok (.iconst 1, 1) := dk_4 (dk_at dksX0_road_0 13 rfl rfl)
theorem dX0_road_14 : decode cX0_road 14 = .ok (.ireturn, 1) := dk_172 (dk_at dksX0_road_0 14 rfl rfl)
theorem dX0_road_15 : decode cX0_road 15 = .ok (.iconst 0, 1) := dk_3 (dk_at dksX0_road_0 15 rfl rfl)
theorem dX0_road_16 : decode cX0_road 16 = .ok (.ireturn, 1) := dk_172 (dk_at dksX0_road_0 16 rfl rfl)
abbrev cX0_law : ByteArray := method_4_code
def yX0_law : MethodName := ⟨RX0, "law", "(LRainWheel;I[J)I"⟩
def dkwX0_law_0 : List UInt8 := [44, 3, 42, 27, 182, 0, 15, 133, 80, 167, 0, 6, 78, 4, 172, 3, 172]
abbrev dktX0_law_0 : List UInt8 := dkwX0_law_0 ++ []
theorem dksX0_law_0 : cX0_law.data.toList.drop 0 = dktX0_law_0 := by decide +kernel
theorem dX0_law_0 : decode cX0_law 0 = .ok (.aload_n 2, 1) := dk_44 (dk_at dksX0_law_0 0 rfl rfl)
theorem dX0_law_1 : decode cX0_law 1 = .ok (.iconst 0, 1) := dk_3 (dk_at dksX0_law_0 1 rfl rfl)
theorem dX0_law_2 : decode cX0_law 2 = .ok (.aload_n 0, 1) := dk_42 (dk_at dksX0_law_0 2 rfl rfl)
theorem dX0_law_3 : decode cX0_law 3 = .ok (.iload_n 1, 1) := dk_27 (dk_at dksX0_law_0 3 rfl rfl)
theorem dX0_law_4 : decode cX0_law 4 = .ok (.invokevirtual 15, 3) := dk_182 0 15 (dk_at dksX0_law_0 4 rfl rfl)
theorem dX0_law_7 : decode cX0_law 7 = .ok (.i2l, 1) := dk_133 (dk_at dksX0_law_0 7 rfl rfl)
theorem dX0_law_8 : decode cX0_law 8 = .ok (.lastore, 1) := dk_80 (dk_at dksX0_law_0 8 rfl rfl)
theorem dX0_law_9 : decode cX0_law 9 = .ok (.goto 6, 3) := dk_167 0 6 (dk_at dksX0_law_0 9 rfl rfl)
theorem dX0_law_12 : decode cX0_law 12 = .ok (.astore_n 3, 1) := dk_78 (dk_at dksX0_law_0 12 rfl rfl)
theorem dX0_law_13 : decode cX0_law 13 = .ok (.iconst 1, 1) := dk_4 (dk_at dksX0_law_0 13 rfl rfl)
theorem dX0_law_14 : decode cX0_law 14 = .ok (.ireturn, 1) := dk_172 (dk_at dksX0_law_0 14 rfl rfl)
theorem dX0_law_15 : decode cX0_law 15 = .ok (.iconst 0, 1) := dk_3 (dk_at dksX0_law_0 15 rfl rfl)
theorem dX0_law_16 : decode cX0_law 16 = .ok (.ireturn, 1) := dk_172 (dk_at dksX0_law_0 16 rfl rfl)
abbrev cX0_plan : ByteArray := method_5_code
def yX0_plan : MethodName := ⟨RX0, "plan", "(LRainWheel;I[J)I"⟩
def dkwX0_plan_0 : List UInt8 := [44, 3, 42, 27, 182, 0, 18, 133, 80, 167, 0, 6, 78, 4, 172, 3, 172]
abbrev dktX0_plan_0 : List UInt8 := dkwX0_plan_0 ++ []
theorem dksX0_plan_0 : cX0_plan.data.toList.drop 0 = dktX0_plan_0 := by decide +kernel
theorem dX0_plan_0 : decode cX0_plan 0 = .ok (.aload_n 2, 1) := dk_44 (dk_at dksX0_plan_0 0 rfl rfl)
theorem dX0_plan_1 : decode cX0_plan 1 = .ok (.iconst 0, 1) := dk_3 (dk_at dksX0_plan_0 1 rfl rfl)
theorem dX0_plan_2 : decode cX0_plan 2 = .ok (.aload_n 0, 1) := dk_42 (dk_at dksX0_plan_0 2 rfl rfl)
theorem dX0_plan_3 : decode cX0_plan 3 = .ok (.iload_n 1, 1) := dk_27 (dk_at dksX0_plan_0 3 rfl rfl)
theorem dX0_plan_4 : decode cX0_plan 4 = .ok (.invokevirtual 18, 3) := dk_182 0 18 (dk_at dksX0_plan_0 4 rfl rfl)
theorem dX0_plan_7 : decode cX0_plan 7 = .ok (.i2l, 1) := dk_133 (dk_at dksX0_plan_0 7 rfl rfl)
theorem dX0_plan_8 : decode cX0_plan 8 = .ok (.lastore, 1) := dk_80 (dk_at dksX0_plan_0 8 rfl rfl)
theorem dX0_plan_9 : decode cX0_plan 9 = .ok (.goto 6, 3) := dk_167 0 6 (dk_at dksX0_plan_0 9 rfl rfl)
theorem dX0_plan_12 : decode cX0_plan 12 = .ok (.astore_n 3, 1) := dk_78 (dk_at dksX0_plan_0 12 rfl rfl)
theorem dX0_plan_13 : decode cX0_plan 13 = .ok (.iconst 1, 1) := dk_4 (dk_at dksX0_plan_0 13 rfl rfl)
theorem dX0_plan_14 : decode cX0_plan 14 = .ok (.ireturn, 1) := dk_172 (dk_at dksX0_plan_0 14 rfl rfl)
theorem dX0_plan_15 : decode cX0_plan 15 = .ok (.iconst 0, 1) := dk_3 (dk_at dksX0_plan_0 15 rfl rfl)
theorem dX0_plan_16 : decode cX0_plan 16 = .ok (.ireturn, 1) := dk_172 (dk_at dksX0_plan_0 16 rfl rfl)
abbrev cX0_book : ByteArray := method_6_code
def yX0_book : MethodName := ⟨RX0, "book", "(LRainWheel;I[J)I"⟩
def dkwX0_book_0 : List UInt8 := [44, 3, 42, 27, 182, 0, 21, 133, 80, 167, 0, 6, 78, 4, 172, 3, 172]
abbrev dktX0_book_0 : List UInt8 := dkwX0_book_0 ++ []
theorem dksX0_book_0 : cX0_book.data.toList.drop 0 = dktX0_book_0 := by decide +kernel
theorem dX0_book_0 : decode cX0_book 0 = .ok (.aload_n 2, 1) := dk_44 (dk_at dksX0_book_0 0 rfl rfl)
theorem dX0_book_1 : decode cX0_book 1 = .ok (.iconst 0, 1) := dk_3 (dk_at dksX0_book_0 1 rfl rfl)
theorem dX0_book_2 : decode cX0_book 2 = .ok (.aload_n 0, 1) := dk_42 (dk_at dksX0_book_0 2 rfl rfl)
theorem dX0_book_3 : decode cX0_book 3 = .ok (.iload_n 1, 1) := dk_27 (dk_at dksX0_book_0 3 rfl rfl)
theorem dX0_book_4 : decode cX0_book 4 = .ok (.invokevirtual 21, 3) := dk_182 0 21 (dk_at dksX0_book_0 4 rfl rfl)
theorem dX0_book_7 : decode cX0_book 7 = .ok (.i2l, 1) := dk_133 (dk_at dksX0_book_0 7 rfl rfl)
theorem dX0_book_8 : decode cX0_book 8 = .ok (.lastore, 1) := dk_80 (dk_at dksX0_book_0 8 rfl rfl)
theorem dX0_book_9 : decode cX0_book 9 = .ok (.goto 6, 3) := dk_167 0 6 (dk_at dksX0_book_0 9 rfl rfl)
theorem dX0_book_12 : decode cX0_book 12 = .ok (.astore_n 3, 1) := dk_78 (dk_at dksX0_book_0 12 rfl rfl)
theorem dX0_book_13 : decode cX0_book 13 = .ok (.iconst 1, 1) := dk_4 (dk_at dksX0_book_0 13 rfl rfl)
theorem dX0_book_14 : decode cX0_book 14 = .ok (.ireturn, 1) := dk_172 (dk_at dksX0_book_0 14 rfl rfl)
theorem dX0_book_15 : decode cX0_book 15 = .ok (.iconst 0, 1) := dk_3 (dk_at dksX0_book_0 15 rfl rfl)
theorem dX0_book_16 : decode cX0_book 16 = .ok (.ireturn, 1) := dk_172 (dk_at dksX0_book_0 16 rfl rfl)
abbrev cX0_told : ByteArray := method_7_code
def yX0_told : MethodName := ⟨RX0, "told", "(LRainWheel;I[J)I"⟩
def dkwX0_told_0 : List UInt8 := [44, 3, 42, 27, 182, 0, 24, 133, 80, 167, 0, 6, 78, 4, 172, 3, 172]
abbrev dktX0_told_0 : List UInt8 := dkwX0_told_0 ++ []
theorem dksX0_told_0 : cX0_told.data.toList.drop 0 = dktX0_told_0 := by decide +kernel
theorem dX0_told_0 : decode cX0_told 0 = .ok (.aload_n 2, 1) := dk_44 (dk_at dksX0_told_0 0 rfl rfl)
theorem dX0_told_1 : decode cX0_told 1 = .ok (.iconst 0, 1) := dk_3 (dk_at dksX0_told_0 1 rfl rfl)
theorem dX0_told_2 : decode cX0_told 2 = .ok (.aload_n 0, 1) := dk_42 (dk_at dksX0_told_0 2 rfl rfl)
theorem dX0_told_3 : decode cX0_told 3 = .ok (.iload_n 1, 1) := dk_27 (dk_at dksX0_told_0 3 rfl rfl)
theorem dX0_told_4 : decode cX0_told 4 = .ok (.invokevirtual 24, 3) := dk_182 0 24 (dk_at dksX0_told_0 4 rfl rfl)
theorem dX0_told_7 : decode cX0_told 7 = .ok (.i2l, 1) := dk_133 (dk_at dksX0_told_0 7 rfl rfl)
theorem dX0_told_8 : decode cX0_told 8 = .ok (.lastore, 1) := dk_80 (dk_at dksX0_told_0 8 rfl rfl)
theorem dX0_told_9 : decode cX0_told 9 = .ok (.goto 6, 3) := dk_167 0 6 (dk_at dksX0_told_0 9 rfl rfl)
theorem dX0_told_12 : decode cX0_told 12 = .ok (.astore_n 3, 1) := dk_78 (dk_at dksX0_told_0 12 rfl rfl)
theorem dX0_told_13 : decode cX0_told 13 = .ok (.iconst 1, 1) := dk_4 (dk_at dksX0_told_0 13 rfl rfl)
theorem dX0_told_14 : decode cX0_told 14 = .ok (.ireturn, 1) := dk_172 (dk_at dksX0_told_0 14 rfl rfl)
theorem dX0_told_15 : decode cX0_told 15 = .ok (.iconst 0, 1) := dk_3 (dk_at dksX0_told_0 15 rfl rfl)
theorem dX0_told_16 : decode cX0_told 16 = .ok (.ireturn, 1) := dk_172 (dk_at dksX0_told_0 16 rfl rfl)
abbrev cX0_deed : ByteArray := method_8_code
def yX0_deed : MethodName := ⟨RX0, "deed", "(LRainWheel;II[J)I"⟩
def dkwX0_deed_0 : List UInt8 := [45, 3, 42, 27, 28, 182, 0, 27, 133, 80, 167, 0, 11, 58, 4, 4, 172, 58, 4, 5, 172, 3, 172]
abbrev dktX0_deed_0 : List UInt8 := dkwX0_deed_0 ++ []
theorem dksX0_deed_0 : cX0_deed.data.toList.drop 0 = dktX0_deed_0 := by decide +kernel
theorem dX0_deed_0 : decode cX0_deed 0 = .ok (.aload_n 3, 1) := dk_45 (dk_at dksX0_deed_0 0 rfl rfl)
theorem dX0_deed_1 : decode cX0_deed 1 = .ok (.iconst 0, 1) := dk_3 (dk_at dksX0_deed_0 1 rfl rfl)
theorem dX0_deed_2 : decode cX0_deed 2 = .ok (.aload_n 0, 1) := dk_42 (dk_at dksX0_deed_0 2 rfl rfl)
theorem dX0_deed_3 : decode cX0_deed 3 = .ok (.iload_n 1, 1) := dk_27 (dk_at dksX0_deed_0 3 rfl rfl)
theorem dX0_deed_4 : decode cX0_deed 4 = .ok (.iload_n 2, 1) := dk_28 (dk_at dksX0_deed_0 4 rfl rfl)
theorem dX0_deed_5 : decode cX0_deed 5 = .ok (.invokevirtual 27, 3) := dk_182 0 27 (dk_at dksX0_deed_0 5 rfl rfl)
theorem dX0_deed_8 : decode cX0_deed 8 = .ok (.i2l, 1) := dk_133 (dk_at dksX0_deed_0 8 rfl rfl)
theorem dX0_deed_9 : decode cX0_deed 9 = .ok (.lastore, 1) := dk_80 (dk_at dksX0_deed_0 9 rfl rfl)
theorem dX0_deed_10 : decode cX0_deed 10 = .ok (.goto 11, 3) := dk_167 0 11 (dk_at dksX0_deed_0 10 rfl rfl)
theorem dX0_deed_13 : decode cX0_deed 13 = .ok (.astore 4, 2) := dk_58 4 (dk_at dksX0_deed_0 13 rfl rfl)
theorem dX0_deed_15 : decode cX0_deed 15 = .ok (.iconst 1, 1) := dk_4 (dk_at dksX0_deed_0 15 rfl rfl)
theorem dX0_deed_16 : decode cX0_deed 16 = .ok (.ireturn, 1) := dk_172 (dk_at dksX0_deed_0 16 rfl rfl)
theorem dX0_deed_17 : decode cX0_deed 17 = .ok (.astore 4, 2) := dk_58 4 (dk_at dksX0_deed_0 17 rfl rfl)
theorem dX0_deed_19 : decode cX0_deed 19 = .ok (.iconst 2, 1) := dk_5 (dk_at dksX0_deed_0 19 rfl rfl)
theorem dX0_deed_20 : decode cX0_deed 20 = .ok (.ireturn, 1) := dk_172 (dk_at dksX0_deed_0 20 rfl rfl)
theorem dX0_deed_21 : decode cX0_deed 21 = .ok (.iconst 0, 1) := dk_3 (dk_at dksX0_deed_0 21 rfl rfl)
theorem dX0_deed_22 : decode cX0_deed 22 = .ok (.ireturn, 1) := dk_172 (dk_at dksX0_deed_0 22 rfl rfl)
abbrev cX0_strong : ByteArray := method_9_code
def yX0_strong : MethodName := ⟨RX0, "strong", "(LRainWheel;I[J)I"⟩
def dkwX0_strong_0 : List UInt8 := [44, 3, 42, 27, 182, 0, 33, 133, 80, 167, 0, 6, 78, 4, 172, 3, 172]
abbrev dktX0_strong_0 : List UInt8 := dkwX0_strong_0 ++ []
theorem dksX0_strong_0 : cX0_strong.data.toList.drop 0 = dktX0_strong_0 := by decide +kernel
theorem dX0_strong_0 : decode cX0_strong 0 = .ok (.aload_n 2, 1) := dk_44 (dk_at dksX0_strong_0 0 rfl rfl)
theorem dX0_strong_1 : decode cX0_strong 1 = .ok (.iconst 0, 1) := dk_3 (dk_at dksX0_strong_0 1 rfl rfl)
theorem dX0_strong_2 : decode cX0_strong 2 = .ok (.aload_n 0, 1) := dk_42 (dk_at dksX0_strong_0 2 rfl rfl)
theorem dX0_strong_3 : decode cX0_strong 3 = .ok (.iload_n 1, 1) := dk_27 (dk_at dksX0_strong_0 3 rfl rfl)
theorem dX0_strong_4 : decode cX0_strong 4 = .ok (.invokevirtual 33, 3) := dk_182 0 33 (dk_at dksX0_strong_0 4 rfl rfl)
theorem dX0_strong_7 : decode cX0_strong 7 = .ok (.i2l, 1) := dk_133 (dk_at dksX0_strong_0 7 rfl rfl)
theorem dX0_strong_8 : decode cX0_strong 8 = .ok (.lastore, 1) := dk_80 (dk_at dksX0_strong_0 8 rfl rfl)
theorem dX0_strong_9 : decode cX0_strong 9 = .ok (.goto 6, 3) := dk_167 0 6 (dk_at dksX0_strong_0 9 rfl rfl)
theorem dX0_strong_12 : decode cX0_strong 12 = .ok (.astore_n 3, 1) := dk_78 (dk_at dksX0_strong_0 12 rfl rfl)
theorem dX0_strong_13 : decode cX0_strong 13 = .ok (.iconst 1, 1) := dk_4 (dk_at dksX0_strong_0 13 rfl rfl)
theorem dX0_strong_14 : decode cX0_strong 14 = .ok (.ireturn, 1) := dk_172 (dk_at dksX0_strong_0 14 rfl rfl)
theorem dX0_strong_15 : decode cX0_strong 15 = .ok (.iconst 0, 1) := dk_3 (dk_at dksX0_strong_0 15 rfl rfl)
theorem dX0_strong_16 : decode cX0_strong 16 = .ok (.ireturn, 1) := dk_172 (dk_at dksX0_strong_0 16 rfl rfl)
abbrev cX0_bears : ByteArray := method_10_code
def yX0_bears : MethodName := ⟨RX0, "bears", "(LRainWheel;I[J)I"⟩
def dkwX0_bears_0 : List UInt8 := [44, 3, 42, 27, 182, 0, 36, 133, 80, 167, 0, 6, 78, 4, 172, 3, 172]
abbrev dktX0_bears_0 : List UInt8 := dkwX0_bears_0 ++ []
theorem dksX0_bears_0 : cX0_bears.data.toList.drop 0 = dktX0_bears_0 := by decide +kernel
theorem dX0_bears_0 : decode cX0_bears 0 = .ok (.aload_n 2, 1) := dk_44 (dk_at dksX0_bears_0 0 rfl rfl)
theorem dX0_bears_1 : decode cX0_bears 1 = .ok (.iconst 0, 1) := dk_3 (dk_at dksX0_bears_0 1 rfl rfl)
theorem dX0_bears_2 : decode cX0_bears 2 = .ok (.aload_n 0, 1) := dk_42 (dk_at dksX0_bears_0 2 rfl rfl)
theorem dX0_bears_3 : decode cX0_bears 3 = .ok (.iload_n 1, 1) := dk_27 (dk_at dksX0_bears_0 3 rfl rfl)
theorem dX0_bears_4 : decode cX0_bears 4 = .ok (.invokevirtual 36, 3) := dk_182 0 36 (dk_at dksX0_bears_0 4 rfl rfl)
theorem dX0_bears_7 : decode cX0_bears 7 = .ok (.i2l, 1) := dk_133 (dk_at dksX0_bears_0 7 rfl rfl)
theorem dX0_bears_8 : decode cX0_bears 8 = .ok (.lastore, 1) := dk_80 (dk_at dksX0_bears_0 8 rfl rfl)
theorem dX0_bears_9 : decode cX0_bears 9 = .ok (.goto 6, 3) := dk_167 0 6 (dk_at dksX0_bears_0 9 rfl rfl)
theorem dX0_bears_12 : decode cX0_bears 12 = .ok (.astore_n 3, 1) := dk_78 (dk_at dksX0_bears_0 12 rfl rfl)
theorem dX0_bears_13 : decode cX0_bears 13 = .ok (.iconst 1, 1) := dk_4 (dk_at dksX0_bears_0 13 rfl rfl)
theorem dX0_bears_14 : decode cX0_bears 14 = .ok (.ireturn, 1) := dk_172 (dk_at dksX0_bears_0 14 rfl rfl)
theorem dX0_bears_15 : decode cX0_bears 15 = .ok (.iconst 0, 1) := dk_3 (dk_at dksX0_bears_0 15 rfl rfl)
theorem dX0_bears_16 : decode cX0_bears 16 = .ok (.ireturn, 1) := dk_172 (dk_at dksX0_bears_0 16 rfl rfl)
abbrev cX0_rains : ByteArray := method_11_code
def yX0_rains : MethodName := ⟨RX0, "rains", "(LRainWheel;I[J)I"⟩
def dkwX0_rains_0 : List UInt8 := [44, 3, 42, 27, 182, 0, 39, 153, 0, 7, 10, 167, 0, 4, 9, 80, 167, 0, 6, 78, 4, 172, 3, 172]
abbrev dktX0_rains_0 : List UInt8 := dkwX0_rains_0 ++ []
theorem dksX0_rains_0 : cX0_rains.data.toList.drop 0 = dktX0_rains_0 := by decide +kernel
theorem dX0_rains_0 : decode cX0_rains 0 = .ok (.aload_n 2, 1) := dk_44 (dk_at dksX0_rains_0 0 rfl rfl)
theorem dX0_rains_1 : decode cX0_rains 1 = .ok (.iconst 0, 1) := dk_3 (dk_at dksX0_rains_0 1 rfl rfl)
theorem dX0_rains_2 : decode cX0_rains 2 = .ok (.aload_n 0, 1) := dk_42 (dk_at dksX0_rains_0 2 rfl rfl)
theorem dX0_rains_3 : decode cX0_rains 3 = .ok (.iload_n 1, 1) := dk_27 (dk_at dksX0_rains_0 3 rfl rfl)
theorem dX0_rains_4 : decode cX0_rains 4 = .ok (.invokevirtual 39, 3) := dk_182 0 39 (dk_at dksX0_rains_0 4 rfl rfl)
theorem dX0_rains_7 : decode cX0_rains 7 = .ok (.ifCond .eq 7, 3) := dk_153 0 7 (dk_at dksX0_rains_0 7 rfl rfl)
theorem dX0_rains_10 : decode cX0_rains 10 = .ok (.lconst 1, 1) := dk_10 (dk_at dksX0_rains_0 10 rfl rfl)
theorem dX0_rains_11 : decode cX0_rains 11 = .ok (.goto 4, 3) := dk_167 0 4 (dk_at dksX0_rains_0 11 rfl rfl)
theorem dX0_rains_14 : decode cX0_rains 14 = .ok (.lconst 0, 1) := dk_9 (dk_at dksX0_rains_0 14 rfl rfl)
theorem dX0_rains_15 : decode cX0_rains 15 = .ok (.lastore, 1) := dk_80 (dk_at dksX0_rains_0 15 rfl rfl)
theorem dX0_rains_16 : decode cX0_rains 16 = .ok (.goto 6, 3) := dk_167 0 6 (dk_at dksX0_rains_0 16 rfl rfl)
theorem dX0_rains_19 : decode cX0_rains 19 = .ok (.astore_n 3, 1) := dk_78 (dk_at dksX0_rains_0 19 rfl rfl)
theorem dX0_rains_20 : decode cX0_rains 20 = .ok (.iconst 1, 1) := dk_4 (dk_at dksX0_rains_0 20 rfl rfl)
theorem dX0_rains_21 : decode cX0_rains 21 = .ok (.ireturn, 1) := dk_172 (dk_at dksX0_rains_0 21 rfl rfl)
theorem dX0_rains_22 : decode cX0_rains 22 = .ok (.iconst 0, 1) := dk_3 (dk_at dksX0_rains_0 22 rfl rfl)
theorem dX0_rains_23 : decode cX0_rains 23 = .ok (.ireturn, 1) := dk_172 (dk_at dksX0_rains_0 23 rfl rfl)
abbrev cX0_would : ByteArray := method_12_code
def yX0_would : MethodName := ⟨RX0, "would", "(LRainWheel;IIIIII[J)I"⟩
def dkwX0_would_1 : List UInt8 := [172, 3, 172]
abbrev dktX0_would_1 : List UInt8 := dkwX0_would_1 ++ []
def dkwX0_would_0 : List UInt8 := [25, 7, 3, 42, 27, 28, 29, 21, 4, 21, 5, 21, 6, 182, 0, 43, 133, 80, 167, 0, 7, 58, 8, 4]
abbrev dktX0_would_0 : List UInt8 := dkwX0_would_0 ++ dktX0_would_1
theorem dksX0_would_0 : cX0_would.data.toList.drop 0 = dktX0_would_0 := by decide +kernel
theorem dksX0_would_1 : cX0_would.data.toList.drop 24 = dktX0_would_1 := dk_seg dksX0_would_0 24 rfl rfl
theorem dX0_would_0 : decode cX0_would 0 = .ok (.aload 7, 2) := dk_25 7 (dk_at dksX0_would_0 0 rfl rfl)
theorem dX0_would_2 : decode cX0_would 2 = .ok (.iconst 0, 1) := dk_3 (dk_at dksX0_would_0 2 rfl rfl)
theorem dX0_would_3 : decode cX0_would 3 = .ok (.aload_n 0, 1) := dk_42 (dk_at dksX0_would_0 3 rfl rfl)
theorem dX0_would_4 : decode cX0_would 4 = .ok (.iload_n 1, 1) := dk_27 (dk_at dksX0_would_0 4 rfl rfl)
theorem dX0_would_5 : decode cX0_would 5 = .ok (.iload_n 2, 1) := dk_28 (dk_at dksX0_would_0 5 rfl rfl)
theorem dX0_would_6 : decode cX0_would 6 = .ok (.iload_n 3, 1) := dk_29 (dk_at dksX0_would_0 6 rfl rfl)
theorem dX0_would_7 : decode cX0_would 7 = .ok (.iload 4, 2) := dk_21 4 (dk_at dksX0_would_0 7 rfl rfl)
theorem dX0_would_9 : decode cX0_would 9 = .ok (.iload 5, 2) := dk_21 5 (dk_at dksX0_would_0 9 rfl rfl)
theorem dX0_would_11 : decode cX0_would 11 = .ok (.iload 6, 2) := dk_21 6 (dk_at dksX0_would_0 11 rfl rfl)
theorem dX0_would_13 : decode cX0_would 13 = .ok (.invokevirtual 43, 3) := dk_182 0 43 (dk_at dksX0_would_0 13 rfl rfl)
theorem dX0_would_16 : decode cX0_would 16 = .ok (.i2l, 1) := dk_133 (dk_at dksX0_would_0 16 rfl rfl)
theorem dX0_would_17 : decode cX0_would 17 = .ok (.lastore, 1) := dk_80 (dk_at dksX0_would_0 17 rfl rfl)
theorem dX0_would_18 : decode cX0_would 18 = .ok (.goto 7, 3) := dk_167 0 7 (dk_at dksX0_would_0 18 rfl rfl)
theorem dX0_would_21 : decode cX0_would 21 = .ok (.astore 8, 2) := dk_58 8 (dk_at dksX0_would_0 21 rfl rfl)
theorem dX0_would_23 : decode cX0_would 23 = .ok (.iconst 1, 1) := dk_4 (dk_at dksX0_would_0 23 rfl rfl)
theorem dX0_would_24 : decode cX0_would 24 = .ok (.ireturn, 1) := dk_172 (dk_at dksX0_would_1 0 rfl rfl)
theorem dX0_would_25 : decode cX0_would 25 = .ok (.iconst 0, 1) := dk_3 (dk_at dksX0_would_1 1 rfl rfl)
theorem dX0_would_26 : decode cX0_would 26 = .ok (.ireturn, 1) := dk_172 (dk_at dksX0_would_1 2 rfl rfl)
abbrev cX0_line : ByteArray := method_13_code
def yX0_line : MethodName := ⟨RX0, "line", "(LRainWheel;II[J)I"⟩
def dkwX0_line_0 : List UInt8 := [45, 3, 42, 27, 28, 182, 0, 47, 133, 80, 167, 0, 11, 58, 4, 4, 172, 58, 4, 5, 172, 3, 172]
abbrev dktX0_line_0 : List UInt8 := dkwX0_line_0 ++ []
theorem dksX0_line_0 : cX0_line.data.toList.drop 0 = dktX0_line_0 := by decide +kernel
theorem dX0_line_0 : decode cX0_line 0 = .ok (.aload_n 3, 1) := dk_45 (dk_at dksX0_line_0 0 rfl rfl)
theorem dX0_line_1 : decode cX0_line 1 = .ok (.iconst 0, 1) := dk_3 (dk_at dksX0_line_0 1 rfl rfl)
theorem dX0_line_2 : decode cX0_line 2 = .ok (.aload_n 0, 1) := dk_42 (dk_at dksX0_line_0 2 rfl rfl)
theorem dX0_line_3 : decode cX0_line 3 = .ok (.iload_n 1, 1) := dk_27 (dk_at dksX0_line_0 3 rfl rfl)
theorem dX0_line_4 : decode cX0_line 4 = .ok (.iload_n 2, 1) := dk_28 (dk_at dksX0_line_0 4 rfl rfl)
theorem dX0_line_5 : decode cX0_line 5 = .ok (.invokevirtual 47, 3) := dk_182 0 47 (dk_at dksX0_line_0 5 rfl rfl)
theorem dX0_line_8 : decode cX0_line 8 = .ok (.i2l, 1) := dk_133 (dk_at dksX0_line_0 8 rfl rfl)
theorem dX0_line_9 : decode cX0_line 9 = .ok (.lastore, 1) := dk_80 (dk_at dksX0_line_0 9 rfl rfl)
theorem dX0_line_10 : decode cX0_line 10 = .ok (.goto 11, 3) := dk_167 0 11 (dk_at dksX0_line_0 10 rfl rfl)
theorem dX0_line_13 : decode cX0_line 13 = .ok (.astore 4, 2) := dk_58 4 (dk_at dksX0_line_0 13 rfl rfl)
theorem dX0_line_15 : decode cX0_line 15 = .ok (.iconst 1, 1) := dk_4 (dk_at dksX0_line_0 15 rfl rfl)
theorem dX0_line_16 : decode cX0_line 16 = .ok (.ireturn, 1) := dk_172 (dk_at dksX0_line_0 16 rfl rfl)
theorem dX0_line_17 : decode cX0_line 17 = .ok (.astore 4, 2) := dk_58 4 (dk_at dksX0_line_0 17 rfl rfl)
theorem dX0_line_19 : decode cX0_line 19 = .ok (.iconst 2, 1) := dk_5 (dk_at dksX0_line_0 19 rfl rfl)
theorem dX0_line_20 : decode cX0_line 20 = .ok (.ireturn, 1) := dk_172 (dk_at dksX0_line_0 20 rfl rfl)
theorem dX0_line_21 : decode cX0_line 21 = .ok (.iconst 0, 1) := dk_3 (dk_at dksX0_line_0 21 rfl rfl)
theorem dX0_line_22 : decode cX0_line 22 = .ok (.ireturn, 1) := dk_172 (dk_at dksX0_line_0 22 rfl rfl)
abbrev cX0_wet : ByteArray := method_14_code
def yX0_wet : MethodName := ⟨RX0, "wet", "(LRainWheel;I[J)I"⟩
def dkwX0_wet_0 : List UInt8 := [44, 3, 42, 27, 182, 0, 50, 133, 80, 167, 0, 6, 78, 4, 172, 3, 172]
abbrev dktX0_wet_0 : List UInt8 := dkwX0_wet_0 ++ []
theorem dksX0_wet_0 : cX0_wet.data.toList.drop 0 = dktX0_wet_0 := by decide +kernel
theorem dX0_wet_0 : decode cX0_wet 0 = .ok (.aload_n 2, 1) := dk_44 (dk_at dksX0_wet_0 0 rfl rfl)
theorem dX0_wet_1 : decode cX0_wet 1 = .ok (.iconst 0, 1) := dk_3 (dk_at dksX0_wet_0 1 rfl rfl)
theorem dX0_wet_2 : decode cX0_wet 2 = .ok (.aload_n 0, 1) := dk_42 (dk_at dksX0_wet_0 2 rfl rfl)
theorem dX0_wet_3 : decode cX0_wet 3 = .ok (.iload_n 1, 1) := dk_27 (dk_at dksX0_wet_0 3 rfl rfl)
theorem dX0_wet_4 : decode cX0_wet 4 = .ok (.invokevirtual 50, 3) := dk_182 0 50 (dk_at dksX0_wet_0 4 rfl rfl)
theorem dX0_wet_7 : decode cX0_wet 7 = .ok (.i2l, 1) := dk_133 (dk_at dksX0_wet_0 7 rfl rfl)
theorem dX0_wet_8 : decode cX0_wet 8 = .ok (.lastore, 1) := dk_80 (dk_at dksX0_wet_0 8 rfl rfl)
theorem dX0_wet_9 : decode cX0_wet 9 = .ok (.goto 6, 3) := dk_167 0 6 (dk_at dksX0_wet_0 9 rfl rfl)
theorem dX0_wet_12 : decode cX0_wet 12 = .ok (.astore_n 3, 1) := dk_78 (dk_at dksX0_wet_0 12 rfl rfl)
theorem dX0_wet_13 : decode cX0_wet 13 = .ok (.iconst 1, 1) := dk_4 (dk_at dksX0_wet_0 13 rfl rfl)
theorem dX0_wet_14 : decode cX0_wet 14 = .ok (.ireturn, 1) := dk_172 (dk_at dksX0_wet_0 14 rfl rfl)
theorem dX0_wet_15 : decode cX0_wet 15 = .ok (.iconst 0, 1) := dk_3 (dk_at dksX0_wet_0 15 rfl rfl)
theorem dX0_wet_16 : decode cX0_wet 16 = .ok (.ireturn, 1) := dk_172 (dk_at dksX0_wet_0 16 rfl rfl)
abbrev cX0_idle : ByteArray := method_15_code
def yX0_idle : MethodName := ⟨RX0, "idle", "(LRainWheel;I[J)I"⟩
def dkwX0_idle_0 : List UInt8 := [44, 3, 42, 27, 182, 0, 53, 133, 80, 167, 0, 6, 78, 4, 172, 3, 172]
abbrev dktX0_idle_0 : List UInt8 := dkwX0_idle_0 ++ []
theorem dksX0_idle_0 : cX0_idle.data.toList.drop 0 = dktX0_idle_0 := by decide +kernel
theorem dX0_idle_0 : decode cX0_idle 0 = .ok (.aload_n 2, 1) := dk_44 (dk_at dksX0_idle_0 0 rfl rfl)
theorem dX0_idle_1 : decode cX0_idle 1 = .ok (.iconst 0, 1) := dk_3 (dk_at dksX0_idle_0 1 rfl rfl)
theorem dX0_idle_2 : decode cX0_idle 2 = .ok (.aload_n 0, 1) := dk_42 (dk_at dksX0_idle_0 2 rfl rfl)
theorem dX0_idle_3 : decode cX0_idle 3 = .ok (.iload_n 1, 1) := dk_27 (dk_at dksX0_idle_0 3 rfl rfl)
theorem dX0_idle_4 : decode cX0_idle 4 = .ok (.invokevirtual 53, 3) := dk_182 0 53 (dk_at dksX0_idle_0 4 rfl rfl)
theorem dX0_idle_7 : decode cX0_idle 7 = .ok (.i2l, 1) := dk_133 (dk_at dksX0_idle_0 7 rfl rfl)
theorem dX0_idle_8 : decode cX0_idle 8 = .ok (.lastore, 1) := dk_80 (dk_at dksX0_idle_0 8 rfl rfl)
theorem dX0_idle_9 : decode cX0_idle 9 = .ok (.goto 6, 3) := dk_167 0 6 (dk_at dksX0_idle_0 9 rfl rfl)
theorem dX0_idle_12 : decode cX0_idle 12 = .ok (.astore_n 3, 1) := dk_78 (dk_at dksX0_idle_0 12 rfl rfl)
theorem dX0_idle_13 : decode cX0_idle 13 = .ok (.iconst 1, 1) := dk_4 (dk_at dksX0_idle_0 13 rfl rfl)
theorem dX0_idle_14 : decode cX0_idle 14 = .ok (.ireturn, 1) := dk_172 (dk_at dksX0_idle_0 14 rfl rfl)
theorem dX0_idle_15 : decode cX0_idle 15 = .ok (.iconst 0, 1) := dk_3 (dk_at dksX0_idle_0 15 rfl rfl)
theorem dX0_idle_16 : decode cX0_idle 16 = .ok (.ireturn, 1) := dk_172 (dk_at dksX0_idle_0 16 rfl rfl)
abbrev cX0_slack : ByteArray := method_16_code
def yX0_slack : MethodName := ⟨RX0, "slack", "(LRainWheel;I[J)I"⟩
def dkwX0_slack_0 : List UInt8 := [44, 3, 42, 27, 182, 0, 56, 133, 80, 167, 0, 6, 78, 4, 172, 3, 172]
abbrev dktX0_slack_0 : List UInt8 := dkwX0_slack_0 ++ []
theorem dksX0_slack_0 : cX0_slack.data.toList.drop 0 = dktX0_slack_0 := by decide +kernel
theorem dX0_slack_0 : decode cX0_slack 0 = .ok (.aload_n 2, 1) := dk_44 (dk_at dksX0_slack_0 0 rfl rfl)
theorem dX0_slack_1 : decode cX0_slack 1 = .ok (.iconst 0, 1) := dk_3 (dk_at dksX0_slack_0 1 rfl rfl)
theorem dX0_slack_2 : decode cX0_slack 2 = .ok (.aload_n 0, 1) := dk_42 (dk_at dksX0_slack_0 2 rfl rfl)
theorem dX0_slack_3 : decode cX0_slack 3 = .ok (.iload_n 1, 1) := dk_27 (dk_at dksX0_slack_0 3 rfl rfl)
theorem dX0_slack_4 : decode cX0_slack 4 = .ok (.invokevirtual 56, 3) := dk_182 0 56 (dk_at dksX0_slack_0 4 rfl rfl)
theorem dX0_slack_7 : decode cX0_slack 7 = .ok (.i2l, 1) := dk_133 (dk_at dksX0_slack_0 7 rfl rfl)
theorem dX0_slack_8 : decode cX0_slack 8 = .ok (.lastore, 1) := dk_80 (dk_at dksX0_slack_0 8 rfl rfl)
theorem dX0_slack_9 : decode cX0_slack 9 = .ok (.goto 6, 3) := dk_167 0 6 (dk_at dksX0_slack_0 9 rfl rfl)
theorem dX0_slack_12 : decode cX0_slack 12 = .ok (.astore_n 3, 1) := dk_78 (dk_at dksX0_slack_0 12 rfl rfl)
theorem dX0_slack_13 : decode cX0_slack 13 = .ok (.iconst 1, 1) := dk_4 (dk_at dksX0_slack_0 13 rfl rfl)
theorem dX0_slack_14 : decode cX0_slack 14 = .ok (.ireturn, 1) := dk_172 (dk_at dksX0_slack_0 14 rfl rfl)
theorem dX0_slack_15 : decode cX0_slack 15 = .ok (.iconst 0, 1) := dk_3 (dk_at dksX0_slack_0 15 rfl rfl)
theorem dX0_slack_16 : decode cX0_slack 16 = .ok (.ireturn, 1) := dk_172 (dk_at dksX0_slack_0 16 rfl rfl)
abbrev cX0_ahead : ByteArray := method_17_code
def yX0_ahead : MethodName := ⟨RX0, "ahead", "(LRainWheel;I[J)I"⟩
def dkwX0_ahead_0 : List UInt8 := [44, 3, 42, 27, 182, 0, 59, 133, 80, 167, 0, 6, 78, 4, 172, 3, 172]
abbrev dktX0_ahead_0 : List UInt8 := dkwX0_ahead_0 ++ []
theorem dksX0_ahead_0 : cX0_ahead.data.toList.drop 0 = dktX0_ahead_0 := by decide +kernel
theorem dX0_ahead_0 : decode cX0_ahead 0 = .ok (.aload_n 2, 1) := dk_44 (dk_at dksX0_ahead_0 0 rfl rfl)
theorem dX0_ahead_1 : decode cX0_ahead 1 = .ok (.iconst 0, 1) := dk_3 (dk_at dksX0_ahead_0 1 rfl rfl)
theorem dX0_ahead_2 : decode cX0_ahead 2 = .ok (.aload_n 0, 1) := dk_42 (dk_at dksX0_ahead_0 2 rfl rfl)
theorem dX0_ahead_3 : decode cX0_ahead 3 = .ok (.iload_n 1, 1) := dk_27 (dk_at dksX0_ahead_0 3 rfl rfl)
theorem dX0_ahead_4 : decode cX0_ahead 4 = .ok (.invokevirtual 59, 3) := dk_182 0 59 (dk_at dksX0_ahead_0 4 rfl rfl)
theorem dX0_ahead_7 : decode cX0_ahead 7 = .ok (.i2l, 1) := dk_133 (dk_at dksX0_ahead_0 7 rfl rfl)
theorem dX0_ahead_8 : decode cX0_ahead 8 = .ok (.lastore, 1) := dk_80 (dk_at dksX0_ahead_0 8 rfl rfl)
theorem dX0_ahead_9 : decode cX0_ahead 9 = .ok (.goto 6, 3) := dk_167 0 6 (dk_at dksX0_ahead_0 9 rfl rfl)
theorem dX0_ahead_12 : decode cX0_ahead 12 = .ok (.astore_n 3, 1) := dk_78 (dk_at dksX0_ahead_0 12 rfl rfl)
theorem dX0_ahead_13 : decode cX0_ahead 13 = .ok (.iconst 1, 1) := dk_4 (dk_at dksX0_ahead_0 13 rfl rfl)
theorem dX0_ahead_14 : decode cX0_ahead 14 = .ok (.ireturn, 1) := dk_172 (dk_at dksX0_ahead_0 14 rfl rfl)
theorem dX0_ahead_15 : decode cX0_ahead 15 = .ok (.iconst 0, 1) := dk_3 (dk_at dksX0_ahead_0 15 rfl rfl)
theorem dX0_ahead_16 : decode cX0_ahead 16 = .ok (.ireturn, 1) := dk_172 (dk_at dksX0_ahead_0 16 rfl rfl)
abbrev cX0_chain : ByteArray := method_18_code
def yX0_chain : MethodName := ⟨RX0, "chain", "(LRainWheel;I[J)I"⟩
def dkwX0_chain_0 : List UInt8 := [44, 3, 42, 27, 182, 0, 62, 133, 80, 167, 0, 6, 78, 4, 172, 3, 172]
abbrev dktX0_chain_0 : List UInt8 := dkwX0_chain_0 ++ []
theorem dksX0_chain_0 : cX0_chain.data.toList.drop 0 = dktX0_chain_0 := by decide +kernel
theorem dX0_chain_0 : decode cX0_chain 0 = .ok (.aload_n 2, 1) := dk_44 (dk_at dksX0_chain_0 0 rfl rfl)
theorem dX0_chain_1 : decode cX0_chain 1 = .ok (.iconst 0, 1) := dk_3 (dk_at dksX0_chain_0 1 rfl rfl)
theorem dX0_chain_2 : decode cX0_chain 2 = .ok (.aload_n 0, 1) := dk_42 (dk_at dksX0_chain_0 2 rfl rfl)
theorem dX0_chain_3 : decode cX0_chain 3 = .ok (.iload_n 1, 1) := dk_27 (dk_at dksX0_chain_0 3 rfl rfl)
theorem dX0_chain_4 : decode cX0_chain 4 = .ok (.invokevirtual 62, 3) := dk_182 0 62 (dk_at dksX0_chain_0 4 rfl rfl)
theorem dX0_chain_7 : decode cX0_chain 7 = .ok (.i2l, 1) := dk_133 (dk_at dksX0_chain_0 7 rfl rfl)
theorem dX0_chain_8 : decode cX0_chain 8 = .ok (.lastore, 1) := dk_80 (dk_at dksX0_chain_0 8 rfl rfl)
theorem dX0_chain_9 : decode cX0_chain 9 = .ok (.goto 6, 3) := dk_167 0 6 (dk_at dksX0_chain_0 9 rfl rfl)
theorem dX0_chain_12 : decode cX0_chain 12 = .ok (.astore_n 3, 1) := dk_78 (dk_at dksX0_chain_0 12 rfl rfl)
theorem dX0_chain_13 : decode cX0_chain 13 = .ok (.iconst 1, 1) := dk_4 (dk_at dksX0_chain_0 13 rfl rfl)
theorem dX0_chain_14 : decode cX0_chain 14 = .ok (.ireturn, 1) := dk_172 (dk_at dksX0_chain_0 14 rfl rfl)
theorem dX0_chain_15 : decode cX0_chain 15 = .ok (.iconst 0, 1) := dk_3 (dk_at dksX0_chain_0 15 rfl rfl)
theorem dX0_chain_16 : decode cX0_chain 16 = .ok (.ireturn, 1) := dk_172 (dk_at dksX0_chain_0 16 rfl rfl)
abbrev cX0_soonest : ByteArray := method_19_code
def yX0_soonest : MethodName := ⟨RX0, "soonest", "(LRainWheel;I[J)I"⟩
def dkwX0_soonest_0 : List UInt8 := [44, 3, 42, 27, 182, 0, 65, 133, 80, 167, 0, 9, 78, 4, 172, 78, 5, 172, 3, 172]
abbrev dktX0_soonest_0 : List UInt8 := dkwX0_soonest_0 ++ []
theorem dksX0_soonest_0 : cX0_soonest.data.toList.drop 0 = dktX0_soonest_0 := by decide +kernel
theorem dX0_soonest_0 : decode cX0_soonest 0 = .ok (.aload_n 2, 1) := dk_44 (dk_at dksX0_soonest_0 0 rfl rfl)
theorem dX0_soonest_1 : decode cX0_soonest 1 = .ok (.iconst 0, 1) := dk_3 (dk_at dksX0_soonest_0 1 rfl rfl)
theorem dX0_soonest_2 : decode cX0_soonest 2 = .ok (.aload_n 0, 1) := dk_42 (dk_at dksX0_soonest_0 2 rfl rfl)
theorem dX0_soonest_3 : decode cX0_soonest 3 = .ok (.iload_n 1, 1) := dk_27 (dk_at dksX0_soonest_0 3 rfl rfl)
theorem dX0_soonest_4 : decode cX0_soonest 4 = .ok (.invokevirtual 65, 3) := dk_182 0 65 (dk_at dksX0_soonest_0 4 rfl rfl)
theorem dX0_soonest_7 : decode cX0_soonest 7 = .ok (.i2l, 1) := dk_133 (dk_at dksX0_soonest_0 7 rfl rfl)
theorem dX0_soonest_8 : decode cX0_soonest 8 = .ok (.lastore, 1) := dk_80 (dk_at dksX0_soonest_0 8 rfl rfl)
theorem dX0_soonest_9 : decode cX0_soonest 9 = .ok (.goto 9, 3) := dk_167 0 9 (dk_at dksX0_soonest_0 9 rfl rfl)
theorem dX0_soonest_12 : decode cX0_soonest 12 = .ok (.astore_n 3, 1) := dk_78 (dk_at dksX0_soonest_0 12 rfl rfl)
theorem dX0_soonest_13 : decode cX0_soonest 13 = .ok (.iconst 1, 1) := dk_4 (dk_at dksX0_soonest_0 13 rfl rfl)
theorem dX0_soonest_14 : decode cX0_soonest 14 = .ok (.ireturn, 1) := dk_172 (dk_at dksX0_soonest_0 14 rfl rfl)
theorem dX0_soonest_15 : decode cX0_soonest 15 = .ok (.astore_n 3, 1) := dk_78 (dk_at dksX0_soonest_0 15 rfl rfl)
theorem dX0_soonest_16 : decode cX0_soonest 16 = .ok (.iconst 2, 1) := dk_5 (dk_at dksX0_soonest_0 16 rfl rfl)
theorem dX0_soonest_17 : decode cX0_soonest 17 = .ok (.ireturn, 1) := dk_172 (dk_at dksX0_soonest_0 17 rfl rfl)
theorem dX0_soonest_18 : decode cX0_soonest 18 = .ok (.iconst 0, 1) := dk_3 (dk_at dksX0_soonest_0 18 rfl rfl)
theorem dX0_soonest_19 : decode cX0_soonest 19 = .ok (.ireturn, 1) := dk_172 (dk_at dksX0_soonest_0 19 rfl rfl)
abbrev cX0_first : ByteArray := method_20_code
def yX0_first : MethodName := ⟨RX0, "first", "(LRainWheel;I[J)I"⟩
def dkwX0_first_0 : List UInt8 := [44, 3, 42, 27, 182, 0, 70, 133, 80, 167, 0, 9, 78, 4, 172, 78, 5, 172, 3, 172]
abbrev dktX0_first_0 : List UInt8 := dkwX0_first_0 ++ []
theorem dksX0_first_0 : cX0_first.data.toList.drop 0 = dktX0_first_0 := by decide +kernel
theorem dX0_first_0 : decode cX0_first 0 = .ok (.aload_n 2, 1) := dk_44 (dk_at dksX0_first_0 0 rfl rfl)
theorem dX0_first_1 : decode cX0_first 1 = .ok (.iconst 0, 1) := dk_3 (dk_at dksX0_first_0 1 rfl rfl)
theorem dX0_first_2 : decode cX0_first 2 = .ok (.aload_n 0, 1) := dk_42 (dk_at dksX0_first_0 2 rfl rfl)
theorem dX0_first_3 : decode cX0_first 3 = .ok (.iload_n 1, 1) := dk_27 (dk_at dksX0_first_0 3 rfl rfl)
theorem dX0_first_4 : decode cX0_first 4 = .ok (.invokevirtual 70, 3) := dk_182 0 70 (dk_at dksX0_first_0 4 rfl rfl)
theorem dX0_first_7 : decode cX0_first 7 = .ok (.i2l, 1) := dk_133 (dk_at dksX0_first_0 7 rfl rfl)
theorem dX0_first_8 : decode cX0_first 8 = .ok (.lastore, 1) := dk_80 (dk_at dksX0_first_0 8 rfl rfl)
theorem dX0_first_9 : decode cX0_first 9 = .ok (.goto 9, 3) := dk_167 0 9 (dk_at dksX0_first_0 9 rfl rfl)
theorem dX0_first_12 : decode cX0_first 12 = .ok (.astore_n 3, 1) := dk_78 (dk_at dksX0_first_0 12 rfl rfl)
theorem dX0_first_13 : decode cX0_first 13 = .ok (.iconst 1, 1) := dk_4 (dk_at dksX0_first_0 13 rfl rfl)
theorem dX0_first_14 : decode cX0_first 14 = .ok (.ireturn, 1) := dk_172 (dk_at dksX0_first_0 14 rfl rfl)
theorem dX0_first_15 : decode cX0_first 15 = .ok (.astore_n 3, 1) := dk_78 (dk_at dksX0_first_0 15 rfl rfl)
theorem dX0_first_16 : decode cX0_first 16 = .ok (.iconst 2, 1) := dk_5 (dk_at dksX0_first_0 16 rfl rfl)
theorem dX0_first_17 : decode cX0_first 17 = .ok (.ireturn, 1) := dk_172 (dk_at dksX0_first_0 17 rfl rfl)
theorem dX0_first_18 : decode cX0_first 18 = .ok (.iconst 0, 1) := dk_3 (dk_at dksX0_first_0 18 rfl rfl)
theorem dX0_first_19 : decode cX0_first 19 = .ok (.ireturn, 1) := dk_172 (dk_at dksX0_first_0 19 rfl rfl)
abbrev cX0_sinks : ByteArray := method_21_code
def yX0_sinks : MethodName := ⟨RX0, "sinks", "(LRainWheel;III[J)I"⟩
def dkwX0_sinks_0 : List UInt8 := [25, 4, 3, 42, 27, 28, 29, 182, 0, 73, 133, 80, 167, 0, 7, 58, 5, 4, 172, 3, 172]
abbrev dktX0_sinks_0 : List UInt8 := dkwX0_sinks_0 ++ []
theorem dksX0_sinks_0 : cX0_sinks.data.toList.drop 0 = dktX0_sinks_0 := by decide +kernel
theorem dX0_sinks_0 : decode cX0_sinks 0 = .ok (.aload 4, 2) := dk_25 4 (dk_at dksX0_sinks_0 0 rfl rfl)
theorem dX0_sinks_2 : decode cX0_sinks 2 = .ok (.iconst 0, 1) := dk_3 (dk_at dksX0_sinks_0 2 rfl rfl)
theorem dX0_sinks_3 : decode cX0_sinks 3 = .ok (.aload_n 0, 1) := dk_42 (dk_at dksX0_sinks_0 3 rfl rfl)
theorem dX0_sinks_4 : decode cX0_sinks 4 = .ok (.iload_n 1, 1) := dk_27 (dk_at dksX0_sinks_0 4 rfl rfl)
theorem dX0_sinks_5 : decode cX0_sinks 5 = .ok (.iload_n 2, 1) := dk_28 (dk_at dksX0_sinks_0 5 rfl rfl)
theorem dX0_sinks_6 : decode cX0_sinks 6 = .ok (.iload_n 3, 1) := dk_29 (dk_at dksX0_sinks_0 6 rfl rfl)
theorem dX0_sinks_7 : decode cX0_sinks 7 = .ok (.invokevirtual 73, 3) := dk_182 0 73 (dk_at dksX0_sinks_0 7 rfl rfl)
theorem dX0_sinks_10 : decode cX0_sinks 10 = .ok (.i2l, 1) := dk_133 (dk_at dksX0_sinks_0 10 rfl rfl)
theorem dX0_sinks_11 : decode cX0_sinks 11 = .ok (.lastore, 1) := dk_80 (dk_at dksX0_sinks_0 11 rfl rfl)
theorem dX0_sinks_12 : decode cX0_sinks 12 = .ok (.goto 7, 3) := dk_167 0 7 (dk_at dksX0_sinks_0 12 rfl rfl)
theorem dX0_sinks_15 : decode cX0_sinks 15 = .ok (.astore 5, 2) := dk_58 5 (dk_at dksX0_sinks_0 15 rfl rfl)
theorem dX0_sinks_17 : decode cX0_sinks 17 = .ok (.iconst 1, 1) := dk_4 (dk_at dksX0_sinks_0 17 rfl rfl)
theorem dX0_sinks_18 : decode cX0_sinks 18 = .ok (.ireturn, 1) := dk_172 (dk_at dksX0_sinks_0 18 rfl rfl)
theorem dX0_sinks_19 : decode cX0_sinks 19 = .ok (.iconst 0, 1) := dk_3 (dk_at dksX0_sinks_0 19 rfl rfl)
theorem dX0_sinks_20 : decode cX0_sinks 20 = .ok (.ireturn, 1) := dk_172 (dk_at dksX0_sinks_0 20 rfl rfl)
abbrev cX0_under : ByteArray := method_22_code
def yX0_under : MethodName := ⟨RX0, "under", "(LRainWheel;III[J)I"⟩
def dkwX0_under_0 : List UInt8 := [25, 4, 3, 42, 27, 28, 29, 182, 0, 77, 133, 80, 167, 0, 7, 58, 5, 4, 172, 3, 172]
abbrev dktX0_under_0 : List UInt8 := dkwX0_under_0 ++ []
theorem dksX0_under_0 : cX0_under.data.toList.drop 0 = dktX0_under_0 := by decide +kernel
theorem dX0_under_0 : decode cX0_under 0 = .ok (.aload 4, 2) := dk_25 4 (dk_at dksX0_under_0 0 rfl rfl)
theorem dX0_under_2 : decode cX0_under 2 = .ok (.iconst 0, 1) := dk_3 (dk_at dksX0_under_0 2 rfl rfl)
theorem dX0_under_3 : decode cX0_under 3 = .ok (.aload_n 0, 1) := dk_42 (dk_at dksX0_under_0 3 rfl rfl)
theorem dX0_under_4 : decode cX0_under 4 = .ok (.iload_n 1, 1) := dk_27 (dk_at dksX0_under_0 4 rfl rfl)
theorem dX0_under_5 : decode cX0_under 5 = .ok (.iload_n 2, 1) := dk_28 (dk_at dksX0_under_0 5 rfl rfl)
theorem dX0_under_6 : decode cX0_under 6 = .ok (.iload_n 3, 1) := dk_29 (dk_at dksX0_under_0 6 rfl rfl)
theorem dX0_under_7 : decode cX0_under 7 = .ok (.invokevirtual 77, 3) := dk_182 0 77 (dk_at dksX0_under_0 7 rfl rfl)
theorem dX0_under_10 : decode cX0_under 10 = .ok (.i2l, 1) := dk_133 (dk_at dksX0_under_0 10 rfl rfl)
theorem dX0_under_11 : decode cX0_under 11 = .ok (.lastore, 1) := dk_80 (dk_at dksX0_under_0 11 rfl rfl)
theorem dX0_under_12 : decode cX0_under 12 = .ok (.goto 7, 3) := dk_167 0 7 (dk_at dksX0_under_0 12 rfl rfl)
theorem dX0_under_15 : decode cX0_under 15 = .ok (.astore 5, 2) := dk_58 5 (dk_at dksX0_under_0 15 rfl rfl)
theorem dX0_under_17 : decode cX0_under 17 = .ok (.iconst 1, 1) := dk_4 (dk_at dksX0_under_0 17 rfl rfl)
theorem dX0_under_18 : decode cX0_under 18 = .ok (.ireturn, 1) := dk_172 (dk_at dksX0_under_0 18 rfl rfl)
theorem dX0_under_19 : decode cX0_under 19 = .ok (.iconst 0, 1) := dk_3 (dk_at dksX0_under_0 19 rfl rfl)
theorem dX0_under_20 : decode cX0_under 20 = .ok (.ireturn, 1) := dk_172 (dk_at dksX0_under_0 20 rfl rfl)
abbrev cX0_push : ByteArray := method_23_code
def yX0_push : MethodName := ⟨RX0, "push", "(LRainWheel;IIII[J)I"⟩
def dkwX0_push_0 : List UInt8 := [25, 5, 3, 42, 27, 28, 29, 21, 4, 182, 0, 80, 133, 80, 167, 0, 7, 58, 6, 4, 172, 3, 172]
abbrev dktX0_push_0 : List UInt8 := dkwX0_push_0 ++ []
theorem dksX0_push_0 : cX0_push.data.toList.drop 0 = dktX0_push_0 := by decide +kernel
theorem dX0_push_0 : decode cX0_push 0 = .ok (.aload 5, 2) := dk_25 5 (dk_at dksX0_push_0 0 rfl rfl)
theorem dX0_push_2 : decode cX0_push 2 = .ok (.iconst 0, 1) := dk_3 (dk_at dksX0_push_0 2 rfl rfl)
theorem dX0_push_3 : decode cX0_push 3 = .ok (.aload_n 0, 1) := dk_42 (dk_at dksX0_push_0 3 rfl rfl)
theorem dX0_push_4 : decode cX0_push 4 = .ok (.iload_n 1, 1) := dk_27 (dk_at dksX0_push_0 4 rfl rfl)
theorem dX0_push_5 : decode cX0_push 5 = .ok (.iload_n 2, 1) := dk_28 (dk_at dksX0_push_0 5 rfl rfl)
theorem dX0_push_6 : decode cX0_push 6 = .ok (.iload_n 3, 1) := dk_29 (dk_at dksX0_push_0 6 rfl rfl)
theorem dX0_push_7 : decode cX0_push 7 = .ok (.iload 4, 2) := dk_21 4 (dk_at dksX0_push_0 7 rfl rfl)
theorem dX0_push_9 : decode cX0_push 9 = .ok (.invokevirtual 80, 3) := dk_182 0 80 (dk_at dksX0_push_0 9 rfl rfl)
theorem dX0_push_12 : decode cX0_push 12 = .ok (.i2l, 1) := dk_133 (dk_at dksX0_push_0 12 rfl rfl)
theorem dX0_push_13 : decode cX0_push 13 = .ok (.lastore, 1) := dk_80 (dk_at dksX0_push_0 13 rfl rfl)
theorem dX0_push_14 : decode cX0_push 14 = .ok (.goto 7, 3) := dk_167 0 7 (dk_at dksX0_push_0 14 rfl rfl)
theorem dX0_push_17 : decode cX0_push 17 = .ok (.astore 6, 2) := dk_58 6 (dk_at dksX0_push_0 17 rfl rfl)
theorem dX0_push_19 : decode cX0_push 19 = .ok (.iconst 1, 1) := dk_4 (dk_at dksX0_push_0 19 rfl rfl)
theorem dX0_push_20 : decode cX0_push 20 = .ok (.ireturn, 1) := dk_172 (dk_at dksX0_push_0 20 rfl rfl)
theorem dX0_push_21 : decode cX0_push 21 = .ok (.iconst 0, 1) := dk_3 (dk_at dksX0_push_0 21 rfl rfl)
theorem dX0_push_22 : decode cX0_push 22 = .ok (.ireturn, 1) := dk_172 (dk_at dksX0_push_0 22 rfl rfl)
abbrev cX0_tries : ByteArray := method_24_code
def yX0_tries : MethodName := ⟨RX0, "tries", "(LRainWheel;IIII[J)I"⟩
def dkwX0_tries_1 : List UInt8 := [3, 172]
abbrev dktX0_tries_1 : List UInt8 := dkwX0_tries_1 ++ []
def dkwX0_tries_0 : List UInt8 := [25, 5, 3, 42, 27, 28, 29, 21, 4, 182, 0, 84, 80, 167, 0, 11, 58, 6, 4, 172, 58, 6, 5, 172]
abbrev dktX0_tries_0 : List UInt8 := dkwX0_tries_0 ++ dktX0_tries_1
theorem dksX0_tries_0 : cX0_tries.data.toList.drop 0 = dktX0_tries_0 := by decide +kernel
theorem dksX0_tries_1 : cX0_tries.data.toList.drop 24 = dktX0_tries_1 := dk_seg dksX0_tries_0 24 rfl rfl
theorem dX0_tries_0 : decode cX0_tries 0 = .ok (.aload 5, 2) := dk_25 5 (dk_at dksX0_tries_0 0 rfl rfl)
theorem dX0_tries_2 : decode cX0_tries 2 = .ok (.iconst 0, 1) := dk_3 (dk_at dksX0_tries_0 2 rfl rfl)
theorem dX0_tries_3 : decode cX0_tries 3 = .ok (.aload_n 0, 1) := dk_42 (dk_at dksX0_tries_0 3 rfl rfl)
theorem dX0_tries_4 : decode cX0_tries 4 = .ok (.iload_n 1, 1) := dk_27 (dk_at dksX0_tries_0 4 rfl rfl)
theorem dX0_tries_5 : decode cX0_tries 5 = .ok (.iload_n 2, 1) := dk_28 (dk_at dksX0_tries_0 5 rfl rfl)
theorem dX0_tries_6 : decode cX0_tries 6 = .ok (.iload_n 3, 1) := dk_29 (dk_at dksX0_tries_0 6 rfl rfl)
theorem dX0_tries_7 : decode cX0_tries 7 = .ok (.iload 4, 2) := dk_21 4 (dk_at dksX0_tries_0 7 rfl rfl)
theorem dX0_tries_9 : decode cX0_tries 9 = .ok (.invokevirtual 84, 3) := dk_182 0 84 (dk_at dksX0_tries_0 9 rfl rfl)
theorem dX0_tries_12 : decode cX0_tries 12 = .ok (.lastore, 1) := dk_80 (dk_at dksX0_tries_0 12 rfl rfl)
theorem dX0_tries_13 : decode cX0_tries 13 = .ok (.goto 11, 3) := dk_167 0 11 (dk_at dksX0_tries_0 13 rfl rfl)
theorem dX0_tries_16 : decode cX0_tries 16 = .ok (.astore 6, 2) := dk_58 6 (dk_at dksX0_tries_0 16 rfl rfl)
theorem dX0_tries_18 : decode cX0_tries 18 = .ok (.iconst 1, 1) := dk_4 (dk_at dksX0_tries_0 18 rfl rfl)
theorem dX0_tries_19 : decode cX0_tries 19 = .ok (.ireturn, 1) := dk_172 (dk_at dksX0_tries_0 19 rfl rfl)
theorem dX0_tries_20 : decode cX0_tries 20 = .ok (.astore 6, 2) := dk_58 6 (dk_at dksX0_tries_0 20 rfl rfl)
theorem dX0_tries_22 : decode cX0_tries 22 = .ok (.iconst 2, 1) := dk_5 (dk_at dksX0_tries_0 22 rfl rfl)
theorem dX0_tries_23 : decode cX0_tries 23 = .ok (.ireturn, 1) := dk_172 (dk_at dksX0_tries_0 23 rfl rfl)
theorem dX0_tries_24 : decode cX0_tries 24 = .ok (.iconst 0, 1) := dk_3 (dk_at dksX0_tries_1 0 rfl rfl)
theorem dX0_tries_25 : decode cX0_tries 25 = .ok (.ireturn, 1) := dk_172 (dk_at dksX0_tries_1 1 rfl rfl)
abbrev cX0_half : ByteArray := method_25_code
def yX0_half : MethodName := ⟨RX0, "half", "(LRainWheel;II[J)I"⟩
def dkwX0_half_0 : List UInt8 := [45, 3, 42, 27, 28, 182, 0, 88, 133, 80, 167, 0, 11, 58, 4, 4, 172, 58, 4, 5, 172, 3, 172]
abbrev dktX0_half_0 : List UInt8 := dkwX0_half_0 ++ []
theorem dksX0_half_0 : cX0_half.data.toList.drop 0 = dktX0_half_0 := by decide +kernel
theorem dX0_half_0 : decode cX0_half 0 = .ok (.aload_n 3, 1) := dk_45 (dk_at dksX0_half_0 0 rfl rfl)
theorem dX0_half_1 : decode cX0_half 1 = .ok (.iconst 0, 1) := dk_3 (dk_at dksX0_half_0 1 rfl rfl)
theorem dX0_half_2 : decode cX0_half 2 = .ok (.aload_n 0, 1) := dk_42 (dk_at dksX0_half_0 2 rfl rfl)
theorem dX0_half_3 : decode cX0_half 3 = .ok (.iload_n 1, 1) := dk_27 (dk_at dksX0_half_0 3 rfl rfl)
theorem dX0_half_4 : decode cX0_half 4 = .ok (.iload_n 2, 1) := dk_28 (dk_at dksX0_half_0 4 rfl rfl)
theorem dX0_half_5 : decode cX0_half 5 = .ok (.invokevirtual 88, 3) := dk_182 0 88 (dk_at dksX0_half_0 5 rfl rfl)
theorem dX0_half_8 : decode cX0_half 8 = .ok (.i2l, 1) := dk_133 (dk_at dksX0_half_0 8 rfl rfl)
theorem dX0_half_9 : decode cX0_half 9 = .ok (.lastore, 1) := dk_80 (dk_at dksX0_half_0 9 rfl rfl)
theorem dX0_half_10 : decode cX0_half 10 = .ok (.goto 11, 3) := dk_167 0 11 (dk_at dksX0_half_0 10 rfl rfl)
theorem dX0_half_13 : decode cX0_half 13 = .ok (.astore 4, 2) := dk_58 4 (dk_at dksX0_half_0 13 rfl rfl)
theorem dX0_half_15 : decode cX0_half 15 = .ok (.iconst 1, 1) := dk_4 (dk_at dksX0_half_0 15 rfl rfl)
theorem dX0_half_16 : decode cX0_half 16 = .ok (.ireturn, 1) := dk_172 (dk_at dksX0_half_0 16 rfl rfl)
theorem dX0_half_17 : decode cX0_half 17 = .ok (.astore 4, 2) := dk_58 4 (dk_at dksX0_half_0 17 rfl rfl)
theorem dX0_half_19 : decode cX0_half 19 = .ok (.iconst 2, 1) := dk_5 (dk_at dksX0_half_0 19 rfl rfl)
theorem dX0_half_20 : decode cX0_half 20 = .ok (.ireturn, 1) := dk_172 (dk_at dksX0_half_0 20 rfl rfl)
theorem dX0_half_21 : decode cX0_half 21 = .ok (.iconst 0, 1) := dk_3 (dk_at dksX0_half_0 21 rfl rfl)
theorem dX0_half_22 : decode cX0_half 22 = .ok (.ireturn, 1) := dk_172 (dk_at dksX0_half_0 22 rfl rfl)
abbrev cX0_easiest : ByteArray := method_26_code
def yX0_easiest : MethodName := ⟨RX0, "easiest", "(LRainWheel;I[J)I"⟩
def dkwX0_easiest_0 : List UInt8 := [44, 3, 42, 27, 182, 0, 91, 133, 80, 167, 0, 6, 78, 4, 172, 3, 172]
abbrev dktX0_easiest_0 : List UInt8 := dkwX0_easiest_0 ++ []
theorem dksX0_easiest_0 : cX0_easiest.data.toList.drop 0 = dktX0_easiest_0 := by decide +kernel
theorem dX0_easiest_0 : decode cX0_easiest 0 = .ok (.aload_n 2, 1) := dk_44 (dk_at dksX0_easiest_0 0 rfl rfl)
theorem dX0_easiest_1 : decode cX0_easiest 1 = .ok (.iconst 0, 1) := dk_3 (dk_at dksX0_easiest_0 1 rfl rfl)
theorem dX0_easiest_2 : decode cX0_easiest 2 = .ok (.aload_n 0, 1) := dk_42 (dk_at dksX0_easiest_0 2 rfl rfl)
theorem dX0_easiest_3 : decode cX0_easiest 3 = .ok (.iload_n 1, 1) := dk_27 (dk_at dksX0_easiest_0 3 rfl rfl)
theorem dX0_easiest_4 : decode cX0_easiest 4 = .ok (.invokevirtual 91, 3) := dk_182 0 91 (dk_at dksX0_easiest_0 4 rfl rfl)
theorem dX0_easiest_7 : decode cX0_easiest 7 = .ok (.i2l, 1) := dk_133 (dk_at dksX0_easiest_0 7 rfl rfl)
theorem dX0_easiest_8 : decode cX0_easiest 8 = .ok (.lastore, 1) := dk_80 (dk_at dksX0_easiest_0 8 rfl rfl)
theorem dX0_easiest_9 : decode cX0_easiest 9 = .ok (.goto 6, 3) := dk_167 0 6 (dk_at dksX0_easiest_0 9 rfl rfl)
theorem dX0_easiest_12 : decode cX0_easiest 12 = .ok (.astore_n 3, 1) := dk_78 (dk_at dksX0_easiest_0 12 rfl rfl)
theorem dX0_easiest_13 : decode cX0_easiest 13 = .ok (.iconst 1, 1) := dk_4 (dk_at dksX0_easiest_0 13 rfl rfl)
theorem dX0_easiest_14 : decode cX0_easiest 14 = .ok (.ireturn, 1) := dk_172 (dk_at dksX0_easiest_0 14 rfl rfl)
theorem dX0_easiest_15 : decode cX0_easiest 15 = .ok (.iconst 0, 1) := dk_3 (dk_at dksX0_easiest_0 15 rfl rfl)
theorem dX0_easiest_16 : decode cX0_easiest 16 = .ok (.ireturn, 1) := dk_172 (dk_at dksX0_easiest_0 16 rfl rfl)
abbrev cX0_waits : ByteArray := method_27_code
def yX0_waits : MethodName := ⟨RX0, "waits", "(LRainWheel;IIII[J)I"⟩
def dkwX0_waits_0 : List UInt8 := [25, 5, 3, 42, 27, 28, 29, 21, 4, 182, 0, 94, 80, 167, 0, 7, 58, 6, 4, 172, 3, 172]
abbrev dktX0_waits_0 : List UInt8 := dkwX0_waits_0 ++ []
theorem dksX0_waits_0 : cX0_waits.data.toList.drop 0 = dktX0_waits_0 := by decide +kernel
theorem dX0_waits_0 : decode cX0_waits 0 = .ok (.aload 5, 2) := dk_25 5 (dk_at dksX0_waits_0 0 rfl rfl)
theorem dX0_waits_2 : decode cX0_waits 2 = .ok (.iconst 0, 1) := dk_3 (dk_at dksX0_waits_0 2 rfl rfl)
theorem dX0_waits_3 : decode cX0_waits 3 = .ok (.aload_n 0, 1) := dk_42 (dk_at dksX0_waits_0 3 rfl rfl)
theorem dX0_waits_4 : decode cX0_waits 4 = .ok (.iload_n 1, 1) := dk_27 (dk_at dksX0_waits_0 4 rfl rfl)
theorem dX0_waits_5 : decode cX0_waits 5 = .ok (.iload_n 2, 1) := dk_28 (dk_at dksX0_waits_0 5 rfl rfl)
theorem dX0_waits_6 : decode cX0_waits 6 = .ok (.iload_n 3, 1) := dk_29 (dk_at dksX0_waits_0 6 rfl rfl)
theorem dX0_waits_7 : decode cX0_waits 7 = .ok (.iload 4, 2) := dk_21 4 (dk_at dksX0_waits_0 7 rfl rfl)
theorem dX0_waits_9 : decode cX0_waits 9 = .ok (.invokevirtual 94, 3) := dk_182 0 94 (dk_at dksX0_waits_0 9 rfl rfl)
theorem dX0_waits_12 : decode cX0_waits 12 = .ok (.lastore, 1) := dk_80 (dk_at dksX0_waits_0 12 rfl rfl)
theorem dX0_waits_13 : decode cX0_waits 13 = .ok (.goto 7, 3) := dk_167 0 7 (dk_at dksX0_waits_0 13 rfl rfl)
theorem dX0_waits_16 : decode cX0_waits 16 = .ok (.astore 6, 2) := dk_58 6 (dk_at dksX0_waits_0 16 rfl rfl)
theorem dX0_waits_18 : decode cX0_waits 18 = .ok (.iconst 1, 1) := dk_4 (dk_at dksX0_waits_0 18 rfl rfl)
theorem dX0_waits_19 : decode cX0_waits 19 = .ok (.ireturn, 1) := dk_172 (dk_at dksX0_waits_0 19 rfl rfl)
theorem dX0_waits_20 : decode cX0_waits 20 = .ok (.iconst 0, 1) := dk_3 (dk_at dksX0_waits_0 20 rfl rfl)
theorem dX0_waits_21 : decode cX0_waits 21 = .ok (.ireturn, 1) := dk_172 (dk_at dksX0_waits_0 21 rfl rfl)
abbrev cX0_await : ByteArray := method_28_code
def yX0_await : MethodName := ⟨RX0, "await", "(LRainWheel;II[J)I"⟩
def dkwX0_await_0 : List UInt8 := [45, 3, 42, 27, 28, 182, 0, 97, 133, 80, 167, 0, 7, 58, 4, 4, 172, 3, 172]
abbrev dktX0_await_0 : List UInt8 := dkwX0_await_0 ++ []
theorem dksX0_await_0 : cX0_await.data.toList.drop 0 = dktX0_await_0 := by decide +kernel
theorem dX0_await_0 : decode cX0_await 0 = .ok (.aload_n 3, 1) := dk_45 (dk_at dksX0_await_0 0 rfl rfl)
theorem dX0_await_1 : decode cX0_await 1 = .ok (.iconst 0, 1) := dk_3 (dk_at dksX0_await_0 1 rfl rfl)
theorem dX0_await_2 : decode cX0_await 2 = .ok (.aload_n 0, 1) := dk_42 (dk_at dksX0_await_0 2 rfl rfl)
theorem dX0_await_3 : decode cX0_await 3 = .ok (.iload_n 1, 1) := dk_27 (dk_at dksX0_await_0 3 rfl rfl)
theorem dX0_await_4 : decode cX0_await 4 = .ok (.iload_n 2, 1) := dk_28 (dk_at dksX0_await_0 4 rfl rfl)
theorem dX0_await_5 : decode cX0_await 5 = .ok (.invokevirtual 97, 3) := dk_182 0 97 (dk_at dksX0_await_0 5 rfl rfl)
theorem dX0_await_8 : decode cX0_await 8 = .ok (.i2l, 1) := dk_133 (dk_at dksX0_await_0 8 rfl rfl)
theorem dX0_await_9 : decode cX0_await 9 = .ok (.lastore, 1) := dk_80 (dk_at dksX0_await_0 9 rfl rfl)
theorem dX0_await_10 : decode cX0_await 10 = .ok (.goto 7, 3) := dk_167 0 7 (dk_at dksX0_await_0 10 rfl rfl)
theorem dX0_await_13 : decode cX0_await 13 = .ok (.astore 4, 2) := dk_58 4 (dk_at dksX0_await_0 13 rfl rfl)
theorem dX0_await_15 : decode cX0_await 15 = .ok (.iconst 1, 1) := dk_4 (dk_at dksX0_await_0 15 rfl rfl)
theorem dX0_await_16 : decode cX0_await 16 = .ok (.ireturn, 1) := dk_172 (dk_at dksX0_await_0 16 rfl rfl)
theorem dX0_await_17 : decode cX0_await 17 = .ok (.iconst 0, 1) := dk_3 (dk_at dksX0_await_0 17 rfl rfl)
theorem dX0_await_18 : decode cX0_await 18 = .ok (.ireturn, 1) := dk_172 (dk_at dksX0_await_0 18 rfl rfl)
abbrev cX0_cross : ByteArray := method_29_code
def yX0_cross : MethodName := ⟨RX0, "cross", "(LRainWheel;II[J)I"⟩
def dkwX0_cross_0 : List UInt8 := [45, 3, 42, 27, 28, 182, 0, 100, 133, 80, 167, 0, 7, 58, 4, 4, 172, 3, 172]
abbrev dktX0_cross_0 : List UInt8 := dkwX0_cross_0 ++ []
theorem dksX0_cross_0 : cX0_cross.data.toList.drop 0 = dktX0_cross_0 := by decide +kernel
theorem dX0_cross_0 : decode cX0_cross 0 = .ok (.aload_n 3, 1) := dk_45 (dk_at dksX0_cross_0 0 rfl rfl)
theorem dX0_cross_1 : decode cX0_cross 1 = .ok (.iconst 0, 1) := dk_3 (dk_at dksX0_cross_0 1 rfl rfl)
theorem dX0_cross_2 : decode cX0_cross 2 = .ok (.aload_n 0, 1) := dk_42 (dk_at dksX0_cross_0 2 rfl rfl)
theorem dX0_cross_3 : decode cX0_cross 3 = .ok (.iload_n 1, 1) := dk_27 (dk_at dksX0_cross_0 3 rfl rfl)
theorem dX0_cross_4 : decode cX0_cross 4 = .ok (.iload_n 2, 1) := dk_28 (dk_at dksX0_cross_0 4 rfl rfl)
theorem dX0_cross_5 : decode cX0_cross 5 = .ok (.invokevirtual 100, 3) := dk_182 0 100 (dk_at dksX0_cross_0 5 rfl rfl)
theorem dX0_cross_8 : decode cX0_cross 8 = .ok (.i2l, 1) := dk_133 (dk_at dksX0_cross_0 8 rfl rfl)
theorem dX0_cross_9 : decode cX0_cross 9 = .ok (.lastore, 1) := dk_80 (dk_at dksX0_cross_0 9 rfl rfl)
theorem dX0_cross_10 : decode cX0_cross 10 = .ok (.goto 7, 3) := dk_167 0 7 (dk_at dksX0_cross_0 10 rfl rfl)
theorem dX0_cross_13 : decode cX0_cross 13 = .ok (.astore 4, 2) := dk_58 4 (dk_at dksX0_cross_0 13 rfl rfl)
theorem dX0_cross_15 : decode cX0_cross 15 = .ok (.iconst 1, 1) := dk_4 (dk_at dksX0_cross_0 15 rfl rfl)
theorem dX0_cross_16 : decode cX0_cross 16 = .ok (.ireturn, 1) := dk_172 (dk_at dksX0_cross_0 16 rfl rfl)
theorem dX0_cross_17 : decode cX0_cross 17 = .ok (.iconst 0, 1) := dk_3 (dk_at dksX0_cross_0 17 rfl rfl)
theorem dX0_cross_18 : decode cX0_cross 18 = .ok (.ireturn, 1) := dk_172 (dk_at dksX0_cross_0 18 rfl rfl)
abbrev cX0_crooked : ByteArray := method_30_code
def yX0_crooked : MethodName := ⟨RX0, "crooked", "(LRainWheel;I[J)I"⟩
def dkwX0_crooked_0 : List UInt8 := [44, 3, 42, 27, 182, 0, 103, 133, 80, 167, 0, 6, 78, 4, 172, 3, 172]
abbrev dktX0_crooked_0 : List UInt8 := dkwX0_crooked_0 ++ []
theorem dksX0_crooked_0 : cX0_crooked.data.toList.drop 0 = dktX0_crooked_0 := by decide +kernel
theorem dX0_crooked_0 : decode cX0_crooked 0 = .ok (.aload_n 2, 1) := dk_44 (dk_at dksX0_crooked_0 0 rfl rfl)
theorem dX0_crooked_1 : decode cX0_crooked 1 = .ok (.iconst 0, 1) := dk_3 (dk_at dksX0_crooked_0 1 rfl rfl)
theorem dX0_crooked_2 : decode cX0_crooked 2 = .ok (.aload_n 0, 1) := dk_42 (dk_at dksX0_crooked_0 2 rfl rfl)
theorem dX0_crooked_3 : decode cX0_crooked 3 = .ok (.iload_n 1, 1) := dk_27 (dk_at dksX0_crooked_0 3 rfl rfl)
theorem dX0_crooked_4 : decode cX0_crooked 4 = .ok (.invokevirtual 103, 3) := dk_182 0 103 (dk_at dksX0_crooked_0 4 rfl rfl)
theorem dX0_crooked_7 : decode cX0_crooked 7 = .ok (.i2l, 1) := dk_133 (dk_at dksX0_crooked_0 7 rfl rfl)
theorem dX0_crooked_8 : decode cX0_crooked 8 = .ok (.lastore, 1) := dk_80 (dk_at dksX0_crooked_0 8 rfl rfl)
theorem dX0_crooked_9 : decode cX0_crooked 9 = .ok (.goto 6, 3) := dk_167 0 6 (dk_at dksX0_crooked_0 9 rfl rfl)
theorem dX0_crooked_12 : decode cX0_crooked 12 = .ok (.astore_n 3, 1) := dk_78 (dk_at dksX0_crooked_0 12 rfl rfl)
theorem dX0_crooked_13 : decode cX0_crooked 13 = .ok (.iconst 1, 1) := dk_4 (dk_at dksX0_crooked_0 13 rfl rfl)
theorem dX0_crooked_14 : decode cX0_crooked 14 = .ok (.ireturn, 1) := dk_172 (dk_at dksX0_crooked_0 14 rfl rfl)
theorem dX0_crooked_15 : decode cX0_crooked 15 = .ok (.iconst 0, 1) := dk_3 (dk_at dksX0_crooked_0 15 rfl rfl)
theorem dX0_crooked_16 : decode cX0_crooked 16 = .ok (.ireturn, 1) := dk_172 (dk_at dksX0_crooked_0 16 rfl rfl)
abbrev cX0_share : ByteArray := method_31_code
def yX0_share : MethodName := ⟨RX0, "share", "(LRainWheel;I[J)I"⟩
def dkwX0_share_0 : List UInt8 := [44, 3, 42, 27, 182, 0, 106, 133, 80, 167, 0, 6, 78, 4, 172, 3, 172]
abbrev dktX0_share_0 : List UInt8 := dkwX0_share_0 ++ []
theorem dksX0_share_0 : cX0_share.data.toList.drop 0 = dktX0_share_0 := by decide +kernel
theorem dX0_share_0 : decode cX0_share 0 = .ok (.aload_n 2, 1) := dk_44 (dk_at dksX0_share_0 0 rfl rfl)
theorem dX0_share_1 : decode cX0_share 1 = .ok (.iconst 0, 1) := dk_3 (dk_at dksX0_share_0 1 rfl rfl)
theorem dX0_share_2 : decode cX0_share 2 = .ok (.aload_n 0, 1) := dk_42 (dk_at dksX0_share_0 2 rfl rfl)
theorem dX0_share_3 : decode cX0_share 3 = .ok (.iload_n 1, 1) := dk_27 (dk_at dksX0_share_0 3 rfl rfl)
theorem dX0_share_4 : decode cX0_share 4 = .ok (.invokevirtual 106, 3) := dk_182 0 106 (dk_at dksX0_share_0 4 rfl rfl)
theorem dX0_share_7 : decode cX0_share 7 = .ok (.i2l, 1) := dk_133 (dk_at dksX0_share_0 7 rfl rfl)
theorem dX0_share_8 : decode cX0_share 8 = .ok (.lastore, 1) := dk_80 (dk_at dksX0_share_0 8 rfl rfl)
theorem dX0_share_9 : decode cX0_share 9 = .ok (.goto 6, 3) := dk_167 0 6 (dk_at dksX0_share_0 9 rfl rfl)
theorem dX0_share_12 : decode cX0_share 12 = .ok (.astore_n 3, 1) := dk_78 (dk_at dksX0_share_0 12 rfl rfl)
theorem dX0_share_13 : decode cX0_share 13 = .ok (.iconst 1, 1) := dk_4 (dk_at dksX0_share_0 13 rfl rfl)
theorem dX0_share_14 : decode cX0_share 14 = .ok (.ireturn, 1) := dk_172 (dk_at dksX0_share_0 14 rfl rfl)
theorem dX0_share_15 : decode cX0_share 15 = .ok (.iconst 0, 1) := dk_3 (dk_at dksX0_share_0 15 rfl rfl)
theorem dX0_share_16 : decode cX0_share 16 = .ok (.ireturn, 1) := dk_172 (dk_at dksX0_share_0 16 rfl rfl)
abbrev cX0_drive : ByteArray := method_32_code
def yX0_drive : MethodName := ⟨RX0, "drive", "(LRainWheel;I[J)I"⟩
def dkwX0_drive_0 : List UInt8 := [44, 3, 42, 27, 182, 0, 109, 133, 80, 167, 0, 6, 78, 4, 172, 3, 172]
abbrev dktX0_drive_0 : List UInt8 := dkwX0_drive_0 ++ []
theorem dksX0_drive_0 : cX0_drive.data.toList.drop 0 = dktX0_drive_0 := by decide +kernel
theorem dX0_drive_0 : decode cX0_drive 0 = .ok (.aload_n 2, 1) := dk_44 (dk_at dksX0_drive_0 0 rfl rfl)
theorem dX0_drive_1 : decode cX0_drive 1 = .ok (.iconst 0, 1) := dk_3 (dk_at dksX0_drive_0 1 rfl rfl)
theorem dX0_drive_2 : decode cX0_drive 2 = .ok (.aload_n 0, 1) := dk_42 (dk_at dksX0_drive_0 2 rfl rfl)
theorem dX0_drive_3 : decode cX0_drive 3 = .ok (.iload_n 1, 1) := dk_27 (dk_at dksX0_drive_0 3 rfl rfl)
theorem dX0_drive_4 : decode cX0_drive 4 = .ok (.invokevirtual 109, 3) := dk_182 0 109 (dk_at dksX0_drive_0 4 rfl rfl)
theorem dX0_drive_7 : decode cX0_drive 7 = .ok (.i2l, 1) := dk_133 (dk_at dksX0_drive_0 7 rfl rfl)
theorem dX0_drive_8 : decode cX0_drive 8 = .ok (.lastore, 1) := dk_80 (dk_at dksX0_drive_0 8 rfl rfl)
theorem dX0_drive_9 : decode cX0_drive 9 = .ok (.goto 6, 3) := dk_167 0 6 (dk_at dksX0_drive_0 9 rfl rfl)
theorem dX0_drive_12 : decode cX0_drive 12 = .ok (.astore_n 3, 1) := dk_78 (dk_at dksX0_drive_0 12 rfl rfl)
theorem dX0_drive_13 : decode cX0_drive 13 = .ok (.iconst 1, 1) := dk_4 (dk_at dksX0_drive_0 13 rfl rfl)
theorem dX0_drive_14 : decode cX0_drive 14 = .ok (.ireturn, 1) := dk_172 (dk_at dksX0_drive_0 14 rfl rfl)
theorem dX0_drive_15 : decode cX0_drive 15 = .ok (.iconst 0, 1) := dk_3 (dk_at dksX0_drive_0 15 rfl rfl)
theorem dX0_drive_16 : decode cX0_drive 16 = .ok (.ireturn, 1) := dk_172 (dk_at dksX0_drive_0 16 rfl rfl)
abbrev cX0_pumps : ByteArray := method_33_code
def yX0_pumps : MethodName := ⟨RX0, "pumps", "(LRainWheel;I[J)I"⟩
def dkwX0_pumps_0 : List UInt8 := [44, 3, 42, 27, 182, 0, 112, 133, 80, 167, 0, 6, 78, 4, 172, 3, 172]
abbrev dktX0_pumps_0 : List UInt8 := dkwX0_pumps_0 ++ []
theorem dksX0_pumps_0 : cX0_pumps.data.toList.drop 0 = dktX0_pumps_0 := by decide +kernel
theorem dX0_pumps_0 : decode cX0_pumps 0 = .ok (.aload_n 2, 1) := dk_44 (dk_at dksX0_pumps_0 0 rfl rfl)
theorem dX0_pumps_1 : decode cX0_pumps 1 = .ok (.iconst 0, 1) := dk_3 (dk_at dksX0_pumps_0 1 rfl rfl)
theorem dX0_pumps_2 : decode cX0_pumps 2 = .ok (.aload_n 0, 1) := dk_42 (dk_at dksX0_pumps_0 2 rfl rfl)
theorem dX0_pumps_3 : decode cX0_pumps 3 = .ok (.iload_n 1, 1) := dk_27 (dk_at dksX0_pumps_0 3 rfl rfl)
theorem dX0_pumps_4 : decode cX0_pumps 4 = .ok (.invokevirtual 112, 3) := dk_182 0 112 (dk_at dksX0_pumps_0 4 rfl rfl)
theorem dX0_pumps_7 : decode cX0_pumps 7 = .ok (.i2l, 1) := dk_133 (dk_at dksX0_pumps_0 7 rfl rfl)
theorem dX0_pumps_8 : decode cX0_pumps 8 = .ok (.lastore, 1) := dk_80 (dk_at dksX0_pumps_0 8 rfl rfl)
theorem dX0_pumps_9 : decode cX0_pumps 9 = .ok (.goto 6, 3) := dk_167 0 6 (dk_at dksX0_pumps_0 9 rfl rfl)
theorem dX0_pumps_12 : decode cX0_pumps 12 = .ok (.astore_n 3, 1) := dk_78 (dk_at dksX0_pumps_0 12 rfl rfl)
theorem dX0_pumps_13 : decode cX0_pumps 13 = .ok (.iconst 1, 1) := dk_4 (dk_at dksX0_pumps_0 13 rfl rfl)
theorem dX0_pumps_14 : decode cX0_pumps 14 = .ok (.ireturn, 1) := dk_172 (dk_at dksX0_pumps_0 14 rfl rfl)
theorem dX0_pumps_15 : decode cX0_pumps 15 = .ok (.iconst 0, 1) := dk_3 (dk_at dksX0_pumps_0 15 rfl rfl)
theorem dX0_pumps_16 : decode cX0_pumps 16 = .ok (.ireturn, 1) := dk_172 (dk_at dksX0_pumps_0 16 rfl rfl)
abbrev cX0_odds : ByteArray := method_34_code
def yX0_odds : MethodName := ⟨RX0, "odds", "(LRainWheel;II[J)I"⟩
def dkwX0_odds_0 : List UInt8 := [45, 3, 42, 27, 28, 182, 0, 115, 80, 167, 0, 11, 58, 4, 4, 172, 58, 4, 5, 172, 3, 172]
abbrev dktX0_odds_0 : List UInt8 := dkwX0_odds_0 ++ []
theorem dksX0_odds_0 : cX0_odds.data.toList.drop 0 = dktX0_odds_0 := by decide +kernel
theorem dX0_odds_0 : decode cX0_odds 0 = .ok (.aload_n 3, 1) := dk_45 (dk_at dksX0_odds_0 0 rfl rfl)
theorem dX0_odds_1 : decode cX0_odds 1 = .ok (.iconst 0, 1) := dk_3 (dk_at dksX0_odds_0 1 rfl rfl)
theorem dX0_odds_2 : decode cX0_odds 2 = .ok (.aload_n 0, 1) := dk_42 (dk_at dksX0_odds_0 2 rfl rfl)
theorem dX0_odds_3 : decode cX0_odds 3 = .ok (.iload_n 1, 1) := dk_27 (dk_at dksX0_odds_0 3 rfl rfl)
theorem dX0_odds_4 : decode cX0_odds 4 = .ok (.iload_n 2, 1) := dk_28 (dk_at dksX0_odds_0 4 rfl rfl)
theorem dX0_odds_5 : decode cX0_odds 5 = .ok (.invokevirtual 115, 3) := dk_182 0 115 (dk_at dksX0_odds_0 5 rfl rfl)
theorem dX0_odds_8 : decode cX0_odds 8 = .ok (.lastore, 1) := dk_80 (dk_at dksX0_odds_0 8 rfl rfl)
theorem dX0_odds_9 : decode cX0_odds 9 = .ok (.goto 11, 3) := dk_167 0 11 (dk_at dksX0_odds_0 9 rfl rfl)
theorem dX0_odds_12 : decode cX0_odds 12 = .ok (.astore 4, 2) := dk_58 4 (dk_at dksX0_odds_0 12 rfl rfl)
theorem dX0_odds_14 : decode cX0_odds 14 = .ok (.iconst 1, 1) := dk_4 (dk_at dksX0_odds_0 14 rfl rfl)
theorem dX0_odds_15 : decode cX0_odds 15 = .ok (.ireturn, 1) := dk_172 (dk_at dksX0_odds_0 15 rfl rfl)
theorem dX0_odds_16 : decode cX0_odds 16 = .ok (.astore 4, 2) := dk_58 4 (dk_at dksX0_odds_0 16 rfl rfl)
theorem dX0_odds_18 : decode cX0_odds 18 = .ok (.iconst 2, 1) := dk_5 (dk_at dksX0_odds_0 18 rfl rfl)
theorem dX0_odds_19 : decode cX0_odds 19 = .ok (.ireturn, 1) := dk_172 (dk_at dksX0_odds_0 19 rfl rfl)
theorem dX0_odds_20 : decode cX0_odds 20 = .ok (.iconst 0, 1) := dk_3 (dk_at dksX0_odds_0 20 rfl rfl)
theorem dX0_odds_21 : decode cX0_odds 21 = .ok (.ireturn, 1) := dk_172 (dk_at dksX0_odds_0 21 rfl rfl)
abbrev cX0_evening : ByteArray := method_35_code
def yX0_evening : MethodName := ⟨RX0, "evening", "(LRainWheel;II[J)I"⟩
def dkwX0_evening_0 : List UInt8 := [45, 3, 42, 27, 28, 182, 0, 119, 133, 80, 167, 0, 7, 58, 4, 4, 172, 3, 172]
abbrev dktX0_evening_0 : List UInt8 := dkwX0_evening_0 ++ []
theorem dksX0_evening_0 : cX0_evening.data.toList.drop 0 = dktX0_evening_0 := by decide +kernel
theorem dX0_evening_0 : decode cX0_evening 0 = .ok (.aload_n 3, 1) := dk_45 (dk_at dksX0_evening_0 0 rfl rfl)
theorem dX0_evening_1 : decode cX0_evening 1 = .ok (.iconst 0, 1) := dk_3 (dk_at dksX0_evening_0 1 rfl rfl)
theorem dX0_evening_2 : decode cX0_evening 2 = .ok (.aload_n 0, 1) := dk_42 (dk_at dksX0_evening_0 2 rfl rfl)
theorem dX0_evening_3 : decode cX0_evening 3 = .ok (.iload_n 1, 1) := dk_27 (dk_at dksX0_evening_0 3 rfl rfl)
theorem dX0_evening_4 : decode cX0_evening 4 = .ok (.iload_n 2, 1) := dk_28 (dk_at dksX0_evening_0 4 rfl rfl)
theorem dX0_evening_5 : decode cX0_evening 5 = .ok (.invokevirtual 119, 3) := dk_182 0 119 (dk_at dksX0_evening_0 5 rfl rfl)
theorem dX0_evening_8 : decode cX0_evening 8 = .ok (.i2l, 1) := dk_133 (dk_at dksX0_evening_0 8 rfl rfl)
theorem dX0_evening_9 : decode cX0_evening 9 = .ok (.lastore, 1) := dk_80 (dk_at dksX0_evening_0 9 rfl rfl)
theorem dX0_evening_10 : decode cX0_evening 10 = .ok (.goto 7, 3) := dk_167 0 7 (dk_at dksX0_evening_0 10 rfl rfl)
theorem dX0_evening_13 : decode cX0_evening 13 = .ok (.astore 4, 2) := dk_58 4 (dk_at dksX0_evening_0 13 rfl rfl)
theorem dX0_evening_15 : decode cX0_evening 15 = .ok (.iconst 1, 1) := dk_4 (dk_at dksX0_evening_0 15 rfl rfl)
theorem dX0_evening_16 : decode cX0_evening 16 = .ok (.ireturn, 1) := dk_172 (dk_at dksX0_evening_0 16 rfl rfl)
theorem dX0_evening_17 : decode cX0_evening 17 = .ok (.iconst 0, 1) := dk_3 (dk_at dksX0_evening_0 17 rfl rfl)
theorem dX0_evening_18 : decode cX0_evening 18 = .ok (.ireturn, 1) := dk_172 (dk_at dksX0_evening_0 18 rfl rfl)
abbrev cX0_evenings : ByteArray := method_36_code
def yX0_evenings : MethodName := ⟨RX0, "evenings", "(LRainWheel;III[J)I"⟩
def dkwX0_evenings_0 : List UInt8 := [25, 4, 3, 42, 27, 28, 29, 182, 0, 122, 133, 80, 167, 0, 7, 58, 5, 4, 172, 3, 172]
abbrev dktX0_evenings_0 : List UInt8 := dkwX0_evenings_0 ++ []
theorem dksX0_evenings_0 : cX0_evenings.data.toList.drop 0 = dktX0_evenings_0 := by decide +kernel
theorem dX0_evenings_0 : decode cX0_evenings 0 = .ok (.aload 4, 2) := dk_25 4 (dk_at dksX0_evenings_0 0 rfl rfl)
theorem dX0_evenings_2 : decode cX0_evenings 2 = .ok (.iconst 0, 1) := dk_3 (dk_at dksX0_evenings_0 2 rfl rfl)
theorem dX0_evenings_3 : decode cX0_evenings 3 = .ok (.aload_n 0, 1) := dk_42 (dk_at dksX0_evenings_0 3 rfl rfl)
theorem dX0_evenings_4 : decode cX0_evenings 4 = .ok (.iload_n 1, 1) := dk_27 (dk_at dksX0_evenings_0 4 rfl rfl)
theorem dX0_evenings_5 : decode cX0_evenings 5 = .ok (.iload_n 2, 1) := dk_28 (dk_at dksX0_evenings_0 5 rfl rfl)
theorem dX0_evenings_6 : decode cX0_evenings 6 = .ok (.iload_n 3, 1) := dk_29 (dk_at dksX0_evenings_0 6 rfl rfl)
theorem dX0_evenings_7 : decode cX0_evenings 7 = .ok (.invokevirtual 122, 3) := dk_182 0 122 (dk_at dksX0_evenings_0 7 rfl rfl)
theorem dX0_evenings_10 : decode cX0_evenings 10 = .ok (.i2l, 1) := dk_133 (dk_at dksX0_evenings_0 10 rfl rfl)
theorem dX0_evenings_11 : decode cX0_evenings 11 = .ok (.lastore, 1) := dk_80 (dk_at dksX0_evenings_0 11 rfl rfl)
theorem dX0_evenings_12 : decode cX0_evenings 12 = .ok (.goto 7, 3) := dk_167 0 7 (dk_at dksX0_evenings_0 12 rfl rfl)
theorem dX0_evenings_15 : decode cX0_evenings 15 = .ok (.astore 5, 2) := dk_58 5 (dk_at dksX0_evenings_0 15 rfl rfl)
theorem dX0_evenings_17 : decode cX0_evenings 17 = .ok (.iconst 1, 1) := dk_4 (dk_at dksX0_evenings_0 17 rfl rfl)
theorem dX0_evenings_18 : decode cX0_evenings 18 = .ok (.ireturn, 1) := dk_172 (dk_at dksX0_evenings_0 18 rfl rfl)
theorem dX0_evenings_19 : decode cX0_evenings 19 = .ok (.iconst 0, 1) := dk_3 (dk_at dksX0_evenings_0 19 rfl rfl)
theorem dX0_evenings_20 : decode cX0_evenings 20 = .ok (.ireturn, 1) := dk_172 (dk_at dksX0_evenings_0 20 rfl rfl)
abbrev cX0_swap : ByteArray := method_37_code
def yX0_swap : MethodName := ⟨RX0, "swap", "(LRainWheel;II[J)I"⟩
def dkwX0_swap_0 : List UInt8 := [45, 3, 42, 27, 28, 182, 0, 125, 133, 80, 167, 0, 7, 58, 4, 4, 172, 3, 172]
abbrev dktX0_swap_0 : List UInt8 := dkwX0_swap_0 ++ []
theorem dksX0_swap_0 : cX0_swap.data.toList.drop 0 = dktX0_swap_0 := by decide +kernel
theorem dX0_swap_0 : decode cX0_swap 0 = .ok (.aload_n 3, 1) := dk_45 (dk_at dksX0_swap_0 0 rfl rfl)
theorem dX0_swap_1 : decode cX0_swap 1 = .ok (.iconst 0, 1) := dk_3 (dk_at dksX0_swap_0 1 rfl rfl)
theorem dX0_swap_2 : decode cX0_swap 2 = .ok (.aload_n 0, 1) := dk_42 (dk_at dksX0_swap_0 2 rfl rfl)
theorem dX0_swap_3 : decode cX0_swap 3 = .ok (.iload_n 1, 1) := dk_27 (dk_at dksX0_swap_0 3 rfl rfl)
theorem dX0_swap_4 : decode cX0_swap 4 = .ok (.iload_n 2, 1) := dk_28 (dk_at dksX0_swap_0 4 rfl rfl)
theorem dX0_swap_5 : decode cX0_swap 5 = .ok (.invokevirtual 125, 3) := dk_182 0 125 (dk_at dksX0_swap_0 5 rfl rfl)
theorem dX0_swap_8 : decode cX0_swap 8 = .ok (.i2l, 1) := dk_133 (dk_at dksX0_swap_0 8 rfl rfl)
theorem dX0_swap_9 : decode cX0_swap 9 = .ok (.lastore, 1) := dk_80 (dk_at dksX0_swap_0 9 rfl rfl)
theorem dX0_swap_10 : decode cX0_swap 10 = .ok (.goto 7, 3) := dk_167 0 7 (dk_at dksX0_swap_0 10 rfl rfl)
theorem dX0_swap_13 : decode cX0_swap 13 = .ok (.astore 4, 2) := dk_58 4 (dk_at dksX0_swap_0 13 rfl rfl)
theorem dX0_swap_15 : decode cX0_swap 15 = .ok (.iconst 1, 1) := dk_4 (dk_at dksX0_swap_0 15 rfl rfl)
theorem dX0_swap_16 : decode cX0_swap 16 = .ok (.ireturn, 1) := dk_172 (dk_at dksX0_swap_0 16 rfl rfl)
theorem dX0_swap_17 : decode cX0_swap 17 = .ok (.iconst 0, 1) := dk_3 (dk_at dksX0_swap_0 17 rfl rfl)
theorem dX0_swap_18 : decode cX0_swap 18 = .ok (.ireturn, 1) := dk_172 (dk_at dksX0_swap_0 18 rfl rfl)
abbrev cX0_hand : ByteArray := method_38_code
def yX0_hand : MethodName := ⟨RX0, "hand", "(LRainWheel;II[J)I"⟩
def dkwX0_hand_0 : List UInt8 := [45, 3, 42, 27, 28, 182, 0, 128, 133, 80, 167, 0, 11, 58, 4, 4, 172, 58, 4, 5, 172, 3, 172]
abbrev dktX0_hand_0 : List UInt8 := dkwX0_hand_0 ++ []
theorem dksX0_hand_0 : cX0_hand.data.toList.drop 0 = dktX0_hand_0 := by decide +kernel
theorem dX0_hand_0 : decode cX0_hand 0 = .ok (.aload_n 3, 1) := dk_45 (dk_at dksX0_hand_0 0 rfl rfl)
theorem dX0_hand_1 : decode cX0_hand 1 = .ok (.iconst 0, 1) := dk_3 (dk_at dksX0_hand_0 1 rfl rfl)
theorem dX0_hand_2 : decode cX0_hand 2 = .ok (.aload_n 0, 1) := dk_42 (dk_at dksX0_hand_0 2 rfl rfl)
theorem dX0_hand_3 : decode cX0_hand 3 = .ok (.iload_n 1, 1) := dk_27 (dk_at dksX0_hand_0 3 rfl rfl)
theorem dX0_hand_4 : decode cX0_hand 4 = .ok (.iload_n 2, 1) := dk_28 (dk_at dksX0_hand_0 4 rfl rfl)
theorem dX0_hand_5 : decode cX0_hand 5 = .ok (.invokevirtual 128, 3) := dk_182 0 128 (dk_at dksX0_hand_0 5 rfl rfl)
theorem dX0_hand_8 : decode cX0_hand 8 = .ok (.i2l, 1) := dk_133 (dk_at dksX0_hand_0 8 rfl rfl)
theorem dX0_hand_9 : decode cX0_hand 9 = .ok (.lastore, 1) := dk_80 (dk_at dksX0_hand_0 9 rfl rfl)
theorem dX0_hand_10 : decode cX0_hand 10 = .ok (.goto 11, 3) := dk_167 0 11 (dk_at dksX0_hand_0 10 rfl rfl)
theorem dX0_hand_13 : decode cX0_hand 13 = .ok (.astore 4, 2) := dk_58 4 (dk_at dksX0_hand_0 13 rfl rfl)
theorem dX0_hand_15 : decode cX0_hand 15 = .ok (.iconst 1, 1) := dk_4 (dk_at dksX0_hand_0 15 rfl rfl)
theorem dX0_hand_16 : decode cX0_hand 16 = .ok (.ireturn, 1) := dk_172 (dk_at dksX0_hand_0 16 rfl rfl)
theorem dX0_hand_17 : decode cX0_hand 17 = .ok (.astore 4, 2) := dk_58 4 (dk_at dksX0_hand_0 17 rfl rfl)
theorem dX0_hand_19 : decode cX0_hand 19 = .ok (.iconst 2, 1) := dk_5 (dk_at dksX0_hand_0 19 rfl rfl)
theorem dX0_hand_20 : decode cX0_hand 20 = .ok (.ireturn, 1) := dk_172 (dk_at dksX0_hand_0 20 rfl rfl)
theorem dX0_hand_21 : decode cX0_hand 21 = .ok (.iconst 0, 1) := dk_3 (dk_at dksX0_hand_0 21 rfl rfl)
theorem dX0_hand_22 : decode cX0_hand 22 = .ok (.ireturn, 1) := dk_172 (dk_at dksX0_hand_0 22 rfl rfl)
abbrev cX0_drop : ByteArray := method_39_code
def yX0_drop : MethodName := ⟨RX0, "drop", "(LRainWheel;I[J)I"⟩
def dkwX0_drop_0 : List UInt8 := [44, 3, 42, 27, 182, 0, 131, 133, 80, 167, 0, 6, 78, 4, 172, 3, 172]
abbrev dktX0_drop_0 : List UInt8 := dkwX0_drop_0 ++ []
theorem dksX0_drop_0 : cX0_drop.data.toList.drop 0 = dktX0_drop_0 := by decide +kernel
theorem dX0_drop_0 : decode cX0_drop 0 = .ok (.aload_n 2, 1) := dk_44 (dk_at dksX0_drop_0 0 rfl rfl)
theorem dX0_drop_1 : decode cX0_drop 1 = .ok (.iconst 0, 1) := dk_3 (dk_at dksX0_drop_0 1 rfl rfl)
theorem dX0_drop_2 : decode cX0_drop 2 = .ok (.aload_n 0, 1) := dk_42 (dk_at dksX0_drop_0 2 rfl rfl)
theorem dX0_drop_3 : decode cX0_drop 3 = .ok (.iload_n 1, 1) := dk_27 (dk_at dksX0_drop_0 3 rfl rfl)
theorem dX0_drop_4 : decode cX0_drop 4 = .ok (.invokevirtual 131, 3) := dk_182 0 131 (dk_at dksX0_drop_0 4 rfl rfl)
theorem dX0_drop_7 : decode cX0_drop 7 = .ok (.i2l, 1) := dk_133 (dk_at dksX0_drop_0 7 rfl rfl)
theorem dX0_drop_8 : decode cX0_drop 8 = .ok (.lastore, 1) := dk_80 (dk_at dksX0_drop_0 8 rfl rfl)
theorem dX0_drop_9 : decode cX0_drop 9 = .ok (.goto 6, 3) := dk_167 0 6 (dk_at dksX0_drop_0 9 rfl rfl)
theorem dX0_drop_12 : decode cX0_drop 12 = .ok (.astore_n 3, 1) := dk_78 (dk_at dksX0_drop_0 12 rfl rfl)
theorem dX0_drop_13 : decode cX0_drop 13 = .ok (.iconst 1, 1) := dk_4 (dk_at dksX0_drop_0 13 rfl rfl)
theorem dX0_drop_14 : decode cX0_drop 14 = .ok (.ireturn, 1) := dk_172 (dk_at dksX0_drop_0 14 rfl rfl)
theorem dX0_drop_15 : decode cX0_drop 15 = .ok (.iconst 0, 1) := dk_3 (dk_at dksX0_drop_0 15 rfl rfl)
theorem dX0_drop_16 : decode cX0_drop 16 = .ok (.ireturn, 1) := dk_172 (dk_at dksX0_drop_0 16 rfl rfl)

