/-! SkipSchoolLaw -/
set_option maxRecDepth 100000
def RX0 : String := "SkipSchoolLaw"
abbrev cX0_stone : ByteArray := method_3_code
def yX0_stone : MethodName := ⟨RX0, "stone", "(LSkipSchool;II[J)I"⟩
def dkwX0_stone_0 : List UInt8 := [45, 3, 42, 27, 28, 182, 0, 7, 133, 80, 167, 0, 11, 58, 4, 4, 172, 58, 4, 5, 172, 3, 172]
abbrev dktX0_stone_0 : List UInt8 := dkwX0_stone_0 ++ []
theorem dksX0_stone_0 : cX0_stone.data.toList.drop 0 = dktX0_stone_0 := by decide +kernel
theorem dX0_stone_0 : decode cX0_stone 0 = .ok (.aload_n 3, 1) := dk_45 (dk_at dksX0_stone_0 0 rfl rfl)
theorem dX0_stone_1 : decode cX0_stone 1 = .ok (.iconst 0, 1) := dk_3 (dk_at dksX0_stone_0 1 rfl rfl)
theorem dX0_stone_2 : decode cX0_stone 2 = .ok (.aload_n 0, 1) := dk_42 (dk_at dksX0_stone_0 2 rfl rfl)
theorem dX0_stone_3 : decode cX0_stone 3 = .ok (.iload_n 1, 1) := dk_27 (dk_at dksX0_stone_0 3 rfl rfl)
theorem dX0_stone_4 : decode cX0_stone 4 = .ok (.iload_n 2, 1) := dk_28 (dk_at dksX0_stone_0 4 rfl rfl)
theorem dX0_stone_5 : decode cX0_stone 5 = .ok (.invokevirtual 7, 3) := dk_182 0 7 (dk_at dksX0_stone_0 5 rfl rfl)
theorem dX0_stone_8 : decode cX0_stone 8 = .ok (.i2l, 1) := dk_133 (dk_at dksX0_stone_0 8 rfl rfl)
theorem dX0_stone_9 : decode cX0_stone 9 = .ok (.lastore, 1) := dk_80 (dk_at dksX0_stone_0 9 rfl rfl)
theorem dX0_stone_10 : decode cX0_stone 10 = .ok (.goto 11, 3) := dk_167 0 11 (dk_at dksX0_stone_0 10 rfl rfl)
theorem dX0_stone_13 : decode cX0_stone 13 = .ok (.astore 4, 2) := dk_58 4 (dk_at dksX0_stone_0 13 rfl rfl)
theorem dX0_stone_15 : decode cX0_stone 15 = .ok (.iconst 1, 1) := dk_4 (dk_at dksX0_stone_0 15 rfl rfl)
theorem dX0_stone_16 : decode cX0_stone 16 = .ok (.ireturn, 1) := dk_172 (dk_at dksX0_stone_0 16 rfl rfl)
theorem dX0_stone_17 : decode cX0_stone 17 = .ok (.astore 4, 2) := dk_58 4 (dk_at dksX0_stone_0 17 rfl rfl)
theorem dX0_stone_19 : decode cX0_stone 19 = .ok (.iconst 2, 1) := dk_5 (dk_at dksX0_stone_0 19 rfl rfl)
theorem dX0_stone_20 : decode cX0_stone 20 = .ok (.ireturn, 1) := dk_172 (dk_at dksX0_stone_0 20 rfl rfl)
theorem dX0_stone_21 : decode cX0_stone 21 = .ok (.iconst 0, 1) := dk_3 (dk_at dksX0_stone_0 21 rfl rfl)
theorem dX0_stone_22 : decode cX0_stone 22 = .ok (.ireturn, 1) := dk_172 (dk_at dksX0_stone_0 22 rfl rfl)
abbrev cX0_river : ByteArray := method_4_code
def yX0_river : MethodName := ⟨RX0, "river", "(LSkipSchool;II[J)I"⟩
def dkwX0_river_0 : List UInt8 := [45, 3, 42, 27, 28, 182, 0, 17, 133, 80, 167, 0, 11, 58, 4, 4, 172, 58, 4, 5, 172, 3, 172]
abbrev dktX0_river_0 : List UInt8 := dkwX0_river_0 ++ []
theorem dksX0_river_0 : cX0_river.data.toList.drop 0 = dktX0_river_0 := by decide +kernel
theorem dX0_river_0 : decode cX0_river 0 = .ok (.aload_n 3, 1) := dk_45 (dk_at dksX0_river_0 0 rfl rfl)
theorem dX0_river_1 : decode cX0_river 1 = .ok (.iconst 0, 1) := dk_3 (dk_at dksX0_river_0 1 rfl rfl)
theorem dX0_river_2 : decode cX0_river 2 = .ok (.aload_n 0, 1) := dk_42 (dk_at dksX0_river_0 2 rfl rfl)
theorem dX0_river_3 : decode cX0_river 3 = .ok (.iload_n 1, 1) := dk_27 (dk_at dksX0_river_0 3 rfl rfl)
theorem dX0_river_4 : decode cX0_river 4 = .ok (.iload_n 2, 1) := dk_28 (dk_at dksX0_river_0 4 rfl rfl)
theorem dX0_river_5 : decode cX0_river 5 = .ok (.invokevirtual 17, 3) := dk_182 0 17 (dk_at dksX0_river_0 5 rfl rfl)
theorem dX0_river_8 : decode cX0_river 8 = .ok (.i2l, 1) := dk_133 (dk_at dksX0_river_0 8 rfl rfl)
theorem dX0_river_9 : decode cX0_river 9 = .ok (.lastore, 1) := dk_80 (dk_at dksX0_river_0 9 rfl rfl)
theorem dX0_river_10 : decode cX0_river 10 = .ok (.goto 11, 3) := dk_167 0 11 (dk_at dksX0_river_0 10 rfl rfl)
theorem dX0_river_13 : decode cX0_river 13 = .ok (.astore 4, 2) := dk_58 4 (dk_at dksX0_river_0 13 rfl rfl)
theorem dX0_river_15 : decode cX0_river 15 = .ok (.iconst 1, 1) := dk_4 (dk_at dksX0_river_0 15 rfl rfl)
theorem dX0_river_16 : decode cX0_river 16 = .ok (.ireturn, 1) := dk_172 (dk_at dksX0_river_0 16 rfl rfl)
theorem dX0_river_17 : decode cX0_river 17 = .ok (.astore 4, 2) := dk_58 4 (dk_at dksX0_river_0 17 rfl rfl)
theorem dX0_river_19 : decode cX0_river 19 = .ok (.iconst 2, 1) := dk_5 (dk_at dksX0_river_0 19 rfl rfl)
theorem dX0_river_20 : decode cX0_river 20 = .ok (.ireturn, 1) := dk_172 (dk_at dksX0_river_0 20 rfl rfl)
theorem dX0_river_21 : decode cX0_river 21 = .ok (.iconst 0, 1) := dk_3 (dk_at dksX0_river_0 21 rfl rfl)
theorem dX0_river_22 : decode cX0_river 22 = .ok (.ireturn, 1) := dk_172 (dk_at dksX0_river_0 22 rfl rfl)
abbrev cX0_calm : ByteArray := method_5_code
def yX0_calm : MethodName := ⟨RX0, "calm", "(LSkipSchool;II[J)I"⟩
def dkwX0_calm_1 : List UInt8 := [172, 3, 172]
abbrev dktX0_calm_1 : List UInt8 := dkwX0_calm_1 ++ []
def dkwX0_calm_0 : List UInt8 := [45, 3, 42, 27, 28, 182, 0, 20, 133, 80, 167, 0, 15, 58, 4, 4, 172, 58, 4, 5, 172, 58, 4, 6]
abbrev dktX0_calm_0 : List UInt8 := dkwX0_calm_0 ++ dktX0_calm_1
theorem dksX0_calm_0 : cX0_calm.data.toList.drop 0 = dktX0_calm_0 := by decide +kernel
theorem dksX0_calm_1 : cX0_calm.data.toList.drop 24 = dktX0_calm_1 := dk_seg dksX0_calm_0 24 rfl rfl
theorem dX0_calm_0 : decode cX0_calm 0 = .ok (.aload_n 3, 1) := dk_45 (dk_at dksX0_calm_0 0 rfl rfl)
theorem dX0_calm_1 : decode cX0_calm 1 = .ok (.iconst 0, 1) := dk_3 (dk_at dksX0_calm_0 1 rfl rfl)
theorem dX0_calm_2 : decode cX0_calm 2 = .ok (.aload_n 0, 1) := dk_42 (dk_at dksX0_calm_0 2 rfl rfl)
theorem dX0_calm_3 : decode cX0_calm 3 = .ok (.iload_n 1, 1) := dk_27 (dk_at dksX0_calm_0 3 rfl rfl)
theorem dX0_calm_4 : decode cX0_calm 4 = .ok (.iload_n 2, 1) := dk_28 (dk_at dksX0_calm_0 4 rfl rfl)
theorem dX0_calm_5 : decode cX0_calm 5 = .ok (.invokevirtual 20, 3) := dk_182 0 20 (dk_at dksX0_calm_0 5 rfl rfl)
theorem dX0_calm_8 : decode cX0_calm 8 = .ok (.i2l, 1) := dk_133 (dk_at dksX0_calm_0 8 rfl rfl)
theorem dX0_calm_9 : decode cX0_calm 9 = .ok (.lastore, 1) := dk_80 (dk_at dksX0_calm_0 9 rfl rfl)
theorem dX0_calm_10 : decode cX0_calm 10 = .ok (.goto 15, 3) := dk_167 0 15 (dk_at dksX0_calm_0 10 rfl rfl)
theorem dX0_calm_13 : decode cX0_calm 13 = .ok (.astore 4, 2) := dk_58 4 (dk_at dksX0_calm_0 13 rfl rfl)
theorem dX0_calm_15 : decode cX0_calm 15 = .ok (.iconst 1, 1) := dk_4 (dk_at dksX0_calm_0 15 rfl rfl)
theorem dX0_calm_16 : decode cX0_calm 16 = .ok (.ireturn, 1) := dk_172 (dk_at dksX0_calm_0 16 rfl rfl)
theorem dX0_calm_17 : decode cX0_calm 17 = .ok (.astore 4, 2) := dk_58 4 (dk_at dksX0_calm_0 17 rfl rfl)
theorem dX0_calm_19 : decode cX0_calm 19 = .ok (.iconst 2, 1) := dk_5 (dk_at dksX0_calm_0 19 rfl rfl)
theorem dX0_calm_20 : decode cX0_calm 20 = .ok (.ireturn, 1) := dk_172 (dk_at dksX0_calm_0 20 rfl rfl)
theorem dX0_calm_21 : decode cX0_calm 21 = .ok (.astore 4, 2) := dk_58 4 (dk_at dksX0_calm_0 21 rfl rfl)
theorem dX0_calm_23 : decode cX0_calm 23 = .ok (.iconst 3, 1) := dk_6 (dk_at dksX0_calm_0 23 rfl rfl)
theorem dX0_calm_24 : decode cX0_calm 24 = .ok (.ireturn, 1) := dk_172 (dk_at dksX0_calm_1 0 rfl rfl)
theorem dX0_calm_25 : decode cX0_calm 25 = .ok (.iconst 0, 1) := dk_3 (dk_at dksX0_calm_1 1 rfl rfl)
theorem dX0_calm_26 : decode cX0_calm 26 = .ok (.ireturn, 1) := dk_172 (dk_at dksX0_calm_1 2 rfl rfl)
abbrev cX0_stoneOf : ByteArray := method_6_code
def yX0_stoneOf : MethodName := ⟨RX0, "stoneOf", "(LSkipSchool;II[J)I"⟩
def dkwX0_stoneOf_0 : List UInt8 := [45, 3, 42, 27, 28, 182, 0, 25, 133, 80, 167, 0, 11, 58, 4, 4, 172, 58, 4, 5, 172, 3, 172]
abbrev dktX0_stoneOf_0 : List UInt8 := dkwX0_stoneOf_0 ++ []
theorem dksX0_stoneOf_0 : cX0_stoneOf.data.toList.drop 0 = dktX0_stoneOf_0 := by decide +kernel
theorem dX0_stoneOf_0 : decode cX0_stoneOf 0 = .ok (.aload_n 3, 1) := dk_45 (dk_at dksX0_stoneOf_0 0 rfl rfl)
theorem dX0_stoneOf_1 : decode cX0_stoneOf 1 = .ok (.iconst 0, 1) := dk_3 (dk_at dksX0_stoneOf_0 1 rfl rfl)
theorem dX0_stoneOf_2 : decode cX0_stoneOf 2 = .ok (.aload_n 0, 1) := dk_42 (dk_at dksX0_stoneOf_0 2 rfl rfl)
theorem dX0_stoneOf_3 : decode cX0_stoneOf 3 = .ok (.iload_n 1, 1) := dk_27 (dk_at dksX0_stoneOf_0 3 rfl rfl)
theorem dX0_stoneOf_4 : decode cX0_stoneOf 4 = .ok (.iload_n 2, 1) := dk_28 (dk_at dksX0_stoneOf_0 4 rfl rfl)
theorem dX0_stoneOf_5 : decode cX0_stoneOf 5 = .ok (.invokevirtual 25, 3) := dk_182 0 25 (dk_at dksX0_stoneOf_0 5 rfl rfl)
theorem dX0_stoneOf_8 : decode cX0_stoneOf 8 = .ok (.i2l, 1) := dk_133 (dk_at dksX0_stoneOf_0 8 rfl rfl)
theorem dX0_stoneOf_9 : decode cX0_stoneOf 9 = .ok (.lastore, 1) := dk_80 (dk_at dksX0_stoneOf_0 9 rfl rfl)
theorem dX0_stoneOf_10 : decode cX0_stoneOf 10 = .ok (.goto 11, 3) := dk_167 0 11 (dk_at dksX0_stoneOf_0 10 rfl rfl)
theorem dX0_stoneOf_13 : decode cX0_stoneOf 13 = .ok (.astore 4, 2) := dk_58 4 (dk_at dksX0_stoneOf_0 13 rfl rfl)
theorem dX0_stoneOf_15 : decode cX0_stoneOf 15 = .ok (.iconst 1, 1) := dk_4 (dk_at dksX0_stoneOf_0 15 rfl rfl)
theorem dX0_stoneOf_16 : decode cX0_stoneOf 16 = .ok (.ireturn, 1) := dk_172 (dk_at dksX0_stoneOf_0 16 rfl rfl)
theorem dX0_stoneOf_17 : decode cX0_stoneOf 17 = .ok (.astore 4, 2) := dk_58 4 (dk_at dksX0_stoneOf_0 17 rfl rfl)
theorem dX0_stoneOf_19 : decode cX0_stoneOf 19 = .ok (.iconst 2, 1) := dk_5 (dk_at dksX0_stoneOf_0 19 rfl rfl)
theorem dX0_stoneOf_20 : decode cX0_stoneOf 20 = .ok (.ireturn, 1) := dk_172 (dk_at dksX0_stoneOf_0 20 rfl rfl)
theorem dX0_stoneOf_21 : decode cX0_stoneOf 21 = .ok (.iconst 0, 1) := dk_3 (dk_at dksX0_stoneOf_0 21 rfl rfl)
theorem dX0_stoneOf_22 : decode cX0_stoneOf 22 = .ok (.ireturn, 1) := dk_172 (dk_at dksX0_stoneOf_0 22 rfl rfl)
abbrev cX0_grade : ByteArray := method_7_code
def yX0_grade : MethodName := ⟨RX0, "grade", "(LSkipSchool;I[J)I"⟩
def dkwX0_grade_0 : List UInt8 := [44, 3, 42, 27, 182, 0, 28, 133, 80, 167, 0, 6, 78, 4, 172, 3, 172]
abbrev dktX0_grade_0 : List UInt8 := dkwX0_grade_0 ++ []
theorem dksX0_grade_0 : cX0_grade.data.toList.drop 0 = dktX0_grade_0 := by decide +kernel
theorem dX0_grade_0 : decode cX0_grade 0 = .ok (.aload_n 2, 1) := dk_44 (dk_at dksX0_grade_0 0 rfl rfl)
theorem dX0_grade_1 : decode cX0_grade 1 = .ok (.iconst 0, 1) := dk_3 (dk_at dksX0_grade_0 1 rfl rfl)
theorem dX0_grade_2 : decode cX0_grade 2 = .ok (.aload_n 0, 1) := dk_42 (dk_at dksX0_grade_0 2 rfl rfl)
theorem dX0_grade_3 : decode cX0_grade 3 = .ok (.iload_n 1, 1) := dk_27 (dk_at dksX0_grade_0 3 rfl rfl)
theorem dX0_grade_4 : decode cX0_grade 4 = .ok (.invokevirtual 28, 3) := dk_182 0 28 (dk_at dksX0_grade_0 4 rfl rfl)
theorem dX0_grade_7 : decode cX0_grade 7 = .ok (.i2l, 1) := dk_133 (dk_at dksX0_grade_0 7 rfl rfl)
theorem dX0_grade_8 : decode cX0_grade 8 = .ok (.lastore, 1) := dk_80 (dk_at dksX0_grade_0 8 rfl rfl)
theorem dX0_grade_9 : decode cX0_grade 9 = .ok (.goto 6, 3) := dk_167 0 6 (dk_at dksX0_grade_0 9 rfl rfl)
theorem dX0_grade_12 : decode cX0_grade 12 = .ok (.astore_n 3, 1) := dk_78 (dk_at dksX0_grade_0 12 rfl rfl)
theorem dX0_grade_13 : decode cX0_grade 13 = .ok (.iconst 1, 1) := dk_4 (dk_at dksX0_grade_0 13 rfl rfl)
theorem dX0_grade_14 : decode cX0_grade 14 = .ok (.ireturn, 1) := dk_172 (dk_at dksX0_grade_0 14 rfl rfl)
theorem dX0_grade_15 : decode cX0_grade 15 = .ok (.iconst 0, 1) := dk_3 (dk_at dksX0_grade_0 15 rfl rfl)
theorem dX0_grade_16 : decode cX0_grade 16 = .ok (.ireturn, 1) := dk_172 (dk_at dksX0_grade_0 16 rfl rfl)
abbrev cX0_riverOf : ByteArray := method_8_code
def yX0_riverOf : MethodName := ⟨RX0, "riverOf", "(LSkipSchool;II[J)I"⟩
def dkwX0_riverOf_0 : List UInt8 := [45, 3, 42, 27, 28, 182, 0, 32, 133, 80, 167, 0, 11, 58, 4, 4, 172, 58, 4, 5, 172, 3, 172]
abbrev dktX0_riverOf_0 : List UInt8 := dkwX0_riverOf_0 ++ []
theorem dksX0_riverOf_0 : cX0_riverOf.data.toList.drop 0 = dktX0_riverOf_0 := by decide +kernel
theorem dX0_riverOf_0 : decode cX0_riverOf 0 = .ok (.aload_n 3, 1) := dk_45 (dk_at dksX0_riverOf_0 0 rfl rfl)
theorem dX0_riverOf_1 : decode cX0_riverOf 1 = .ok (.iconst 0, 1) := dk_3 (dk_at dksX0_riverOf_0 1 rfl rfl)
theorem dX0_riverOf_2 : decode cX0_riverOf 2 = .ok (.aload_n 0, 1) := dk_42 (dk_at dksX0_riverOf_0 2 rfl rfl)
theorem dX0_riverOf_3 : decode cX0_riverOf 3 = .ok (.iload_n 1, 1) := dk_27 (dk_at dksX0_riverOf_0 3 rfl rfl)
theorem dX0_riverOf_4 : decode cX0_riverOf 4 = .ok (.iload_n 2, 1) := dk_28 (dk_at dksX0_riverOf_0 4 rfl rfl)
theorem dX0_riverOf_5 : decode cX0_riverOf 5 = .ok (.invokevirtual 32, 3) := dk_182 0 32 (dk_at dksX0_riverOf_0 5 rfl rfl)
theorem dX0_riverOf_8 : decode cX0_riverOf 8 = .ok (.i2l, 1) := dk_133 (dk_at dksX0_riverOf_0 8 rfl rfl)
theorem dX0_riverOf_9 : decode cX0_riverOf 9 = .ok (.lastore, 1) := dk_80 (dk_at dksX0_riverOf_0 9 rfl rfl)
theorem dX0_riverOf_10 : decode cX0_riverOf 10 = .ok (.goto 11, 3) := dk_167 0 11 (dk_at dksX0_riverOf_0 10 rfl rfl)
theorem dX0_riverOf_13 : decode cX0_riverOf 13 = .ok (.astore 4, 2) := dk_58 4 (dk_at dksX0_riverOf_0 13 rfl rfl)
theorem dX0_riverOf_15 : decode cX0_riverOf 15 = .ok (.iconst 1, 1) := dk_4 (dk_at dksX0_riverOf_0 15 rfl rfl)
theorem dX0_riverOf_16 : decode cX0_riverOf 16 = .ok (.ireturn, 1) := dk_172 (dk_at dksX0_riverOf_0 16 rfl rfl)
theorem dX0_riverOf_17 : decode cX0_riverOf 17 = .ok (.astore 4, 2) := dk_58 4 (dk_at dksX0_riverOf_0 17 rfl rfl)
theorem dX0_riverOf_19 : decode cX0_riverOf 19 = .ok (.iconst 2, 1) := dk_5 (dk_at dksX0_riverOf_0 19 rfl rfl)
theorem dX0_riverOf_20 : decode cX0_riverOf 20 = .ok (.ireturn, 1) := dk_172 (dk_at dksX0_riverOf_0 20 rfl rfl)
theorem dX0_riverOf_21 : decode cX0_riverOf 21 = .ok (.iconst 0, 1) := dk_3 (dk_at dksX0_riverOf_0 21 rfl rfl)
theorem dX0_riverOf_22 : decode cX0_riverOf 22 = .ok (.ireturn, 1) := dk_172 (dk_at dksX0_riverOf_0 22 rfl rfl)
abbrev cX0_book : ByteArray := method_9_code
def yX0_book : MethodName := ⟨RX0, "book", "(LSkipSchool;III[J)I"⟩
def dkwX0_book_1 : List UInt8 := [58, 5, 6, 172, 3, 172]
abbrev dktX0_book_1 : List UInt8 := dkwX0_book_1 ++ []
def dkwX0_book_0 : List UInt8 := [25, 4, 3, 42, 27, 28, 29, 182, 0, 35, 133, 80, 167, 0, 15, 58, 5, 4, 172, 58, 5, 5, 172]
abbrev dktX0_book_0 : List UInt8 := dkwX0_book_0 ++ dktX0_book_1
theorem dksX0_book_0 : cX0_book.data.toList.drop 0 = dktX0_book_0 := by decide +kernel
theorem dksX0_book_1 : cX0_book.data.toList.drop 23 = dktX0_book_1 := dk_seg dksX0_book_0 23 rfl rfl
theorem dX0_book_0 : decode cX0_book 0 = .ok (.aload 4, 2) := dk_25 4 (dk_at dksX0_book_0 0 rfl rfl)
theorem dX0_book_2 : decode cX0_book 2 = .ok (.iconst 0, 1) := dk_3 (dk_at dksX0_book_0 2 rfl rfl)
theorem dX0_book_3 : decode cX0_book 3 = .ok (.aload_n 0, 1) := dk_42 (dk_at dksX0_book_0 3 rfl rfl)
theorem dX0_book_4 : decode cX0_book 4 = .ok (.iload_n 1, 1) := dk_27 (dk_at dksX0_book_0 4 rfl rfl)
theorem dX0_book_5 : decode cX0_book 5 = .ok (.iload_n 2, 1) := dk_28 (dk_at dksX0_book_0 5 rfl rfl)
theorem dX0_book_6 : decode cX0_book 6 = .ok (.iload_n 3, 1) := dk_29 (dk_at dksX0_book_0 6 rfl rfl)
theorem dX0_book_7 : decode cX0_book 7 = .ok (.invokevirtual 35, 3) := dk_182 0 35 (dk_at dksX0_book_0 7 rfl rfl)
theorem dX0_book_10 : decode cX0_book 10 = .ok (.i2l, 1) := dk_133 (dk_at dksX0_book_0 10 rfl rfl)
theorem dX0_book_11 : decode cX0_book 11 = .ok (.lastore, 1) := dk_80 (dk_at dksX0_book_0 11 rfl rfl)
theorem dX0_book_12 : decode cX0_book 12 = .ok (.goto 15, 3) := dk_167 0 15 (dk_at dksX0_book_0 12 rfl rfl)
theorem dX0_book_15 : decode cX0_book 15 = .ok (.astore 5, 2) := dk_58 5 (dk_at dksX0_book_0 15 rfl rfl)
theorem dX0_book_17 : decode cX0_book 17 = .ok (.iconst 1, 1) := dk_4 (dk_at dksX0_book_0 17 rfl rfl)
theorem dX0_book_18 : decode cX0_book 18 = .ok (.ireturn, 1) := dk_172 (dk_at dksX0_book_0 18 rfl rfl)
theorem dX0_book_19 : decode cX0_book 19 = .ok (.astore 5, 2) := dk_58 5 (dk_at dksX0_book_0 19 rfl rfl)
theorem dX0_book_21 : decode cX0_book 21 = .ok (.iconst 2, 1) := dk_5 (dk_at dksX0_book_0 21 rfl rfl)
theorem dX0_book_22 : decode cX0_book 22 = .ok (.ireturn, 1) := dk_172 (dk_at dksX0_book_0 22 rfl rfl)
theorem dX0_book_23 : decode cX0_book 23 = .ok (.astore 5, 2) := dk_58 5 (dk_at dksX0_book_1 0 rfl rfl)
theorem dX0_book_25 : decode cX0_book 25 = .ok (.iconst 3, 1) := dk_6 (dk_at dksX0_book_1 2 rfl rfl)
theorem dX0_book_26 : decode cX0_book 26 = .ok (.ireturn, 1) := dk_172 (dk_at dksX0_book_1 3 rfl rfl)
theorem dX0_book_27 : decode cX0_book 27 = .ok (.iconst 0, 1) := dk_3 (dk_at dksX0_book_1 4 rfl rfl)
theorem dX0_book_28 : decode cX0_book 28 = .ok (.ireturn, 1) := dk_172 (dk_at dksX0_book_1 5 rfl rfl)
abbrev cX0_free : ByteArray := method_10_code
def yX0_free : MethodName := ⟨RX0, "free", "(LSkipSchool;II[J)I"⟩
def dkwX0_free_1 : List UInt8 := [172, 3, 172]
abbrev dktX0_free_1 : List UInt8 := dkwX0_free_1 ++ []
def dkwX0_free_0 : List UInt8 := [45, 3, 42, 27, 28, 182, 0, 39, 133, 80, 167, 0, 15, 58, 4, 4, 172, 58, 4, 5, 172, 58, 4, 6]
abbrev dktX0_free_0 : List UInt8 := dkwX0_free_0 ++ dktX0_free_1
theorem dksX0_free_0 : cX0_free.data.toList.drop 0 = dktX0_free_0 := by decide +kernel
theorem dksX0_free_1 : cX0_free.data.toList.drop 24 = dktX0_free_1 := dk_seg dksX0_free_0 24 rfl rfl
theorem dX0_free_0 : decode cX0_free 0 = .ok (.aload_n 3, 1) := dk_45 (dk_at dksX0_free_0 0 rfl rfl)
theorem dX0_free_1 : decode cX0_free 1 = .ok (.iconst 0, 1) := dk_3 (dk_at dksX0_free_0 1 rfl rfl)
theorem dX0_free_2 : decode cX0_free 2 = .ok (.aload_n 0, 1) := dk_42 (dk_at dksX0_free_0 2 rfl rfl)
theorem dX0_free_3 : decode cX0_free 3 = .ok (.iload_n 1, 1) := dk_27 (dk_at dksX0_free_0 3 rfl rfl)
theorem dX0_free_4 : decode cX0_free 4 = .ok (.iload_n 2, 1) := dk_28 (dk_at dksX0_free_0 4 rfl rfl)
theorem dX0_free_5 : decode cX0_free 5 = .ok (.invokevirtual 39, 3) := dk_182 0 39 (dk_at dksX0_free_0 5 rfl rfl)
theorem dX0_free_8 : decode cX0_free 8 = .ok (.i2l, 1) := dk_133 (dk_at dksX0_free_0 8 rfl rfl)
theorem dX0_free_9 : decode cX0_free 9 = .ok (.lastore, 1) := dk_80 (dk_at dksX0_free_0 9 rfl rfl)
theorem dX0_free_10 : decode cX0_free 10 = .ok (.goto 15, 3) := dk_167 0 15 (dk_at dksX0_free_0 10 rfl rfl)
theorem dX0_free_13 : decode cX0_free 13 = .ok (.astore 4, 2) := dk_58 4 (dk_at dksX0_free_0 13 rfl rfl)
theorem dX0_free_15 : decode cX0_free 15 = .ok (.iconst 1, 1) := dk_4 (dk_at dksX0_free_0 15 rfl rfl)
theorem dX0_free_16 : decode cX0_free 16 = .ok (.ireturn, 1) := dk_172 (dk_at dksX0_free_0 16 rfl rfl)
theorem dX0_free_17 : decode cX0_free 17 = .ok (.astore 4, 2) := dk_58 4 (dk_at dksX0_free_0 17 rfl rfl)
theorem dX0_free_19 : decode cX0_free 19 = .ok (.iconst 2, 1) := dk_5 (dk_at dksX0_free_0 19 rfl rfl)
theorem dX0_free_20 : decode cX0_free 20 = .ok (.ireturn, 1) := dk_172 (dk_at dksX0_free_0 20 rfl rfl)
theorem dX0_free_21 : decode cX0_free 21 = .ok (.astore 4, 2) := dk_58 4 (dk_at dksX0_free_0 21 rfl rfl)
theorem dX0_free_23 : decode cX0_free 23 = .ok (.iconst 3, 1) := dk_6 (dk_at dksX0_free_0 23 rfl rfl)
theorem dX0_free_24 : decode cX0_free 24 = .ok (.ireturn, 1) := dk_172 (dk_at dksX0_free_1 0 rfl rfl)
theorem dX0_free_25 : decode cX0_free 25 = .ok (.iconst 0, 1) := dk_3 (dk_at dksX0_free_1 1 rfl rfl)
theorem dX0_free_26 : decode cX0_free 26 = .ok (.ireturn, 1) := dk_172 (dk_at dksX0_free_1 2 rfl rfl)
abbrev cX0_booked : ByteArray := method_11_code
def yX0_booked : MethodName := ⟨RX0, "booked", "(LSkipSchool;II[J)I"⟩
def dkwX0_booked_0 : List UInt8 := [45, 3, 42, 27, 28, 182, 0, 42, 133, 80, 167, 0, 11, 58, 4, 4, 172, 58, 4, 5, 172, 3, 172]
abbrev dktX0_booked_0 : List UInt8 := dkwX0_booked_0 ++ []
theorem dksX0_booked_0 : cX0_booked.data.toList.drop 0 = dktX0_booked_0 := by decide +kernel
theorem dX0_booked_0 : decode cX0_booked 0 = .ok (.aload_n 3, 1) := dk_45 (dk_at dksX0_booked_0 0 rfl rfl)
theorem dX0_booked_1 : decode cX0_booked 1 = .ok (.iconst 0, 1) := dk_3 (dk_at dksX0_booked_0 1 rfl rfl)
theorem dX0_booked_2 : decode cX0_booked 2 = .ok (.aload_n 0, 1) := dk_42 (dk_at dksX0_booked_0 2 rfl rfl)
theorem dX0_booked_3 : decode cX0_booked 3 = .ok (.iload_n 1, 1) := dk_27 (dk_at dksX0_booked_0 3 rfl rfl)
theorem dX0_booked_4 : decode cX0_booked 4 = .ok (.iload_n 2, 1) := dk_28 (dk_at dksX0_booked_0 4 rfl rfl)
theorem dX0_booked_5 : decode cX0_booked 5 = .ok (.invokevirtual 42, 3) := dk_182 0 42 (dk_at dksX0_booked_0 5 rfl rfl)
theorem dX0_booked_8 : decode cX0_booked 8 = .ok (.i2l, 1) := dk_133 (dk_at dksX0_booked_0 8 rfl rfl)
theorem dX0_booked_9 : decode cX0_booked 9 = .ok (.lastore, 1) := dk_80 (dk_at dksX0_booked_0 9 rfl rfl)
theorem dX0_booked_10 : decode cX0_booked 10 = .ok (.goto 11, 3) := dk_167 0 11 (dk_at dksX0_booked_0 10 rfl rfl)
theorem dX0_booked_13 : decode cX0_booked 13 = .ok (.astore 4, 2) := dk_58 4 (dk_at dksX0_booked_0 13 rfl rfl)
theorem dX0_booked_15 : decode cX0_booked 15 = .ok (.iconst 1, 1) := dk_4 (dk_at dksX0_booked_0 15 rfl rfl)
theorem dX0_booked_16 : decode cX0_booked 16 = .ok (.ireturn, 1) := dk_172 (dk_at dksX0_booked_0 16 rfl rfl)
theorem dX0_booked_17 : decode cX0_booked 17 = .ok (.astore 4, 2) := dk_58 4 (dk_at dksX0_booked_0 17 rfl rfl)
theorem dX0_booked_19 : decode cX0_booked 19 = .ok (.iconst 2, 1) := dk_5 (dk_at dksX0_booked_0 19 rfl rfl)
theorem dX0_booked_20 : decode cX0_booked 20 = .ok (.ireturn, 1) := dk_172 (dk_at dksX0_booked_0 20 rfl rfl)
theorem dX0_booked_21 : decode cX0_booked 21 = .ok (.iconst 0, 1) := dk_3 (dk_at dksX0_booked_0 21 rfl rfl)
theorem dX0_booked_22 : decode cX0_booked 22 = .ok (.ireturn, 1) := dk_172 (dk_at dksX0_booked_0 22 rfl rfl)
abbrev cX0_nextFree : ByteArray := method_12_code
def yX0_nextFree : MethodName := ⟨RX0, "nextFree", "(LSkipSchool;II[J)I"⟩
def dkwX0_nextFree_1 : List UInt8 := [172, 3, 172]
abbrev dktX0_nextFree_1 : List UInt8 := dkwX0_nextFree_1 ++ []
def dkwX0_nextFree_0 : List UInt8 := [45, 3, 42, 27, 28, 182, 0, 45, 133, 80, 167, 0, 15, 58, 4, 4, 172, 58, 4, 5, 172, 58, 4, 6]
abbrev dktX0_nextFree_0 : List UInt8 := dkwX0_nextFree_0 ++ dktX0_nextFree_1
theorem dksX0_nextFree_0 : cX0_nextFree.data.toList.drop 0 = dktX0_nextFree_0 := by decide +kernel
theorem dksX0_nextFree_1 : cX0_nextFree.data.toList.drop 24 = dktX0_nextFree_1 := dk_seg dksX0_nextFree_0 24 rfl rfl
theorem dX0_nextFree_0 : decode cX0_nextFree 0 = .ok (.aload_n 3, 1) := dk_45 (dk_at dksX0_nextFree_0 0 rfl rfl)
theorem dX0_nextFree_1 : decode cX0_nextFree 1 = .ok (.iconst 0, 1) := dk_3 (dk_at dksX0_nextFree_0 1 rfl rfl)
theorem dX0_nextFree_2 : decode cX0_nextFree 2 = .ok (.aload_n 0, 1) := dk_42 (dk_at dksX0_nextFree_0 2 rfl rfl)
theorem dX0_nextFree_3 : decode cX0_nextFree 3 = .ok (.iload_n 1, 1) := dk_27 (dk_at dksX0_nextFree_0 3 rfl rfl)
theorem dX0_nextFree_4 : decode cX0_nextFree 4 = .ok (.iload_n 2, 1) := dk_28 (dk_at dksX0_nextFree_0 4 rfl rfl)
theorem dX0_nextFree_5 : decode cX0_nextFree 5 = .ok (.invokevirtual 45, 3) := dk_182 0 45 (dk_at dksX0_nextFree_0 5 rfl rfl)
theorem dX0_nextFree_8 : decode cX0_nextFree 8 = .ok (.i2l, 1) := dk_133 (dk_at dksX0_nextFree_0 8 rfl rfl)
theorem dX0_nextFree_9 : decode cX0_nextFree 9 = .ok (.lastore, 1) := dk_80 (dk_at dksX0_nextFree_0 9 rfl rfl)
theorem dX0_nextFree_10 : decode cX0_nextFree 10 = .ok (.goto 15, 3) := dk_167 0 15 (dk_at dksX0_nextFree_0 10 rfl rfl)
theorem dX0_nextFree_13 : decode cX0_nextFree 13 = .ok (.astore 4, 2) := dk_58 4 (dk_at dksX0_nextFree_0 13 rfl rfl)
theorem dX0_nextFree_15 : decode cX0_nextFree 15 = .ok (.iconst 1, 1) := dk_4 (dk_at dksX0_nextFree_0 15 rfl rfl)
theorem dX0_nextFree_16 : decode cX0_nextFree 16 = .ok (.ireturn, 1) := dk_172 (dk_at dksX0_nextFree_0 16 rfl rfl)
theorem dX0_nextFree_17 : decode cX0_nextFree 17 = .ok (.astore 4, 2) := dk_58 4 (dk_at dksX0_nextFree_0 17 rfl rfl)
theorem dX0_nextFree_19 : decode cX0_nextFree 19 = .ok (.iconst 2, 1) := dk_5 (dk_at dksX0_nextFree_0 19 rfl rfl)
theorem dX0_nextFree_20 : decode cX0_nextFree 20 = .ok (.ireturn, 1) := dk_172 (dk_at dksX0_nextFree_0 20 rfl rfl)
theorem dX0_nextFree_21 : decode cX0_nextFree 21 = .ok (.astore 4, 2) := dk_58 4 (dk_at dksX0_nextFree_0 21 rfl rfl)
theorem dX0_nextFree_23 : decode cX0_nextFree 23 = .ok (.iconst 3, 1) := dk_6 (dk_at dksX0_nextFree_0 23 rfl rfl)
theorem dX0_nextFree_24 : decode cX0_nextFree 24 = .ok (.ireturn, 1) := dk_172 (dk_at dksX0_nextFree_1 0 rfl rfl)
theorem dX0_nextFree_25 : decode cX0_nextFree 25 = .ok (.iconst 0, 1) := dk_3 (dk_at dksX0_nextFree_1 1 rfl rfl)
theorem dX0_nextFree_26 : decode cX0_nextFree 26 = .ok (.ireturn, 1) := dk_172 (dk_at dksX0_nextFree_1 2 rfl rfl)
abbrev cX0_teach : ByteArray := method_13_code
def yX0_teach : MethodName := ⟨RX0, "teach", "(LSkipSchool;I[J)I"⟩
def dkwX0_teach_0 : List UInt8 := [44, 3, 42, 27, 182, 0, 50, 133, 80, 167, 0, 9, 78, 4, 172, 78, 5, 172, 3, 172]
abbrev dktX0_teach_0 : List UInt8 := dkwX0_teach_0 ++ []
theorem dksX0_teach_0 : cX0_teach.data.toList.drop 0 = dktX0_teach_0 := by decide +kernel
theorem dX0_teach_0 : decode cX0_teach 0 = .ok (.aload_n 2, 1) := dk_44 (dk_at dksX0_teach_0 0 rfl rfl)
theorem dX0_teach_1 : decode cX0_teach 1 = .ok (.iconst 0, 1) := dk_3 (dk_at dksX0_teach_0 1 rfl rfl)
theorem dX0_teach_2 : decode cX0_teach 2 = .ok (.aload_n 0, 1) := dk_42 (dk_at dksX0_teach_0 2 rfl rfl)
theorem dX0_teach_3 : decode cX0_teach 3 = .ok (.iload_n 1, 1) := dk_27 (dk_at dksX0_teach_0 3 rfl rfl)
theorem dX0_teach_4 : decode cX0_teach 4 = .ok (.invokevirtual 50, 3) := dk_182 0 50 (dk_at dksX0_teach_0 4 rfl rfl)
theorem dX0_teach_7 : decode cX0_teach 7 = .ok (.i2l, 1) := dk_133 (dk_at dksX0_teach_0 7 rfl rfl)
theorem dX0_teach_8 : decode cX0_teach 8 = .ok (.lastore, 1) := dk_80 (dk_at dksX0_teach_0 8 rfl rfl)
theorem dX0_teach_9 : decode cX0_teach 9 = .ok (.goto 9, 3) := dk_167 0 9 (dk_at dksX0_teach_0 9 rfl rfl)
theorem dX0_teach_12 : decode cX0_teach 12 = .ok (.astore_n 3, 1) := dk_78 (dk_at dksX0_teach_0 12 rfl rfl)
theorem dX0_teach_13 : decode cX0_teach 13 = .ok (.iconst 1, 1) := dk_4 (dk_at dksX0_teach_0 13 rfl rfl)
theorem dX0_teach_14 : decode cX0_teach 14 = .ok (.ireturn, 1) := dk_172 (dk_at dksX0_teach_0 14 rfl rfl)
theorem dX0_teach_15 : decode cX0_teach 15 = .ok (.astore_n 3, 1) := dk_78 (dk_at dksX0_teach_0 15 rfl rfl)
theorem dX0_teach_16 : decode cX0_teach 16 = .ok (.iconst 2, 1) := dk_5 (dk_at dksX0_teach_0 16 rfl rfl)
theorem dX0_teach_17 : decode cX0_teach 17 = .ok (.ireturn, 1) := dk_172 (dk_at dksX0_teach_0 17 rfl rfl)
theorem dX0_teach_18 : decode cX0_teach 18 = .ok (.iconst 0, 1) := dk_3 (dk_at dksX0_teach_0 18 rfl rfl)
theorem dX0_teach_19 : decode cX0_teach 19 = .ok (.ireturn, 1) := dk_172 (dk_at dksX0_teach_0 19 rfl rfl)
abbrev cX0_trial : ByteArray := method_14_code
def yX0_trial : MethodName := ⟨RX0, "trial", "(LSkipSchool;IIII[J)I"⟩
def dkwX0_trial_1 : List UInt8 := [172, 58, 6, 6, 172, 3, 172]
abbrev dktX0_trial_1 : List UInt8 := dkwX0_trial_1 ++ []
def dkwX0_trial_0 : List UInt8 := [25, 5, 3, 42, 27, 28, 29, 21, 4, 182, 0, 54, 133, 80, 167, 0, 15, 58, 6, 4, 172, 58, 6, 5]
abbrev dktX0_trial_0 : List UInt8 := dkwX0_trial_0 ++ dktX0_trial_1
theorem dksX0_trial_0 : cX0_trial.data.toList.drop 0 = dktX0_trial_0 := by decide +kernel
theorem dksX0_trial_1 : cX0_trial.data.toList.drop 24 = dktX0_trial_1 := dk_seg dksX0_trial_0 24 rfl rfl
theorem dX0_trial_0 : decode cX0_trial 0 = .ok (.aload 5, 2) := dk_25 5 (dk_at dksX0_trial_0 0 rfl rfl)
theorem dX0_trial_2 : decode cX0_trial 2 = .ok (.iconst 0, 1) := dk_3 (dk_at dksX0_trial_0 2 rfl rfl)
theorem dX0_trial_3 : decode cX0_trial 3 = .ok (.aload_n 0, 1) := dk_42 (dk_at dksX0_trial_0 3 rfl rfl)
theorem dX0_trial_4 : decode cX0_trial 4 = .ok (.iload_n 1, 1) := dk_27 (dk_at dksX0_trial_0 4 rfl rfl)
theorem dX0_trial_5 : decode cX0_trial 5 = .ok (.iload_n 2, 1) := dk_28 (dk_at dksX0_trial_0 5 rfl rfl)
theorem dX0_trial_6 : decode cX0_trial 6 = .ok (.iload_n 3, 1) := dk_29 (dk_at dksX0_trial_0 6 rfl rfl)
theorem dX0_trial_7 : decode cX0_trial 7 = .ok (.iload 4, 2) := dk_21 4 (dk_at dksX0_trial_0 7 rfl rfl)
theorem dX0_trial_9 : decode cX0_trial 9 = .ok (.invokevirtual 54, 3) := dk_182 0 54 (dk_at dksX0_trial_0 9 rfl rfl)
theorem dX0_trial_12 : decode cX0_trial 12 = .ok (.i2l, 1) := dk_133 (dk_at dksX0_trial_0 12 rfl rfl)
theorem dX0_trial_13 : decode cX0_trial 13 = .ok (.lastore, 1) := dk_80 (dk_at dksX0_trial_0 13 rfl rfl)
theorem dX0_trial_14 : decode cX0_trial 14 = .ok (.goto 15, 3) := dk_167 0 15 (dk_at dksX0_trial_0 14 rfl rfl)
theorem dX0_trial_17 : decode cX0_trial 17 = .ok (.astore 6, 2) := dk_58 6 (dk_at dksX0_trial_0 17 rfl rfl)
theorem dX0_trial_19 : decode cX0_trial 19 = .ok (.iconst 1, 1) := dk_4 (dk_at dksX0_trial_0 19 rfl rfl)
theorem dX0_trial_20 : decode cX0_trial 20 = .ok (.ireturn, 1) := dk_172 (dk_at dksX0_trial_0 20 rfl rfl)
theorem dX0_trial_21 : decode cX0_trial 21 = .ok (.astore 6, 2) := dk_58 6 (dk_at dksX0_trial_0 21 rfl rfl)
theorem dX0_trial_23 : decode cX0_trial 23 = .ok (.iconst 2, 1) := dk_5 (dk_at dksX0_trial_0 23 rfl rfl)
theorem dX0_trial_24 : decode cX0_trial 24 = .ok (.ireturn, 1) := dk_172 (dk_at dksX0_trial_1 0 rfl rfl)
theorem dX0_trial_25 : decode cX0_trial 25 = .ok (.astore 6, 2) := dk_58 6 (dk_at dksX0_trial_1 1 rfl rfl)
theorem dX0_trial_27 : decode cX0_trial 27 = .ok (.iconst 3, 1) := dk_6 (dk_at dksX0_trial_1 3 rfl rfl)
theorem dX0_trial_28 : decode cX0_trial 28 = .ok (.ireturn, 1) := dk_172 (dk_at dksX0_trial_1 4 rfl rfl)
theorem dX0_trial_29 : decode cX0_trial 29 = .ok (.iconst 0, 1) := dk_3 (dk_at dksX0_trial_1 5 rfl rfl)
theorem dX0_trial_30 : decode cX0_trial 30 = .ok (.ireturn, 1) := dk_172 (dk_at dksX0_trial_1 6 rfl rfl)
abbrev cX0_skim : ByteArray := method_15_code
def yX0_skim : MethodName := ⟨RX0, "skim", "(LSkipSchool;IIII[J)I"⟩
def dkwX0_skim_1 : List UInt8 := [172, 58, 6, 6, 172, 3, 172]
abbrev dktX0_skim_1 : List UInt8 := dkwX0_skim_1 ++ []
def dkwX0_skim_0 : List UInt8 := [25, 5, 3, 42, 27, 28, 29, 21, 4, 182, 0, 58, 133, 80, 167, 0, 15, 58, 6, 4, 172, 58, 6, 5]
abbrev dktX0_skim_0 : List UInt8 := dkwX0_skim_0 ++ dktX0_skim_1
theorem dksX0_skim_0 : cX0_skim.data.toList.drop 0 = dktX0_skim_0 := by decide +kernel
theorem dksX0_skim_1 : cX0_skim.data.toList.drop 24 = dktX0_skim_1 := dk_seg dksX0_skim_0 24 rfl rfl
theorem dX0_skim_0 : decode cX0_skim 0 = .ok (.aload 5, 2) := dk_25 5 (dk_at dksX0_skim_0 0 rfl rfl)
theorem dX0_skim_2 : decode cX0_skim 2 = .ok (.iconst 0, 1) := dk_3 (dk_at dksX0_skim_0 2 rfl rfl)
theorem dX0_skim_3 : decode cX0_skim 3 = .ok (.aload_n 0, 1) := dk_42 (dk_at dksX0_skim_0 3 rfl rfl)
theorem dX0_skim_4 : decode cX0_skim 4 = .ok (.iload_n 1, 1) := dk_27 (dk_at dksX0_skim_0 4 rfl rfl)
theorem dX0_skim_5 : decode cX0_skim 5 = .ok (.iload_n 2, 1) := dk_28 (dk_at dksX0_skim_0 5 rfl rfl)
theorem dX0_skim_6 : decode cX0_skim 6 = .ok (.iload_n 3, 1) := dk_29 (dk_at dksX0_skim_0 6 rfl rfl)
theorem dX0_skim_7 : decode cX0_skim 7 = .ok (.iload 4, 2) := dk_21 4 (dk_at dksX0_skim_0 7 rfl rfl)
theorem dX0_skim_9 : decode cX0_skim 9 = .ok (.invokevirtual 58, 3) := dk_182 0 58 (dk_at dksX0_skim_0 9 rfl rfl)
theorem dX0_skim_12 : decode cX0_skim 12 = .ok (.i2l, 1) := dk_133 (dk_at dksX0_skim_0 12 rfl rfl)
theorem dX0_skim_13 : decode cX0_skim 13 = .ok (.lastore, 1) := dk_80 (dk_at dksX0_skim_0 13 rfl rfl)
theorem dX0_skim_14 : decode cX0_skim 14 = .ok (.goto 15, 3) := dk_167 0 15 (dk_at dksX0_skim_0 14 rfl rfl)
theorem dX0_skim_17 : decode cX0_skim 17 = .ok (.astore 6, 2) := dk_58 6 (dk_at dksX0_skim_0 17 rfl rfl)
theorem dX0_skim_19 : decode cX0_skim 19 = .ok (.iconst 1, 1) := dk_4 (dk_at dksX0_skim_0 19 rfl rfl)
theorem dX0_skim_20 : decode cX0_skim 20 = .ok (.ireturn, 1) := dk_172 (dk_at dksX0_skim_0 20 rfl rfl)
theorem dX0_skim_21 : decode cX0_skim 21 = .ok (.astore 6, 2) := dk_58 6 (dk_at dksX0_skim_0 21 rfl rfl)
theorem dX0_skim_23 : decode cX0_skim 23 = .ok (.iconst 2, 1) := dk_5 (dk_at dksX0_skim_0 23 rfl rfl)
theorem dX0_skim_24 : decode cX0_skim 24 = .ok (.ireturn, 1) := dk_172 (dk_at dksX0_skim_1 0 rfl rfl)
theorem dX0_skim_25 : decode cX0_skim 25 = .ok (.astore 6, 2) := dk_58 6 (dk_at dksX0_skim_1 1 rfl rfl)
theorem dX0_skim_27 : decode cX0_skim 27 = .ok (.iconst 3, 1) := dk_6 (dk_at dksX0_skim_1 3 rfl rfl)
theorem dX0_skim_28 : decode cX0_skim 28 = .ok (.ireturn, 1) := dk_172 (dk_at dksX0_skim_1 4 rfl rfl)
theorem dX0_skim_29 : decode cX0_skim 29 = .ok (.iconst 0, 1) := dk_3 (dk_at dksX0_skim_1 5 rfl rfl)
theorem dX0_skim_30 : decode cX0_skim 30 = .ok (.ireturn, 1) := dk_172 (dk_at dksX0_skim_1 6 rfl rfl)
abbrev cX0_fetch : ByteArray := method_16_code
def yX0_fetch : MethodName := ⟨RX0, "fetch", "(LSkipSchool;I[J)I"⟩
def dkwX0_fetch_0 : List UInt8 := [44, 3, 42, 27, 182, 0, 61, 133, 80, 167, 0, 9, 78, 4, 172, 78, 5, 172, 3, 172]
abbrev dktX0_fetch_0 : List UInt8 := dkwX0_fetch_0 ++ []
theorem dksX0_fetch_0 : cX0_fetch.data.toList.drop 0 = dktX0_fetch_0 := by decide +kernel
theorem dX0_fetch_0 : decode cX0_fetch 0 = .ok (.aload_n 2, 1) := dk_44 (dk_at dksX0_fetch_0 0 rfl rfl)
theorem dX0_fetch_1 : decode cX0_fetch 1 = .ok (.iconst 0, 1) := dk_3 (dk_at dksX0_fetch_0 1 rfl rfl)
theorem dX0_fetch_2 : decode cX0_fetch 2 = .ok (.aload_n 0, 1) := dk_42 (dk_at dksX0_fetch_0 2 rfl rfl)
theorem dX0_fetch_3 : decode cX0_fetch 3 = .ok (.iload_n 1, 1) := dk_27 (dk_at dksX0_fetch_0 3 rfl rfl)
theorem dX0_fetch_4 : decode cX0_fetch 4 = .ok (.invokevirtual 61, 3) := dk_182 0 61 (dk_at dksX0_fetch_0 4 rfl rfl)
theorem dX0_fetch_7 : decode cX0_fetch 7 = .ok (.i2l, 1) := dk_133 (dk_at dksX0_fetch_0 7 rfl rfl)
theorem dX0_fetch_8 : decode cX0_fetch 8 = .ok (.lastore, 1) := dk_80 (dk_at dksX0_fetch_0 8 rfl rfl)
theorem dX0_fetch_9 : decode cX0_fetch 9 = .ok (.goto 9, 3) := dk_167 0 9 (dk_at dksX0_fetch_0 9 rfl rfl)
theorem dX0_fetch_12 : decode cX0_fetch 12 = .ok (.astore_n 3, 1) := dk_78 (dk_at dksX0_fetch_0 12 rfl rfl)
theorem dX0_fetch_13 : decode cX0_fetch 13 = .ok (.iconst 1, 1) := dk_4 (dk_at dksX0_fetch_0 13 rfl rfl)
theorem dX0_fetch_14 : decode cX0_fetch 14 = .ok (.ireturn, 1) := dk_172 (dk_at dksX0_fetch_0 14 rfl rfl)
theorem dX0_fetch_15 : decode cX0_fetch 15 = .ok (.astore_n 3, 1) := dk_78 (dk_at dksX0_fetch_0 15 rfl rfl)
theorem dX0_fetch_16 : decode cX0_fetch 16 = .ok (.iconst 2, 1) := dk_5 (dk_at dksX0_fetch_0 16 rfl rfl)
theorem dX0_fetch_17 : decode cX0_fetch 17 = .ok (.ireturn, 1) := dk_172 (dk_at dksX0_fetch_0 17 rfl rfl)
theorem dX0_fetch_18 : decode cX0_fetch 18 = .ok (.iconst 0, 1) := dk_3 (dk_at dksX0_fetch_0 18 rfl rfl)
theorem dX0_fetch_19 : decode cX0_fetch 19 = .ok (.ireturn, 1) := dk_172 (dk_at dksX0_fetch_0 19 rfl rfl)
abbrev cX0_skips : ByteArray := method_17_code
def yX0_skips : MethodName := ⟨RX0, "skips", "(LSkipSchool;IIIIZ[J)I"⟩
def dkwX0_skips_1 : List UInt8 := [58, 7, 5, 172, 3, 172]
abbrev dktX0_skips_1 : List UInt8 := dkwX0_skips_1 ++ []
def dkwX0_skips_0 : List UInt8 := [25, 6, 3, 42, 27, 28, 29, 21, 4, 21, 5, 182, 0, 64, 133, 80, 167, 0, 11, 58, 7, 4, 172]
abbrev dktX0_skips_0 : List UInt8 := dkwX0_skips_0 ++ dktX0_skips_1
theorem dksX0_skips_0 : cX0_skips.data.toList.drop 0 = dktX0_skips_0 := by decide +kernel
theorem dksX0_skips_1 : cX0_skips.data.toList.drop 23 = dktX0_skips_1 := dk_seg dksX0_skips_0 23 rfl rfl
theorem dX0_skips_0 : decode cX0_skips 0 = .ok (.aload 6, 2) := dk_25 6 (dk_at dksX0_skips_0 0 rfl rfl)
theorem dX0_skips_2 : decode cX0_skips 2 = .ok (.iconst 0, 1) := dk_3 (dk_at dksX0_skips_0 2 rfl rfl)
theorem dX0_skips_3 : decode cX0_skips 3 = .ok (.aload_n 0, 1) := dk_42 (dk_at dksX0_skips_0 3 rfl rfl)
theorem dX0_skips_4 : decode cX0_skips 4 = .ok (.iload_n 1, 1) := dk_27 (dk_at dksX0_skips_0 4 rfl rfl)
theorem dX0_skips_5 : decode cX0_skips 5 = .ok (.iload_n 2, 1) := dk_28 (dk_at dksX0_skips_0 5 rfl rfl)
theorem dX0_skips_6 : decode cX0_skips 6 = .ok (.iload_n 3, 1) := dk_29 (dk_at dksX0_skips_0 6 rfl rfl)
theorem dX0_skips_7 : decode cX0_skips 7 = .ok (.iload 4, 2) := dk_21 4 (dk_at dksX0_skips_0 7 rfl rfl)
theorem dX0_skips_9 : decode cX0_skips 9 = .ok (.iload 5, 2) := dk_21 5 (dk_at dksX0_skips_0 9 rfl rfl)
theorem dX0_skips_11 : decode cX0_skips 11 = .ok (.invokevirtual 64, 3) := dk_182 0 64 (dk_at dksX0_skips_0 11 rfl rfl)
theorem dX0_skips_14 : decode cX0_skips 14 = .ok (.i2l, 1) := dk_133 (dk_at dksX0_skips_0 14 rfl rfl)
theorem dX0_skips_15 : decode cX0_skips 15 = .ok (.lastore, 1) := dk_80 (dk_at dksX0_skips_0 15 rfl rfl)
theorem dX0_skips_16 : decode cX0_skips 16 = .ok (.goto 11, 3) := dk_167 0 11 (dk_at dksX0_skips_0 16 rfl rfl)
theorem dX0_skips_19 : decode cX0_skips 19 = .ok (.astore 7, 2) := dk_58 7 (dk_at dksX0_skips_0 19 rfl rfl)
theorem dX0_skips_21 : decode cX0_skips 21 = .ok (.iconst 1, 1) := dk_4 (dk_at dksX0_skips_0 21 rfl rfl)
theorem dX0_skips_22 : decode cX0_skips 22 = .ok (.ireturn, 1) := dk_172 (dk_at dksX0_skips_0 22 rfl rfl)
theorem dX0_skips_23 : decode cX0_skips 23 = .ok (.astore 7, 2) := dk_58 7 (dk_at dksX0_skips_1 0 rfl rfl)
theorem dX0_skips_25 : decode cX0_skips 25 = .ok (.iconst 2, 1) := dk_5 (dk_at dksX0_skips_1 2 rfl rfl)
theorem dX0_skips_26 : decode cX0_skips 26 = .ok (.ireturn, 1) := dk_172 (dk_at dksX0_skips_1 3 rfl rfl)
theorem dX0_skips_27 : decode cX0_skips 27 = .ok (.iconst 0, 1) := dk_3 (dk_at dksX0_skips_1 4 rfl rfl)
theorem dX0_skips_28 : decode cX0_skips 28 = .ok (.ireturn, 1) := dk_172 (dk_at dksX0_skips_1 5 rfl rfl)
abbrev cX0_way : ByteArray := method_18_code
def yX0_way : MethodName := ⟨RX0, "way", "(LSkipSchool;IIIIZ[J)I"⟩
def dkwX0_way_1 : List UInt8 := [58, 7, 5, 172, 3, 172]
abbrev dktX0_way_1 : List UInt8 := dkwX0_way_1 ++ []
def dkwX0_way_0 : List UInt8 := [25, 6, 3, 42, 27, 28, 29, 21, 4, 21, 5, 182, 0, 68, 133, 80, 167, 0, 11, 58, 7, 4, 172]
abbrev dktX0_way_0 : List UInt8 := dkwX0_way_0 ++ dktX0_way_1
theorem dksX0_way_0 : cX0_way.data.toList.drop 0 = dktX0_way_0 := by decide +kernel
theorem dksX0_way_1 : cX0_way.data.toList.drop 23 = dktX0_way_1 := dk_seg dksX0_way_0 23 rfl rfl
theorem dX0_way_0 : decode cX0_way 0 = .ok (.aload 6, 2) := dk_25 6 (dk_at dksX0_way_0 0 rfl rfl)
theorem dX0_way_2 : decode cX0_way 2 = .ok (.iconst 0, 1) := dk_3 (dk_at dksX0_way_0 2 rfl rfl)
theorem dX0_way_3 : decode cX0_way 3 = .ok (.aload_n 0, 1) := dk_42 (dk_at dksX0_way_0 3 rfl rfl)
theorem dX0_way_4 : decode cX0_way 4 = .ok (.iload_n 1, 1) := dk_27 (dk_at dksX0_way_0 4 rfl rfl)
theorem dX0_way_5 : decode cX0_way 5 = .ok (.iload_n 2, 1) := dk_28 (dk_at dksX0_way_0 5 rfl rfl)
theorem dX0_way_6 : decode cX0_way 6 = .ok (.iload_n 3, 1) := dk_29 (dk_at dksX0_way_0 6 rfl rfl)
theorem dX0_way_7 : decode cX0_way 7 = .ok (.iload 4, 2) := dk_21 4 (dk_at dksX0_way_0 7 rfl rfl)
theorem dX0_way_9 : decode cX0_way 9 = .ok (.iload 5, 2) := dk_21 5 (dk_at dksX0_way_0 9 rfl rfl)
theorem dX0_way_11 : decode cX0_way 11 = .ok (.invokevirtual 68, 3) := dk_182 0 68 (dk_at dksX0_way_0 11 rfl rfl)
theorem dX0_way_14 : decode cX0_way 14 = .ok (.i2l, 1) := dk_133 (dk_at dksX0_way_0 14 rfl rfl)
theorem dX0_way_15 : decode cX0_way 15 = .ok (.lastore, 1) := dk_80 (dk_at dksX0_way_0 15 rfl rfl)
theorem dX0_way_16 : decode cX0_way 16 = .ok (.goto 11, 3) := dk_167 0 11 (dk_at dksX0_way_0 16 rfl rfl)
theorem dX0_way_19 : decode cX0_way 19 = .ok (.astore 7, 2) := dk_58 7 (dk_at dksX0_way_0 19 rfl rfl)
theorem dX0_way_21 : decode cX0_way 21 = .ok (.iconst 1, 1) := dk_4 (dk_at dksX0_way_0 21 rfl rfl)
theorem dX0_way_22 : decode cX0_way 22 = .ok (.ireturn, 1) := dk_172 (dk_at dksX0_way_0 22 rfl rfl)
theorem dX0_way_23 : decode cX0_way 23 = .ok (.astore 7, 2) := dk_58 7 (dk_at dksX0_way_1 0 rfl rfl)
theorem dX0_way_25 : decode cX0_way 25 = .ok (.iconst 2, 1) := dk_5 (dk_at dksX0_way_1 2 rfl rfl)
theorem dX0_way_26 : decode cX0_way 26 = .ok (.ireturn, 1) := dk_172 (dk_at dksX0_way_1 3 rfl rfl)
theorem dX0_way_27 : decode cX0_way 27 = .ok (.iconst 0, 1) := dk_3 (dk_at dksX0_way_1 4 rfl rfl)
theorem dX0_way_28 : decode cX0_way 28 = .ok (.ireturn, 1) := dk_172 (dk_at dksX0_way_1 5 rfl rfl)
abbrev cX0_bestAngle : ByteArray := method_19_code
def yX0_bestAngle : MethodName := ⟨RX0, "bestAngle", "(LSkipSchool;III[J)I"⟩
def dkwX0_bestAngle_1 : List UInt8 := [172]
abbrev dktX0_bestAngle_1 : List UInt8 := dkwX0_bestAngle_1 ++ []
def dkwX0_bestAngle_0 : List UInt8 := [25, 4, 3, 42, 27, 28, 29, 182, 0, 71, 133, 80, 167, 0, 11, 58, 5, 4, 172, 58, 5, 5, 172, 3]
abbrev dktX0_bestAngle_0 : List UInt8 := dkwX0_bestAngle_0 ++ dktX0_bestAngle_1
theorem dksX0_bestAngle_0 : cX0_bestAngle.data.toList.drop 0 = dktX0_bestAngle_0 := by decide +kernel
theorem dksX0_bestAngle_1 : cX0_bestAngle.data.toList.drop 24 = dktX0_bestAngle_1 := dk_seg dksX0_bestAngle_0 24 rfl rfl
theorem dX0_bestAngle_0 : decode cX0_bestAngle 0 = .ok (.aload 4, 2) := dk_25 4 (dk_at dksX0_bestAngle_0 0 rfl rfl)
theorem dX0_bestAngle_2 : decode cX0_bestAngle 2 = .ok (.iconst 0, 1) := dk_3 (dk_at dksX0_bestAngle_0 2 rfl rfl)
theorem dX0_bestAngle_3 : decode cX0_bestAngle 3 = .ok (.aload_n 0, 1) := dk_42 (dk_at dksX0_bestAngle_0 3 rfl rfl)
theorem dX0_bestAngle_4 : decode cX0_bestAngle 4 = .ok (.iload_n 1, 1) := dk_27 (dk_at dksX0_bestAngle_0 4 rfl rfl)
theorem dX0_bestAngle_5 : decode cX0_bestAngle 5 = .ok (.iload_n 2, 1) := dk_28 (dk_at dksX0_bestAngle_0 5 rfl rfl)
theorem dX0_bestAngle_6 : decode cX0_bestAngle 6 = .ok (.iload_n 3, 1) := dk_29 (dk_at dksX0_bestAngle_0 6 rfl rfl)
theorem dX0_bestAngle_7 : decode cX0_bestAngle 7 = .ok (.invokevirtual 71, 3) := dk_182 0 71 (dk_at dksX0_bestAngle_0 7 rfl rfl)
theorem dX0_bestAngle_10 : decode cX0_bestAngle 10 = .ok (.i2l, 1) := dk_133 (dk_at dksX0_bestAngle_0 10 rfl rfl)
theorem dX0_bestAngle_11 : decode cX0_bestAngle 11 = .ok (.lastore, 1) := dk_80 (dk_at dksX0_bestAngle_0 11 rfl rfl)
theorem dX0_bestAngle_12 : decode cX0_bestAngle 12 = .ok (.goto 11, 3) := dk_167 0 11 (dk_at dksX0_bestAngle_0 12 rfl rfl)
theorem dX0_bestAngle_15 : decode cX0_bestAngle 15 = .ok (.astore 5, 2) := dk_58 5 (dk_at dksX0_bestAngle_0 15 rfl rfl)
theorem dX0_bestAngle_17 : decode cX0_bestAngle 17 = .ok (.iconst 1, 1) := dk_4 (dk_at dksX0_bestAngle_0 17 rfl rfl)
theorem dX0_bestAngle_18 : decode cX0_bestAngle 18 = .ok (.ireturn, 1) := dk_172 (dk_at dksX0_bestAngle_0 18 rfl rfl)
theorem dX0_bestAngle_19 : decode cX0_bestAngle 19 = .ok (.astore 5, 2) := dk_58 5 (dk_at dksX0_bestAngle_0 19 rfl rfl)
theorem dX0_bestAngle_21 : decode cX0_bestAngle 21 = .ok (.iconst 2, 1) := dk_5 (dk_at dksX0_bestAngle_0 21 rfl rfl)
theorem dX0_bestAngle_22 : decode cX0_bestAngle 22 = .ok (.ireturn, 1) := dk_172 (dk_at dksX0_bestAngle_0 22 rfl rfl)
theorem dX0_bestAngle_23 : decode cX0_bestAngle 23 = .ok (.iconst 0, 1) := dk_3 (dk_at dksX0_bestAngle_0 23 rfl rfl)
theorem dX0_bestAngle_24 : decode cX0_bestAngle 24 = .ok (.ireturn, 1) := dk_172 (dk_at dksX0_bestAngle_1 0 rfl rfl)
abbrev cX0_leastSpeed : ByteArray := method_20_code
def yX0_leastSpeed : MethodName := ⟨RX0, "leastSpeed", "(LSkipSchool;III[J)I"⟩
def dkwX0_leastSpeed_1 : List UInt8 := [58, 5, 6, 172, 3, 172]
abbrev dktX0_leastSpeed_1 : List UInt8 := dkwX0_leastSpeed_1 ++ []
def dkwX0_leastSpeed_0 : List UInt8 := [25, 4, 3, 42, 27, 28, 29, 182, 0, 74, 133, 80, 167, 0, 15, 58, 5, 4, 172, 58, 5, 5, 172]
abbrev dktX0_leastSpeed_0 : List UInt8 := dkwX0_leastSpeed_0 ++ dktX0_leastSpeed_1
theorem dksX0_leastSpeed_0 : cX0_leastSpeed.data.toList.drop 0 = dktX0_leastSpeed_0 := by decide +kernel
theorem dksX0_leastSpeed_1 : cX0_leastSpeed.data.toList.drop 23 = dktX0_leastSpeed_1 := dk_seg dksX0_leastSpeed_0 23 rfl rfl
theorem dX0_leastSpeed_0 : decode cX0_leastSpeed 0 = .ok (.aload 4, 2) := dk_25 4 (dk_at dksX0_leastSpeed_0 0 rfl rfl)
theorem dX0_leastSpeed_2 : decode cX0_leastSpeed 2 = .ok (.iconst 0, 1) := dk_3 (dk_at dksX0_leastSpeed_0 2 rfl rfl)
theorem dX0_leastSpeed_3 : decode cX0_leastSpeed 3 = .ok (.aload_n 0, 1) := dk_42 (dk_at dksX0_leastSpeed_0 3 rfl rfl)
theorem dX0_leastSpeed_4 : decode cX0_leastSpeed 4 = .ok (.iload_n 1, 1) := dk_27 (dk_at dksX0_leastSpeed_0 4 rfl rfl)
theorem dX0_leastSpeed_5 : decode cX0_leastSpeed 5 = .ok (.iload_n 2, 1) := dk_28 (dk_at dksX0_leastSpeed_0 5 rfl rfl)
theorem dX0_leastSpeed_6 : decode cX0_leastSpeed 6 = .ok (.iload_n 3, 1) := dk_29 (dk_at dksX0_leastSpeed_0 6 rfl rfl)
theorem dX0_leastSpeed_7 : decode cX0_leastSpeed 7 = .ok (.invokevirtual 74, 3) := dk_182 0 74 (dk_at dksX0_leastSpeed_0 7 rfl rfl)
theorem dX0_leastSpeed_10 : decode cX0_leastSpeed 10 = .ok (.i2l, 1) := dk_133 (dk_at dksX0_leastSpeed_0 10 rfl rfl)
theorem dX0_leastSpeed_11 : decode cX0_leastSpeed 11 = .ok (.lastore, 1) := dk_80 (dk_at dksX0_leastSpeed_0 11 rfl rfl)
theorem dX0_leastSpeed_12 : decode cX0_leastSpeed 12 = .ok (.goto 15, 3) := dk_167 0 15 (dk_at dksX0_leastSpeed_0 12 rfl rfl)
theorem dX0_leastSpeed_15 : decode cX0_leastSpeed 15 = .ok (.astore 5, 2) := dk_58 5 (dk_at dksX0_leastSpeed_0 15 rfl rfl)
theorem dX0_leastSpeed_17 : decode cX0_leastSpeed 17 = .ok (.iconst 1, 1) := dk_4 (dk_at dksX0_leastSpeed_0 17 rfl rfl)
theorem dX0_leastSpeed_18 : decode cX0_leastSpeed 18 = .ok (.ireturn, 1) := dk_172 (dk_at dksX0_leastSpeed_0 18 rfl rfl)
theorem dX0_leastSpeed_19 : decode cX0_leastSpeed 19 = .ok (.astore 5, 2) := dk_58 5 (dk_at dksX0_leastSpeed_0 19 rfl rfl)
theorem dX0_leastSpeed_21 : decode cX0_leastSpeed 21 = .ok (.iconst 2, 1) := dk_5 (dk_at dksX0_leastSpeed_0 21 rfl rfl)
theorem dX0_leastSpeed_22 : decode cX0_leastSpeed 22 = .ok (.ireturn, 1) := dk_172 (dk_at dksX0_leastSpeed_0 22 rfl rfl)
theorem dX0_leastSpeed_23 : decode cX0_leastSpeed 23 = .ok (.astore 5, 2) := dk_58 5 (dk_at dksX0_leastSpeed_1 0 rfl rfl)
theorem dX0_leastSpeed_25 : decode cX0_leastSpeed 25 = .ok (.iconst 3, 1) := dk_6 (dk_at dksX0_leastSpeed_1 2 rfl rfl)
theorem dX0_leastSpeed_26 : decode cX0_leastSpeed 26 = .ok (.ireturn, 1) := dk_172 (dk_at dksX0_leastSpeed_1 3 rfl rfl)
theorem dX0_leastSpeed_27 : decode cX0_leastSpeed 27 = .ok (.iconst 0, 1) := dk_3 (dk_at dksX0_leastSpeed_1 4 rfl rfl)
theorem dX0_leastSpeed_28 : decode cX0_leastSpeed 28 = .ok (.ireturn, 1) := dk_172 (dk_at dksX0_leastSpeed_1 5 rfl rfl)
abbrev cX0_alumnus : ByteArray := method_21_code
def yX0_alumnus : MethodName := ⟨RX0, "alumnus", "(LSkipSchool;I[J)I"⟩
def dkwX0_alumnus_0 : List UInt8 := [44, 3, 42, 27, 182, 0, 77, 133, 80, 167, 0, 6, 78, 4, 172, 3, 172]
abbrev dktX0_alumnus_0 : List UInt8 := dkwX0_alumnus_0 ++ []
theorem dksX0_alumnus_0 : cX0_alumnus.data.toList.drop 0 = dktX0_alumnus_0 := by decide +kernel
theorem dX0_alumnus_0 : decode cX0_alumnus 0 = .ok (.aload_n 2, 1) := dk_44 (dk_at dksX0_alumnus_0 0 rfl rfl)
theorem dX0_alumnus_1 : decode cX0_alumnus 1 = .ok (.iconst 0, 1) := dk_3 (dk_at dksX0_alumnus_0 1 rfl rfl)
theorem dX0_alumnus_2 : decode cX0_alumnus 2 = .ok (.aload_n 0, 1) := dk_42 (dk_at dksX0_alumnus_0 2 rfl rfl)
theorem dX0_alumnus_3 : decode cX0_alumnus 3 = .ok (.iload_n 1, 1) := dk_27 (dk_at dksX0_alumnus_0 3 rfl rfl)
theorem dX0_alumnus_4 : decode cX0_alumnus 4 = .ok (.invokevirtual 77, 3) := dk_182 0 77 (dk_at dksX0_alumnus_0 4 rfl rfl)
theorem dX0_alumnus_7 : decode cX0_alumnus 7 = .ok (.i2l, 1) := dk_133 (dk_at dksX0_alumnus_0 7 rfl rfl)
theorem dX0_alumnus_8 : decode cX0_alumnus 8 = .ok (.lastore, 1) := dk_80 (dk_at dksX0_alumnus_0 8 rfl rfl)
theorem dX0_alumnus_9 : decode cX0_alumnus 9 = .ok (.goto 6, 3) := dk_167 0 6 (dk_at dksX0_alumnus_0 9 rfl rfl)
theorem dX0_alumnus_12 : decode cX0_alumnus 12 = .ok (.astore_n 3, 1) := dk_78 (dk_at dksX0_alumnus_0 12 rfl rfl)
theorem dX0_alumnus_13 : decode cX0_alumnus 13 = .ok (.iconst 1, 1) := dk_4 (dk_at dksX0_alumnus_0 13 rfl rfl)
theorem dX0_alumnus_14 : decode cX0_alumnus 14 = .ok (.ireturn, 1) := dk_172 (dk_at dksX0_alumnus_0 14 rfl rfl)
theorem dX0_alumnus_15 : decode cX0_alumnus 15 = .ok (.iconst 0, 1) := dk_3 (dk_at dksX0_alumnus_0 15 rfl rfl)
theorem dX0_alumnus_16 : decode cX0_alumnus 16 = .ok (.ireturn, 1) := dk_172 (dk_at dksX0_alumnus_0 16 rfl rfl)
abbrev cX0_sankOn : ByteArray := method_22_code
def yX0_sankOn : MethodName := ⟨RX0, "sankOn", "(LSkipSchool;I[J)I"⟩
def dkwX0_sankOn_0 : List UInt8 := [44, 3, 42, 27, 182, 0, 80, 133, 80, 167, 0, 9, 78, 4, 172, 78, 5, 172, 3, 172]
abbrev dktX0_sankOn_0 : List UInt8 := dkwX0_sankOn_0 ++ []
theorem dksX0_sankOn_0 : cX0_sankOn.data.toList.drop 0 = dktX0_sankOn_0 := by decide +kernel
theorem dX0_sankOn_0 : decode cX0_sankOn 0 = .ok (.aload_n 2, 1) := dk_44 (dk_at dksX0_sankOn_0 0 rfl rfl)
theorem dX0_sankOn_1 : decode cX0_sankOn 1 = .ok (.iconst 0, 1) := dk_3 (dk_at dksX0_sankOn_0 1 rfl rfl)
theorem dX0_sankOn_2 : decode cX0_sankOn 2 = .ok (.aload_n 0, 1) := dk_42 (dk_at dksX0_sankOn_0 2 rfl rfl)
theorem dX0_sankOn_3 : decode cX0_sankOn 3 = .ok (.iload_n 1, 1) := dk_27 (dk_at dksX0_sankOn_0 3 rfl rfl)
theorem dX0_sankOn_4 : decode cX0_sankOn 4 = .ok (.invokevirtual 80, 3) := dk_182 0 80 (dk_at dksX0_sankOn_0 4 rfl rfl)
theorem dX0_sankOn_7 : decode cX0_sankOn 7 = .ok (.i2l, 1) := dk_133 (dk_at dksX0_sankOn_0 7 rfl rfl)
theorem dX0_sankOn_8 : decode cX0_sankOn 8 = .ok (.lastore, 1) := dk_80 (dk_at dksX0_sankOn_0 8 rfl rfl)
theorem dX0_sankOn_9 : decode cX0_sankOn 9 = .ok (.goto 9, 3) := dk_167 0 9 (dk_at dksX0_sankOn_0 9 rfl rfl)
theorem dX0_sankOn_12 : decode cX0_sankOn 12 = .ok (.astore_n 3, 1) := dk_78 (dk_at dksX0_sankOn_0 12 rfl rfl)
theorem dX0_sankOn_13 : decode cX0_sankOn 13 = .ok (.iconst 1, 1) := dk_4 (dk_at dksX0_sankOn_0 13 rfl rfl)
theorem dX0_sankOn_14 : decode cX0_sankOn 14 = .ok (.ireturn, 1) := dk_172 (dk_at dksX0_sankOn_0 14 rfl rfl)
theorem dX0_sankOn_15 : decode cX0_sankOn 15 = .ok (.astore_n 3, 1) := dk_78 (dk_at dksX0_sankOn_0 15 rfl rfl)
theorem dX0_sankOn_16 : decode cX0_sankOn 16 = .ok (.iconst 2, 1) := dk_5 (dk_at dksX0_sankOn_0 16 rfl rfl)
theorem dX0_sankOn_17 : decode cX0_sankOn 17 = .ok (.ireturn, 1) := dk_172 (dk_at dksX0_sankOn_0 17 rfl rfl)
theorem dX0_sankOn_18 : decode cX0_sankOn 18 = .ok (.iconst 0, 1) := dk_3 (dk_at dksX0_sankOn_0 18 rfl rfl)
theorem dX0_sankOn_19 : decode cX0_sankOn 19 = .ok (.ireturn, 1) := dk_172 (dk_at dksX0_sankOn_0 19 rfl rfl)
abbrev cX0_ranked : ByteArray := method_23_code
def yX0_ranked : MethodName := ⟨RX0, "ranked", "(LSkipSchool;II[J)I"⟩
def dkwX0_ranked_0 : List UInt8 := [45, 3, 42, 27, 28, 182, 0, 83, 133, 80, 167, 0, 11, 58, 4, 4, 172, 58, 4, 5, 172, 3, 172]
abbrev dktX0_ranked_0 : List UInt8 := dkwX0_ranked_0 ++ []
theorem dksX0_ranked_0 : cX0_ranked.data.toList.drop 0 = dktX0_ranked_0 := by decide +kernel
theorem dX0_ranked_0 : decode cX0_ranked 0 = .ok (.aload_n 3, 1) := dk_45 (dk_at dksX0_ranked_0 0 rfl rfl)
theorem dX0_ranked_1 : decode cX0_ranked 1 = .ok (.iconst 0, 1) := dk_3 (dk_at dksX0_ranked_0 1 rfl rfl)
theorem dX0_ranked_2 : decode cX0_ranked 2 = .ok (.aload_n 0, 1) := dk_42 (dk_at dksX0_ranked_0 2 rfl rfl)
theorem dX0_ranked_3 : decode cX0_ranked 3 = .ok (.iload_n 1, 1) := dk_27 (dk_at dksX0_ranked_0 3 rfl rfl)
theorem dX0_ranked_4 : decode cX0_ranked 4 = .ok (.iload_n 2, 1) := dk_28 (dk_at dksX0_ranked_0 4 rfl rfl)
theorem dX0_ranked_5 : decode cX0_ranked 5 = .ok (.invokevirtual 83, 3) := dk_182 0 83 (dk_at dksX0_ranked_0 5 rfl rfl)
theorem dX0_ranked_8 : decode cX0_ranked 8 = .ok (.i2l, 1) := dk_133 (dk_at dksX0_ranked_0 8 rfl rfl)
theorem dX0_ranked_9 : decode cX0_ranked 9 = .ok (.lastore, 1) := dk_80 (dk_at dksX0_ranked_0 9 rfl rfl)
theorem dX0_ranked_10 : decode cX0_ranked 10 = .ok (.goto 11, 3) := dk_167 0 11 (dk_at dksX0_ranked_0 10 rfl rfl)
theorem dX0_ranked_13 : decode cX0_ranked 13 = .ok (.astore 4, 2) := dk_58 4 (dk_at dksX0_ranked_0 13 rfl rfl)
theorem dX0_ranked_15 : decode cX0_ranked 15 = .ok (.iconst 1, 1) := dk_4 (dk_at dksX0_ranked_0 15 rfl rfl)
theorem dX0_ranked_16 : decode cX0_ranked 16 = .ok (.ireturn, 1) := dk_172 (dk_at dksX0_ranked_0 16 rfl rfl)
theorem dX0_ranked_17 : decode cX0_ranked 17 = .ok (.astore 4, 2) := dk_58 4 (dk_at dksX0_ranked_0 17 rfl rfl)
theorem dX0_ranked_19 : decode cX0_ranked 19 = .ok (.iconst 2, 1) := dk_5 (dk_at dksX0_ranked_0 19 rfl rfl)
theorem dX0_ranked_20 : decode cX0_ranked 20 = .ok (.ireturn, 1) := dk_172 (dk_at dksX0_ranked_0 20 rfl rfl)
theorem dX0_ranked_21 : decode cX0_ranked 21 = .ok (.iconst 0, 1) := dk_3 (dk_at dksX0_ranked_0 21 rfl rfl)
theorem dX0_ranked_22 : decode cX0_ranked 22 = .ok (.ireturn, 1) := dk_172 (dk_at dksX0_ranked_0 22 rfl rfl)
abbrev cX0_graded : ByteArray := method_24_code
def yX0_graded : MethodName := ⟨RX0, "graded", "(LSkipSchool;C[J)I"⟩
def dkwX0_graded_0 : List UInt8 := [44, 3, 42, 27, 182, 0, 86, 133, 80, 167, 0, 6, 78, 4, 172, 3, 172]
abbrev dktX0_graded_0 : List UInt8 := dkwX0_graded_0 ++ []
theorem dksX0_graded_0 : cX0_graded.data.toList.drop 0 = dktX0_graded_0 := by decide +kernel
theorem dX0_graded_0 : decode cX0_graded 0 = .ok (.aload_n 2, 1) := dk_44 (dk_at dksX0_graded_0 0 rfl rfl)
theorem dX0_graded_1 : decode cX0_graded 1 = .ok (.iconst 0, 1) := dk_3 (dk_at dksX0_graded_0 1 rfl rfl)
theorem dX0_graded_2 : decode cX0_graded 2 = .ok (.aload_n 0, 1) := dk_42 (dk_at dksX0_graded_0 2 rfl rfl)
theorem dX0_graded_3 : decode cX0_graded 3 = .ok (.iload_n 1, 1) := dk_27 (dk_at dksX0_graded_0 3 rfl rfl)
theorem dX0_graded_4 : decode cX0_graded 4 = .ok (.invokevirtual 86, 3) := dk_182 0 86 (dk_at dksX0_graded_0 4 rfl rfl)
theorem dX0_graded_7 : decode cX0_graded 7 = .ok (.i2l, 1) := dk_133 (dk_at dksX0_graded_0 7 rfl rfl)
theorem dX0_graded_8 : decode cX0_graded 8 = .ok (.lastore, 1) := dk_80 (dk_at dksX0_graded_0 8 rfl rfl)
theorem dX0_graded_9 : decode cX0_graded 9 = .ok (.goto 6, 3) := dk_167 0 6 (dk_at dksX0_graded_0 9 rfl rfl)
theorem dX0_graded_12 : decode cX0_graded 12 = .ok (.astore_n 3, 1) := dk_78 (dk_at dksX0_graded_0 12 rfl rfl)
theorem dX0_graded_13 : decode cX0_graded 13 = .ok (.iconst 1, 1) := dk_4 (dk_at dksX0_graded_0 13 rfl rfl)
theorem dX0_graded_14 : decode cX0_graded 14 = .ok (.ireturn, 1) := dk_172 (dk_at dksX0_graded_0 14 rfl rfl)
theorem dX0_graded_15 : decode cX0_graded 15 = .ok (.iconst 0, 1) := dk_3 (dk_at dksX0_graded_0 15 rfl rfl)
theorem dX0_graded_16 : decode cX0_graded 16 = .ok (.ireturn, 1) := dk_172 (dk_at dksX0_graded_0 16 rfl rfl)
abbrev cX0_line : ByteArray := method_25_code
def yX0_line : MethodName := ⟨RX0, "line", "(LSkipSchool;I[J)I"⟩
def dkwX0_line_0 : List UInt8 := [44, 3, 42, 27, 182, 0, 90, 133, 80, 167, 0, 6, 78, 4, 172, 3, 172]
abbrev dktX0_line_0 : List UInt8 := dkwX0_line_0 ++ []
theorem dksX0_line_0 : cX0_line.data.toList.drop 0 = dktX0_line_0 := by decide +kernel
theorem dX0_line_0 : decode cX0_line 0 = .ok (.aload_n 2, 1) := dk_44 (dk_at dksX0_line_0 0 rfl rfl)
theorem dX0_line_1 : decode cX0_line 1 = .ok (.iconst 0, 1) := dk_3 (dk_at dksX0_line_0 1 rfl rfl)
theorem dX0_line_2 : decode cX0_line 2 = .ok (.aload_n 0, 1) := dk_42 (dk_at dksX0_line_0 2 rfl rfl)
theorem dX0_line_3 : decode cX0_line 3 = .ok (.iload_n 1, 1) := dk_27 (dk_at dksX0_line_0 3 rfl rfl)
theorem dX0_line_4 : decode cX0_line 4 = .ok (.invokevirtual 90, 3) := dk_182 0 90 (dk_at dksX0_line_0 4 rfl rfl)
theorem dX0_line_7 : decode cX0_line 7 = .ok (.i2l, 1) := dk_133 (dk_at dksX0_line_0 7 rfl rfl)
theorem dX0_line_8 : decode cX0_line 8 = .ok (.lastore, 1) := dk_80 (dk_at dksX0_line_0 8 rfl rfl)
theorem dX0_line_9 : decode cX0_line 9 = .ok (.goto 6, 3) := dk_167 0 6 (dk_at dksX0_line_0 9 rfl rfl)
theorem dX0_line_12 : decode cX0_line 12 = .ok (.astore_n 3, 1) := dk_78 (dk_at dksX0_line_0 12 rfl rfl)
theorem dX0_line_13 : decode cX0_line 13 = .ok (.iconst 1, 1) := dk_4 (dk_at dksX0_line_0 13 rfl rfl)
theorem dX0_line_14 : decode cX0_line 14 = .ok (.ireturn, 1) := dk_172 (dk_at dksX0_line_0 14 rfl rfl)
theorem dX0_line_15 : decode cX0_line 15 = .ok (.iconst 0, 1) := dk_3 (dk_at dksX0_line_0 15 rfl rfl)
theorem dX0_line_16 : decode cX0_line 16 = .ok (.ireturn, 1) := dk_172 (dk_at dksX0_line_0 16 rfl rfl)
abbrev cX0_riverLine : ByteArray := method_26_code
def yX0_riverLine : MethodName := ⟨RX0, "riverLine", "(LSkipSchool;I[J)I"⟩
def dkwX0_riverLine_0 : List UInt8 := [44, 3, 42, 27, 182, 0, 93, 133, 80, 167, 0, 6, 78, 4, 172, 3, 172]
abbrev dktX0_riverLine_0 : List UInt8 := dkwX0_riverLine_0 ++ []
theorem dksX0_riverLine_0 : cX0_riverLine.data.toList.drop 0 = dktX0_riverLine_0 := by decide +kernel
theorem dX0_riverLine_0 : decode cX0_riverLine 0 = .ok (.aload_n 2, 1) := dk_44 (dk_at dksX0_riverLine_0 0 rfl rfl)
theorem dX0_riverLine_1 : decode cX0_riverLine 1 = .ok (.iconst 0, 1) := dk_3 (dk_at dksX0_riverLine_0 1 rfl rfl)
theorem dX0_riverLine_2 : decode cX0_riverLine 2 = .ok (.aload_n 0, 1) := dk_42 (dk_at dksX0_riverLine_0 2 rfl rfl)
theorem dX0_riverLine_3 : decode cX0_riverLine 3 = .ok (.iload_n 1, 1) := dk_27 (dk_at dksX0_riverLine_0 3 rfl rfl)
theorem dX0_riverLine_4 : decode cX0_riverLine 4 = .ok (.invokevirtual 93, 3) := dk_182 0 93 (dk_at dksX0_riverLine_0 4 rfl rfl)
theorem dX0_riverLine_7 : decode cX0_riverLine 7 = .ok (.i2l, 1) := dk_133 (dk_at dksX0_riverLine_0 7 rfl rfl)
theorem dX0_riverLine_8 : decode cX0_riverLine 8 = .ok (.lastore, 1) := dk_80 (dk_at dksX0_riverLine_0 8 rfl rfl)
theorem dX0_riverLine_9 : decode cX0_riverLine 9 = .ok (.goto 6, 3) := dk_167 0 6 (dk_at dksX0_riverLine_0 9 rfl rfl)
theorem dX0_riverLine_12 : decode cX0_riverLine 12 = .ok (.astore_n 3, 1) := dk_78 (dk_at dksX0_riverLine_0 12 rfl rfl)
theorem dX0_riverLine_13 : decode cX0_riverLine 13 = .ok (.iconst 1, 1) := dk_4 (dk_at dksX0_riverLine_0 13 rfl rfl)
theorem dX0_riverLine_14 : decode cX0_riverLine 14 = .ok (.ireturn, 1) := dk_172 (dk_at dksX0_riverLine_0 14 rfl rfl)
theorem dX0_riverLine_15 : decode cX0_riverLine 15 = .ok (.iconst 0, 1) := dk_3 (dk_at dksX0_riverLine_0 15 rfl rfl)
theorem dX0_riverLine_16 : decode cX0_riverLine 16 = .ok (.ireturn, 1) := dk_172 (dk_at dksX0_riverLine_0 16 rfl rfl)
abbrev cX0_character : ByteArray := method_27_code
def yX0_character : MethodName := ⟨RX0, "character", "(LSkipSchool;I[J)I"⟩
def dkwX0_character_0 : List UInt8 := [44, 3, 42, 27, 182, 0, 96, 133, 80, 167, 0, 6, 78, 4, 172, 3, 172]
abbrev dktX0_character_0 : List UInt8 := dkwX0_character_0 ++ []
theorem dksX0_character_0 : cX0_character.data.toList.drop 0 = dktX0_character_0 := by decide +kernel
theorem dX0_character_0 : decode cX0_character 0 = .ok (.aload_n 2, 1) := dk_44 (dk_at dksX0_character_0 0 rfl rfl)
theorem dX0_character_1 : decode cX0_character 1 = .ok (.iconst 0, 1) := dk_3 (dk_at dksX0_character_0 1 rfl rfl)
theorem dX0_character_2 : decode cX0_character 2 = .ok (.aload_n 0, 1) := dk_42 (dk_at dksX0_character_0 2 rfl rfl)
theorem dX0_character_3 : decode cX0_character 3 = .ok (.iload_n 1, 1) := dk_27 (dk_at dksX0_character_0 3 rfl rfl)
theorem dX0_character_4 : decode cX0_character 4 = .ok (.invokevirtual 96, 3) := dk_182 0 96 (dk_at dksX0_character_0 4 rfl rfl)
theorem dX0_character_7 : decode cX0_character 7 = .ok (.i2l, 1) := dk_133 (dk_at dksX0_character_0 7 rfl rfl)
theorem dX0_character_8 : decode cX0_character 8 = .ok (.lastore, 1) := dk_80 (dk_at dksX0_character_0 8 rfl rfl)
theorem dX0_character_9 : decode cX0_character 9 = .ok (.goto 6, 3) := dk_167 0 6 (dk_at dksX0_character_0 9 rfl rfl)
theorem dX0_character_12 : decode cX0_character 12 = .ok (.astore_n 3, 1) := dk_78 (dk_at dksX0_character_0 12 rfl rfl)
theorem dX0_character_13 : decode cX0_character 13 = .ok (.iconst 1, 1) := dk_4 (dk_at dksX0_character_0 13 rfl rfl)
theorem dX0_character_14 : decode cX0_character 14 = .ok (.ireturn, 1) := dk_172 (dk_at dksX0_character_0 14 rfl rfl)
theorem dX0_character_15 : decode cX0_character 15 = .ok (.iconst 0, 1) := dk_3 (dk_at dksX0_character_0 15 rfl rfl)
theorem dX0_character_16 : decode cX0_character 16 = .ok (.ireturn, 1) := dk_172 (dk_at dksX0_character_0 16 rfl rfl)
abbrev cX0_refusal : ByteArray := method_28_code
def yX0_refusal : MethodName := ⟨RX0, "refusal", "(LSkipSchool;Z[J)I"⟩
def dkwX0_refusal_0 : List UInt8 := [44, 3, 42, 27, 182, 0, 99, 133, 80, 167, 0, 6, 78, 4, 172, 3, 172]
abbrev dktX0_refusal_0 : List UInt8 := dkwX0_refusal_0 ++ []
theorem dksX0_refusal_0 : cX0_refusal.data.toList.drop 0 = dktX0_refusal_0 := by decide +kernel
theorem dX0_refusal_0 : decode cX0_refusal 0 = .ok (.aload_n 2, 1) := dk_44 (dk_at dksX0_refusal_0 0 rfl rfl)
theorem dX0_refusal_1 : decode cX0_refusal 1 = .ok (.iconst 0, 1) := dk_3 (dk_at dksX0_refusal_0 1 rfl rfl)
theorem dX0_refusal_2 : decode cX0_refusal 2 = .ok (.aload_n 0, 1) := dk_42 (dk_at dksX0_refusal_0 2 rfl rfl)
theorem dX0_refusal_3 : decode cX0_refusal 3 = .ok (.iload_n 1, 1) := dk_27 (dk_at dksX0_refusal_0 3 rfl rfl)
theorem dX0_refusal_4 : decode cX0_refusal 4 = .ok (.invokevirtual 99, 3) := dk_182 0 99 (dk_at dksX0_refusal_0 4 rfl rfl)
theorem dX0_refusal_7 : decode cX0_refusal 7 = .ok (.i2l, 1) := dk_133 (dk_at dksX0_refusal_0 7 rfl rfl)
theorem dX0_refusal_8 : decode cX0_refusal 8 = .ok (.lastore, 1) := dk_80 (dk_at dksX0_refusal_0 8 rfl rfl)
theorem dX0_refusal_9 : decode cX0_refusal 9 = .ok (.goto 6, 3) := dk_167 0 6 (dk_at dksX0_refusal_0 9 rfl rfl)
theorem dX0_refusal_12 : decode cX0_refusal 12 = .ok (.astore_n 3, 1) := dk_78 (dk_at dksX0_refusal_0 12 rfl rfl)
theorem dX0_refusal_13 : decode cX0_refusal 13 = .ok (.iconst 1, 1) := dk_4 (dk_at dksX0_refusal_0 13 rfl rfl)
theorem dX0_refusal_14 : decode cX0_refusal 14 = .ok (.ireturn, 1) := dk_172 (dk_at dksX0_refusal_0 14 rfl rfl)
theorem dX0_refusal_15 : decode cX0_refusal 15 = .ok (.iconst 0, 1) := dk_3 (dk_at dksX0_refusal_0 15 rfl rfl)
theorem dX0_refusal_16 : decode cX0_refusal 16 = .ok (.ireturn, 1) := dk_172 (dk_at dksX0_refusal_0 16 rfl rfl)
abbrev cX0_account : ByteArray := method_29_code
def yX0_account : MethodName := ⟨RX0, "account", "(LSkipSchool;I[J)I"⟩
def dkwX0_account_0 : List UInt8 := [44, 3, 42, 27, 182, 0, 105, 133, 80, 167, 0, 6, 78, 4, 172, 3, 172]
abbrev dktX0_account_0 : List UInt8 := dkwX0_account_0 ++ []
theorem dksX0_account_0 : cX0_account.data.toList.drop 0 = dktX0_account_0 := by decide +kernel
theorem dX0_account_0 : decode cX0_account 0 = .ok (.aload_n 2, 1) := dk_44 (dk_at dksX0_account_0 0 rfl rfl)
theorem dX0_account_1 : decode cX0_account 1 = .ok (.iconst 0, 1) := dk_3 (dk_at dksX0_account_0 1 rfl rfl)
theorem dX0_account_2 : decode cX0_account 2 = .ok (.aload_n 0, 1) := dk_42 (dk_at dksX0_account_0 2 rfl rfl)
theorem dX0_account_3 : decode cX0_account 3 = .ok (.iload_n 1, 1) := dk_27 (dk_at dksX0_account_0 3 rfl rfl)
theorem dX0_account_4 : decode cX0_account 4 = .ok (.invokevirtual 105, 3) := dk_182 0 105 (dk_at dksX0_account_0 4 rfl rfl)
theorem dX0_account_7 : decode cX0_account 7 = .ok (.i2l, 1) := dk_133 (dk_at dksX0_account_0 7 rfl rfl)
theorem dX0_account_8 : decode cX0_account 8 = .ok (.lastore, 1) := dk_80 (dk_at dksX0_account_0 8 rfl rfl)
theorem dX0_account_9 : decode cX0_account 9 = .ok (.goto 6, 3) := dk_167 0 6 (dk_at dksX0_account_0 9 rfl rfl)
theorem dX0_account_12 : decode cX0_account 12 = .ok (.astore_n 3, 1) := dk_78 (dk_at dksX0_account_0 12 rfl rfl)
theorem dX0_account_13 : decode cX0_account 13 = .ok (.iconst 1, 1) := dk_4 (dk_at dksX0_account_0 13 rfl rfl)
theorem dX0_account_14 : decode cX0_account 14 = .ok (.ireturn, 1) := dk_172 (dk_at dksX0_account_0 14 rfl rfl)
theorem dX0_account_15 : decode cX0_account 15 = .ok (.iconst 0, 1) := dk_3 (dk_at dksX0_account_0 15 rfl rfl)
theorem dX0_account_16 : decode cX0_account 16 = .ok (.ireturn, 1) := dk_172 (dk_at dksX0_account_0 16 rfl rfl)
abbrev cX0_meanSkill : ByteArray := method_30_code
def yX0_meanSkill : MethodName := ⟨RX0, "meanSkill", "(LSkipSchool;[D)I"⟩
def dkwX0_meanSkill_0 : List UInt8 := [43, 3, 42, 182, 0, 108, 82, 167, 0, 6, 77, 4, 172, 3, 172]
abbrev dktX0_meanSkill_0 : List UInt8 := dkwX0_meanSkill_0 ++ []
theorem dksX0_meanSkill_0 : cX0_meanSkill.data.toList.drop 0 = dktX0_meanSkill_0 := by decide +kernel
theorem dX0_meanSkill_0 : decode cX0_meanSkill 0 = .ok (.aload_n 1, 1) := dk_43 (dk_at dksX0_meanSkill_0 0 rfl rfl)
theorem dX0_meanSkill_1 : decode cX0_meanSkill 1 = .ok (.iconst 0, 1) := dk_3 (dk_at dksX0_meanSkill_0 1 rfl rfl)
theorem dX0_meanSkill_2 : decode cX0_meanSkill 2 = .ok (.aload_n 0, 1) := dk_42 (dk_at dksX0_meanSkill_0 2 rfl rfl)
theorem dX0_meanSkill_3 : decode cX0_meanSkill 3 = .ok (.invokevirtual 108, 3) := dk_182 0 108 (dk_at dksX0_meanSkill_0 3 rfl rfl)
theorem dX0_meanSkill_6 : decode cX0_meanSkill 6 = .ok (.dastore, 1) := dk_82 (dk_at dksX0_meanSkill_0 6 rfl rfl)
theorem dX0_meanSkill_7 : decode cX0_meanSkill 7 = .ok (.goto 6, 3) := dk_167 0 6 (dk_at dksX0_meanSkill_0 7 rfl rfl)
theorem dX0_meanSkill_10 : decode cX0_meanSkill 10 = .ok (.astore_n 2, 1) := dk_77 (dk_at dksX0_meanSkill_0 10 rfl rfl)
theorem dX0_meanSkill_11 : decode cX0_meanSkill 11 = .ok (.iconst 1, 1) := dk_4 (dk_at dksX0_meanSkill_0 11 rfl rfl)
theorem dX0_meanSkill_12 : decode cX0_meanSkill 12 = .ok (.ireturn, 1) := dk_172 (dk_at dksX0_meanSkill_0 12 rfl rfl)
theorem dX0_meanSkill_13 : decode cX0_meanSkill 13 = .ok (.iconst 0, 1) := dk_3 (dk_at dksX0_meanSkill_0 13 rfl rfl)
theorem dX0_meanSkill_14 : decode cX0_meanSkill 14 = .ok (.ireturn, 1) := dk_172 (dk_at dksX0_meanSkill_0 14 rfl rfl)
abbrev cX0_crossShare : ByteArray := method_31_code
def yX0_crossShare : MethodName := ⟨RX0, "crossShare", "(LSkipSchool;[D)I"⟩
def dkwX0_crossShare_0 : List UInt8 := [43, 3, 42, 182, 0, 114, 141, 82, 167, 0, 6, 77, 4, 172, 3, 172]
abbrev dktX0_crossShare_0 : List UInt8 := dkwX0_crossShare_0 ++ []
theorem dksX0_crossShare_0 : cX0_crossShare.data.toList.drop 0 = dktX0_crossShare_0 := by decide +kernel
theorem dX0_crossShare_0 : decode cX0_crossShare 0 = .ok (.aload_n 1, 1) := dk_43 (dk_at dksX0_crossShare_0 0 rfl rfl)
theorem dX0_crossShare_1 : decode cX0_crossShare 1 = .ok (.iconst 0, 1) := dk_3 (dk_at dksX0_crossShare_0 1 rfl rfl)
theorem dX0_crossShare_2 : decode cX0_crossShare 2 = .ok (.aload_n 0, 1) := dk_42 (dk_at dksX0_crossShare_0 2 rfl rfl)
theorem dX0_crossShare_3 : decode cX0_crossShare 3 = .ok (.invokevirtual 114, 3) := dk_182 0 114 (dk_at dksX0_crossShare_0 3 rfl rfl)
theorem dX0_crossShare_6 : decode cX0_crossShare 6 = .ok (.f2d, 1) := dk_141 (dk_at dksX0_crossShare_0 6 rfl rfl)
theorem dX0_crossShare_7 : decode cX0_crossShare 7 = .ok (.dastore, 1) := dk_82 (dk_at dksX0_crossShare_0 7 rfl rfl)
theorem dX0_crossShare_8 : decode cX0_crossShare 8 = .ok (.goto 6, 3) := dk_167 0 6 (dk_at dksX0_crossShare_0 8 rfl rfl)
theorem dX0_crossShare_11 : decode cX0_crossShare 11 = .ok (.astore_n 2, 1) := dk_77 (dk_at dksX0_crossShare_0 11 rfl rfl)
theorem dX0_crossShare_12 : decode cX0_crossShare 12 = .ok (.iconst 1, 1) := dk_4 (dk_at dksX0_crossShare_0 12 rfl rfl)
theorem dX0_crossShare_13 : decode cX0_crossShare 13 = .ok (.ireturn, 1) := dk_172 (dk_at dksX0_crossShare_0 13 rfl rfl)
theorem dX0_crossShare_14 : decode cX0_crossShare 14 = .ok (.iconst 0, 1) := dk_3 (dk_at dksX0_crossShare_0 14 rfl rfl)
theorem dX0_crossShare_15 : decode cX0_crossShare 15 = .ok (.ireturn, 1) := dk_172 (dk_at dksX0_crossShare_0 15 rfl rfl)
abbrev cX0_append : ByteArray := method_32_code
def yX0_append : MethodName := ⟨RX0, "append", "(LSkipSchool;I[J)I"⟩
def dkwX0_append_0 : List UInt8 := [44, 3, 42, 27, 182, 0, 118, 133, 80, 167, 0, 9, 78, 4, 172, 78, 5, 172, 3, 172]
abbrev dktX0_append_0 : List UInt8 := dkwX0_append_0 ++ []
theorem dksX0_append_0 : cX0_append.data.toList.drop 0 = dktX0_append_0 := by decide +kernel
theorem dX0_append_0 : decode cX0_append 0 = .ok (.aload_n 2, 1) := dk_44 (dk_at dksX0_append_0 0 rfl rfl)
theorem dX0_append_1 : decode cX0_append 1 = .ok (.iconst 0, 1) := dk_3 (dk_at dksX0_append_0 1 rfl rfl)
theorem dX0_append_2 : decode cX0_append 2 = .ok (.aload_n 0, 1) := dk_42 (dk_at dksX0_append_0 2 rfl rfl)
theorem dX0_append_3 : decode cX0_append 3 = .ok (.iload_n 1, 1) := dk_27 (dk_at dksX0_append_0 3 rfl rfl)
theorem dX0_append_4 : decode cX0_append 4 = .ok (.invokevirtual 118, 3) := dk_182 0 118 (dk_at dksX0_append_0 4 rfl rfl)
theorem dX0_append_7 : decode cX0_append 7 = .ok (.i2l, 1) := dk_133 (dk_at dksX0_append_0 7 rfl rfl)
theorem dX0_append_8 : decode cX0_append 8 = .ok (.lastore, 1) := dk_80 (dk_at dksX0_append_0 8 rfl rfl)
theorem dX0_append_9 : decode cX0_append 9 = .ok (.goto 9, 3) := dk_167 0 9 (dk_at dksX0_append_0 9 rfl rfl)
theorem dX0_append_12 : decode cX0_append 12 = .ok (.astore_n 3, 1) := dk_78 (dk_at dksX0_append_0 12 rfl rfl)
theorem dX0_append_13 : decode cX0_append 13 = .ok (.iconst 1, 1) := dk_4 (dk_at dksX0_append_0 13 rfl rfl)
theorem dX0_append_14 : decode cX0_append 14 = .ok (.ireturn, 1) := dk_172 (dk_at dksX0_append_0 14 rfl rfl)
theorem dX0_append_15 : decode cX0_append 15 = .ok (.astore_n 3, 1) := dk_78 (dk_at dksX0_append_0 15 rfl rfl)
theorem dX0_append_16 : decode cX0_append 16 = .ok (.iconst 2, 1) := dk_5 (dk_at dksX0_append_0 16 rfl rfl)
theorem dX0_append_17 : decode cX0_append 17 = .ok (.ireturn, 1) := dk_172 (dk_at dksX0_append_0 17 rfl rfl)
theorem dX0_append_18 : decode cX0_append 18 = .ok (.iconst 0, 1) := dk_3 (dk_at dksX0_append_0 18 rfl rfl)
theorem dX0_append_19 : decode cX0_append 19 = .ok (.ireturn, 1) := dk_172 (dk_at dksX0_append_0 19 rfl rfl)
abbrev cX0_read : ByteArray := method_33_code
def yX0_read : MethodName := ⟨RX0, "read", "(LSkipSchool;[J)I"⟩
def dkwX0_read_0 : List UInt8 := [43, 3, 42, 182, 0, 121, 133, 80, 167, 0, 9, 77, 4, 172, 77, 5, 172, 3, 172]
abbrev dktX0_read_0 : List UInt8 := dkwX0_read_0 ++ []
theorem dksX0_read_0 : cX0_read.data.toList.drop 0 = dktX0_read_0 := by decide +kernel
theorem dX0_read_0 : decode cX0_read 0 = .ok (.aload_n 1, 1) := dk_43 (dk_at dksX0_read_0 0 rfl rfl)
theorem dX0_read_1 : decode cX0_read 1 = .ok (.iconst 0, 1) := dk_3 (dk_at dksX0_read_0 1 rfl rfl)
theorem dX0_read_2 : decode cX0_read 2 = .ok (.aload_n 0, 1) := dk_42 (dk_at dksX0_read_0 2 rfl rfl)
theorem dX0_read_3 : decode cX0_read 3 = .ok (.invokevirtual 121, 3) := dk_182 0 121 (dk_at dksX0_read_0 3 rfl rfl)
theorem dX0_read_6 : decode cX0_read 6 = .ok (.i2l, 1) := dk_133 (dk_at dksX0_read_0 6 rfl rfl)
theorem dX0_read_7 : decode cX0_read 7 = .ok (.lastore, 1) := dk_80 (dk_at dksX0_read_0 7 rfl rfl)
theorem dX0_read_8 : decode cX0_read 8 = .ok (.goto 9, 3) := dk_167 0 9 (dk_at dksX0_read_0 8 rfl rfl)
theorem dX0_read_11 : decode cX0_read 11 = .ok (.astore_n 2, 1) := dk_77 (dk_at dksX0_read_0 11 rfl rfl)
theorem dX0_read_12 : decode cX0_read 12 = .ok (.iconst 1, 1) := dk_4 (dk_at dksX0_read_0 12 rfl rfl)
theorem dX0_read_13 : decode cX0_read 13 = .ok (.ireturn, 1) := dk_172 (dk_at dksX0_read_0 13 rfl rfl)
theorem dX0_read_14 : decode cX0_read 14 = .ok (.astore_n 2, 1) := dk_77 (dk_at dksX0_read_0 14 rfl rfl)
theorem dX0_read_15 : decode cX0_read 15 = .ok (.iconst 2, 1) := dk_5 (dk_at dksX0_read_0 15 rfl rfl)
theorem dX0_read_16 : decode cX0_read 16 = .ok (.ireturn, 1) := dk_172 (dk_at dksX0_read_0 16 rfl rfl)
theorem dX0_read_17 : decode cX0_read 17 = .ok (.iconst 0, 1) := dk_3 (dk_at dksX0_read_0 17 rfl rfl)
theorem dX0_read_18 : decode cX0_read 18 = .ok (.ireturn, 1) := dk_172 (dk_at dksX0_read_0 18 rfl rfl)
abbrev cX0_errorPosition : ByteArray := method_34_code
def yX0_errorPosition : MethodName := ⟨RX0, "errorPosition", "(LSkipSchool;[J)I"⟩
def dkwX0_errorPosition_0 : List UInt8 := [43, 3, 42, 182, 0, 125, 133, 80, 167, 0, 6, 77, 4, 172, 3, 172]
abbrev dktX0_errorPosition_0 : List UInt8 := dkwX0_errorPosition_0 ++ []
theorem dksX0_errorPosition_0 : cX0_errorPosition.data.toList.drop 0 = dktX0_errorPosition_0 := by decide +kernel
theorem dX0_errorPosition_0 : decode cX0_errorPosition 0 = .ok (.aload_n 1, 1) := dk_43 (dk_at dksX0_errorPosition_0 0 rfl rfl)
theorem dX0_errorPosition_1 : decode cX0_errorPosition 1 = .ok (.iconst 0, 1) := dk_3 (dk_at dksX0_errorPosition_0 1 rfl rfl)
theorem dX0_errorPosition_2 : decode cX0_errorPosition 2 = .ok (.aload_n 0, 1) := dk_42 (dk_at dksX0_errorPosition_0 2 rfl rfl)
theorem dX0_errorPosition_3 : decode cX0_errorPosition 3 = .ok (.invokevirtual 125, 3) := dk_182 0 125 (dk_at dksX0_errorPosition_0 3 rfl rfl)
theorem dX0_errorPosition_6 : decode cX0_errorPosition 6 = .ok (.i2l, 1) := dk_133 (dk_at dksX0_errorPosition_0 6 rfl rfl)
theorem dX0_errorPosition_7 : decode cX0_errorPosition 7 = .ok (.lastore, 1) := dk_80 (dk_at dksX0_errorPosition_0 7 rfl rfl)
theorem dX0_errorPosition_8 : decode cX0_errorPosition 8 = .ok (.goto 6, 3) := dk_167 0 6 (dk_at dksX0_errorPosition_0 8 rfl rfl)
theorem dX0_errorPosition_11 : decode cX0_errorPosition 11 = .ok (.astore_n 2, 1) := dk_77 (dk_at dksX0_errorPosition_0 11 rfl rfl)
theorem dX0_errorPosition_12 : decode cX0_errorPosition 12 = .ok (.iconst 1, 1) := dk_4 (dk_at dksX0_errorPosition_0 12 rfl rfl)
theorem dX0_errorPosition_13 : decode cX0_errorPosition 13 = .ok (.ireturn, 1) := dk_172 (dk_at dksX0_errorPosition_0 13 rfl rfl)
theorem dX0_errorPosition_14 : decode cX0_errorPosition 14 = .ok (.iconst 0, 1) := dk_3 (dk_at dksX0_errorPosition_0 14 rfl rfl)
theorem dX0_errorPosition_15 : decode cX0_errorPosition 15 = .ok (.ireturn, 1) := dk_172 (dk_at dksX0_errorPosition_0 15 rfl rfl)
abbrev cX0_refusedItem : ByteArray := method_35_code
def yX0_refusedItem : MethodName := ⟨RX0, "refusedItem", "(LSkipSchool;[J)I"⟩
def dkwX0_refusedItem_0 : List UInt8 := [43, 3, 42, 182, 0, 128, 133, 80, 167, 0, 6, 77, 4, 172, 3, 172]
abbrev dktX0_refusedItem_0 : List UInt8 := dkwX0_refusedItem_0 ++ []
theorem dksX0_refusedItem_0 : cX0_refusedItem.data.toList.drop 0 = dktX0_refusedItem_0 := by decide +kernel
theorem dX0_refusedItem_0 : decode cX0_refusedItem 0 = .ok (.aload_n 1, 1) := dk_43 (dk_at dksX0_refusedItem_0 0 rfl rfl)
theorem dX0_refusedItem_1 : decode cX0_refusedItem 1 = .ok (.iconst 0, 1) := dk_3 (dk_at dksX0_refusedItem_0 1 rfl rfl)
theorem dX0_refusedItem_2 : decode cX0_refusedItem 2 = .ok (.aload_n 0, 1) := dk_42 (dk_at dksX0_refusedItem_0 2 rfl rfl)
theorem dX0_refusedItem_3 : decode cX0_refusedItem 3 = .ok (.invokevirtual 128, 3) := dk_182 0 128 (dk_at dksX0_refusedItem_0 3 rfl rfl)
theorem dX0_refusedItem_6 : decode cX0_refusedItem 6 = .ok (.i2l, 1) := dk_133 (dk_at dksX0_refusedItem_0 6 rfl rfl)
theorem dX0_refusedItem_7 : decode cX0_refusedItem 7 = .ok (.lastore, 1) := dk_80 (dk_at dksX0_refusedItem_0 7 rfl rfl)
theorem dX0_refusedItem_8 : decode cX0_refusedItem 8 = .ok (.goto 6, 3) := dk_167 0 6 (dk_at dksX0_refusedItem_0 8 rfl rfl)
theorem dX0_refusedItem_11 : decode cX0_refusedItem 11 = .ok (.astore_n 2, 1) := dk_77 (dk_at dksX0_refusedItem_0 11 rfl rfl)
theorem dX0_refusedItem_12 : decode cX0_refusedItem 12 = .ok (.iconst 1, 1) := dk_4 (dk_at dksX0_refusedItem_0 12 rfl rfl)
theorem dX0_refusedItem_13 : decode cX0_refusedItem 13 = .ok (.ireturn, 1) := dk_172 (dk_at dksX0_refusedItem_0 13 rfl rfl)
theorem dX0_refusedItem_14 : decode cX0_refusedItem 14 = .ok (.iconst 0, 1) := dk_3 (dk_at dksX0_refusedItem_0 14 rfl rfl)
theorem dX0_refusedItem_15 : decode cX0_refusedItem 15 = .ok (.ireturn, 1) := dk_172 (dk_at dksX0_refusedItem_0 15 rfl rfl)
abbrev cX0_undo : ByteArray := method_36_code
def yX0_undo : MethodName := ⟨RX0, "undo", "(LSkipSchool;[J)I"⟩
def dkwX0_undo_0 : List UInt8 := [43, 3, 42, 182, 0, 131, 133, 80, 167, 0, 6, 77, 4, 172, 3, 172]
abbrev dktX0_undo_0 : List UInt8 := dkwX0_undo_0 ++ []
theorem dksX0_undo_0 : cX0_undo.data.toList.drop 0 = dktX0_undo_0 := by decide +kernel
theorem dX0_undo_0 : decode cX0_undo 0 = .ok (.aload_n 1, 1) := dk_43 (dk_at dksX0_undo_0 0 rfl rfl)
theorem dX0_undo_1 : decode cX0_undo 1 = .ok (.iconst 0, 1) := dk_3 (dk_at dksX0_undo_0 1 rfl rfl)
theorem dX0_undo_2 : decode cX0_undo 2 = .ok (.aload_n 0, 1) := dk_42 (dk_at dksX0_undo_0 2 rfl rfl)
theorem dX0_undo_3 : decode cX0_undo 3 = .ok (.invokevirtual 131, 3) := dk_182 0 131 (dk_at dksX0_undo_0 3 rfl rfl)
theorem dX0_undo_6 : decode cX0_undo 6 = .ok (.i2l, 1) := dk_133 (dk_at dksX0_undo_0 6 rfl rfl)
theorem dX0_undo_7 : decode cX0_undo 7 = .ok (.lastore, 1) := dk_80 (dk_at dksX0_undo_0 7 rfl rfl)
theorem dX0_undo_8 : decode cX0_undo 8 = .ok (.goto 6, 3) := dk_167 0 6 (dk_at dksX0_undo_0 8 rfl rfl)
theorem dX0_undo_11 : decode cX0_undo 11 = .ok (.astore_n 2, 1) := dk_77 (dk_at dksX0_undo_0 11 rfl rfl)
theorem dX0_undo_12 : decode cX0_undo 12 = .ok (.iconst 1, 1) := dk_4 (dk_at dksX0_undo_0 12 rfl rfl)
theorem dX0_undo_13 : decode cX0_undo 13 = .ok (.ireturn, 1) := dk_172 (dk_at dksX0_undo_0 13 rfl rfl)
theorem dX0_undo_14 : decode cX0_undo 14 = .ok (.iconst 0, 1) := dk_3 (dk_at dksX0_undo_0 14 rfl rfl)
theorem dX0_undo_15 : decode cX0_undo 15 = .ok (.ireturn, 1) := dk_172 (dk_at dksX0_undo_0 15 rfl rfl)
abbrev cX0_restore : ByteArray := method_37_code
def yX0_restore : MethodName := ⟨RX0, "restore", "(LSkipSchool;[J)I"⟩
def dkwX0_restore_0 : List UInt8 := [43, 3, 42, 182, 0, 134, 133, 80, 167, 0, 6, 77, 4, 172, 3, 172]
abbrev dktX0_restore_0 : List UInt8 := dkwX0_restore_0 ++ []
theorem dksX0_restore_0 : cX0_restore.data.toList.drop 0 = dktX0_restore_0 := by decide +kernel
theorem dX0_restore_0 : decode cX0_restore 0 = .ok (.aload_n 1, 1) := dk_43 (dk_at dksX0_restore_0 0 rfl rfl)
theorem dX0_restore_1 : decode cX0_restore 1 = .ok (.iconst 0, 1) := dk_3 (dk_at dksX0_restore_0 1 rfl rfl)
theorem dX0_restore_2 : decode cX0_restore 2 = .ok (.aload_n 0, 1) := dk_42 (dk_at dksX0_restore_0 2 rfl rfl)
theorem dX0_restore_3 : decode cX0_restore 3 = .ok (.invokevirtual 134, 3) := dk_182 0 134 (dk_at dksX0_restore_0 3 rfl rfl)
theorem dX0_restore_6 : decode cX0_restore 6 = .ok (.i2l, 1) := dk_133 (dk_at dksX0_restore_0 6 rfl rfl)
theorem dX0_restore_7 : decode cX0_restore 7 = .ok (.lastore, 1) := dk_80 (dk_at dksX0_restore_0 7 rfl rfl)
theorem dX0_restore_8 : decode cX0_restore 8 = .ok (.goto 6, 3) := dk_167 0 6 (dk_at dksX0_restore_0 8 rfl rfl)
theorem dX0_restore_11 : decode cX0_restore 11 = .ok (.astore_n 2, 1) := dk_77 (dk_at dksX0_restore_0 11 rfl rfl)
theorem dX0_restore_12 : decode cX0_restore 12 = .ok (.iconst 1, 1) := dk_4 (dk_at dksX0_restore_0 12 rfl rfl)
theorem dX0_restore_13 : decode cX0_restore 13 = .ok (.ireturn, 1) := dk_172 (dk_at dksX0_restore_0 13 rfl rfl)
theorem dX0_restore_14 : decode cX0_restore 14 = .ok (.iconst 0, 1) := dk_3 (dk_at dksX0_restore_0 14 rfl rfl)
theorem dX0_restore_15 : decode cX0_restore 15 = .ok (.ireturn, 1) := dk_172 (dk_at dksX0_restore_0 15 rfl rfl)
theorem q70 : (Jvm.Cond.initialized "SkipSchoolLaw") ∈ lw_all := lw_g (lw_at lw_m1 0 rfl) rfl
theorem q119 : (Jvm.Cond.classLink "SkipSchoolLaw" (8 : Nat) "SkipSchool") ∈ lw_all := lw_g (lw_at lw_m1 49 rfl) rfl
theorem q121 : (Jvm.Cond.methodLink "SkipSchoolLaw" (137 : Nat) ({ cls := "SkipSchool", name := "<init>", desc := "()V" } : Jvm.MethodName)) ∈ lw_all := lw_g (lw_at lw_m1 51 rfl) rfl
theorem q300 : (Jvm.Cond.methodLink "SkipSchoolLaw" (141 : Nat) ({ cls := "SkipSchool", name := "clear", desc := "()I" } : Jvm.MethodName)) ∈ lw_all := lw_g (lw_at lw_m1 230 rfl) rfl
theorem q315 : (Jvm.Cond.methodLink "SkipSchoolLaw" (196 : Nat) ({ cls := "SkipSchool", name := "day", desc := "()I" } : Jvm.MethodName)) ∈ lw_all := lw_g (lw_at lw_m2 5 rfl) rfl
theorem q1574 : (Jvm.Cond.methodLink "SkipSchoolLaw" (226 : Nat) ({ cls := "SkipSchool", name := "isRight", desc := "()Z" } : Jvm.MethodName)) ∈ lw_all := lw_g (lw_at lw_m7 64 rfl) rfl
theorem q1683 : (Jvm.Cond.methodLink "SkipSchoolLaw" (270 : Nat) ({ cls := "SkipSchool", name := "snapshot", desc := "()I" } : Jvm.MethodName)) ∈ lw_all := lw_g (lw_at lw_m7 173 rfl) rfl
theorem q1687 : (Jvm.Cond.methodLink "SkipSchoolLaw" (145 : Nat) ({ cls := "SkipSchoolLaw", name := "stone", desc := "(LSkipSchool;II[J)I" } : Jvm.MethodName)) ∈ lw_all := lw_g (lw_at lw_m7 177 rfl) rfl
theorem q1688 : (Jvm.Cond.static ({ cls := "SkipSchoolLaw", name := "stone", desc := "(LSkipSchool;II[J)I" } : Jvm.MethodName)) ∈ lw_all := lw_g (lw_at lw_m7 178 rfl) rfl
theorem q1689 : (Jvm.Cond.codeWith ({ cls := "SkipSchoolLaw", name := "stone", desc := "(LSkipSchool;II[J)I" } : Jvm.MethodName) method_3_code (5 : Nat) (Option.some Jvm.ClassFile.FieldType.int) [((0 : Nat), (10 : Nat), (13 : Nat), (13 : Nat)), ((0 : Nat), (10 : Nat), (17 : Nat), (15 : Nat))]) ∈ lw_all := lw_g (lw_at lw_m7 179 rfl) rfl
theorem q1690 : (Jvm.Cond.classLink "SkipSchoolLaw" (13 : Nat) "java/lang/IllegalArgumentException") ∈ lw_all := lw_g (lw_at lw_m7 180 rfl) rfl
theorem q1691 : (Jvm.Cond.classLink "SkipSchoolLaw" (15 : Nat) "java/lang/UnsupportedOperationException") ∈ lw_all := lw_g (lw_at lw_m7 181 rfl) rfl
theorem q1692 : (Jvm.Cond.methodLink "SkipSchoolLaw" (7 : Nat) ({ cls := "SkipSchool", name := "stone", desc := "(II)I" } : Jvm.MethodName)) ∈ lw_all := lw_g (lw_at lw_m7 182 rfl) rfl
theorem q1697 : (Jvm.Cond.methodLink "SkipSchoolLaw" (154 : Nat) ({ cls := "SkipSchoolLaw", name := "river", desc := "(LSkipSchool;II[J)I" } : Jvm.MethodName)) ∈ lw_all := lw_g (lw_at lw_m7 187 rfl) rfl
theorem q1698 : (Jvm.Cond.static ({ cls := "SkipSchoolLaw", name := "river", desc := "(LSkipSchool;II[J)I" } : Jvm.MethodName)) ∈ lw_all := lw_g (lw_at lw_m7 188 rfl) rfl
theorem q1699 : (Jvm.Cond.codeWith ({ cls := "SkipSchoolLaw", name := "river", desc := "(LSkipSchool;II[J)I" } : Jvm.MethodName) method_4_code (5 : Nat) (Option.some Jvm.ClassFile.FieldType.int) [((0 : Nat), (10 : Nat), (13 : Nat), (13 : Nat)), ((0 : Nat), (10 : Nat), (17 : Nat), (15 : Nat))]) ∈ lw_all := lw_g (lw_at lw_m7 189 rfl) rfl
theorem q1700 : (Jvm.Cond.methodLink "SkipSchoolLaw" (17 : Nat) ({ cls := "SkipSchool", name := "river", desc := "(II)I" } : Jvm.MethodName)) ∈ lw_all := lw_g (lw_at lw_m7 190 rfl) rfl
theorem q1705 : (Jvm.Cond.methodLink "SkipSchoolLaw" (157 : Nat) ({ cls := "SkipSchoolLaw", name := "calm", desc := "(LSkipSchool;II[J)I" } : Jvm.MethodName)) ∈ lw_all := lw_g (lw_at lw_m7 195 rfl) rfl
theorem q1706 : (Jvm.Cond.static ({ cls := "SkipSchoolLaw", name := "calm", desc := "(LSkipSchool;II[J)I" } : Jvm.MethodName)) ∈ lw_all := lw_g (lw_at lw_m7 196 rfl) rfl
theorem q1707 : (Jvm.Cond.codeWith ({ cls := "SkipSchoolLaw", name := "calm", desc := "(LSkipSchool;II[J)I" } : Jvm.MethodName) method_5_code (5 : Nat) (Option.some Jvm.ClassFile.FieldType.int) [((0 : Nat), (10 : Nat), (13 : Nat), (23 : Nat)), ((0 : Nat), (10 : Nat), (17 : Nat), (13 : Nat)), ((0 : Nat), (10 : Nat), (21 : Nat), (15 : Nat))]) ∈ lw_all := lw_g (lw_at lw_m7 197 rfl) rfl
theorem q1708 : (Jvm.Cond.classLink "SkipSchoolLaw" (23 : Nat) "java/lang/IndexOutOfBoundsException") ∈ lw_all := lw_g (lw_at lw_m7 198 rfl) rfl
theorem q1724 : (Jvm.Cond.methodLink "SkipSchoolLaw" (20 : Nat) ({ cls := "SkipSchool", name := "calm", desc := "(II)I" } : Jvm.MethodName)) ∈ lw_all := lw_g (lw_at lw_m7 214 rfl) rfl
theorem q1729 : (Jvm.Cond.methodLink "SkipSchoolLaw" (160 : Nat) ({ cls := "SkipSchoolLaw", name := "stoneOf", desc := "(LSkipSchool;II[J)I" } : Jvm.MethodName)) ∈ lw_all := lw_g (lw_at lw_m7 219 rfl) rfl
theorem q1730 : (Jvm.Cond.static ({ cls := "SkipSchoolLaw", name := "stoneOf", desc := "(LSkipSchool;II[J)I" } : Jvm.MethodName)) ∈ lw_all := lw_g (lw_at lw_m7 220 rfl) rfl
theorem q1731 : (Jvm.Cond.codeWith ({ cls := "SkipSchoolLaw", name := "stoneOf", desc := "(LSkipSchool;II[J)I" } : Jvm.MethodName) method_6_code (5 : Nat) (Option.some Jvm.ClassFile.FieldType.int) [((0 : Nat), (10 : Nat), (13 : Nat), (23 : Nat)), ((0 : Nat), (10 : Nat), (17 : Nat), (13 : Nat))]) ∈ lw_all := lw_g (lw_at lw_m7 221 rfl) rfl
theorem q1732 : (Jvm.Cond.methodLink "SkipSchoolLaw" (25 : Nat) ({ cls := "SkipSchool", name := "stoneOf", desc := "(II)I" } : Jvm.MethodName)) ∈ lw_all := lw_g (lw_at lw_m7 222 rfl) rfl
theorem q1761 : (Jvm.Cond.methodLink "SkipSchoolLaw" (163 : Nat) ({ cls := "SkipSchoolLaw", name := "grade", desc := "(LSkipSchool;I[J)I" } : Jvm.MethodName)) ∈ lw_all := lw_g (lw_at lw_m8 11 rfl) rfl
theorem q1762 : (Jvm.Cond.static ({ cls := "SkipSchoolLaw", name := "grade", desc := "(LSkipSchool;I[J)I" } : Jvm.MethodName)) ∈ lw_all := lw_g (lw_at lw_m8 12 rfl) rfl
theorem q1763 : (Jvm.Cond.codeWith ({ cls := "SkipSchoolLaw", name := "grade", desc := "(LSkipSchool;I[J)I" } : Jvm.MethodName) method_7_code (4 : Nat) (Option.some Jvm.ClassFile.FieldType.int) [((0 : Nat), (9 : Nat), (12 : Nat), (23 : Nat))]) ∈ lw_all := lw_g (lw_at lw_m8 13 rfl) rfl
theorem q1764 : (Jvm.Cond.methodLink "SkipSchoolLaw" (28 : Nat) ({ cls := "SkipSchool", name := "grade", desc := "(I)C" } : Jvm.MethodName)) ∈ lw_all := lw_g (lw_at lw_m8 14 rfl) rfl
theorem q1772 : (Jvm.Cond.methodLink "SkipSchoolLaw" (167 : Nat) ({ cls := "SkipSchoolLaw", name := "riverOf", desc := "(LSkipSchool;II[J)I" } : Jvm.MethodName)) ∈ lw_all := lw_g (lw_at lw_m8 22 rfl) rfl
theorem q1773 : (Jvm.Cond.static ({ cls := "SkipSchoolLaw", name := "riverOf", desc := "(LSkipSchool;II[J)I" } : Jvm.MethodName)) ∈ lw_all := lw_g (lw_at lw_m8 23 rfl) rfl
theorem q1774 : (Jvm.Cond.codeWith ({ cls := "SkipSchoolLaw", name := "riverOf", desc := "(LSkipSchool;II[J)I" } : Jvm.MethodName) method_8_code (5 : Nat) (Option.some Jvm.ClassFile.FieldType.int) [((0 : Nat), (10 : Nat), (13 : Nat), (23 : Nat)), ((0 : Nat), (10 : Nat), (17 : Nat), (13 : Nat))]) ∈ lw_all := lw_g (lw_at lw_m8 24 rfl) rfl
theorem q1775 : (Jvm.Cond.methodLink "SkipSchoolLaw" (32 : Nat) ({ cls := "SkipSchool", name := "riverOf", desc := "(II)I" } : Jvm.MethodName)) ∈ lw_all := lw_g (lw_at lw_m8 25 rfl) rfl
theorem q1789 : (Jvm.Cond.methodLink "SkipSchoolLaw" (170 : Nat) ({ cls := "SkipSchoolLaw", name := "book", desc := "(LSkipSchool;III[J)I" } : Jvm.MethodName)) ∈ lw_all := lw_g (lw_at lw_m8 39 rfl) rfl
theorem q1790 : (Jvm.Cond.static ({ cls := "SkipSchoolLaw", name := "book", desc := "(LSkipSchool;III[J)I" } : Jvm.MethodName)) ∈ lw_all := lw_g (lw_at lw_m8 40 rfl) rfl
theorem q1791 : (Jvm.Cond.codeWith ({ cls := "SkipSchoolLaw", name := "book", desc := "(LSkipSchool;III[J)I" } : Jvm.MethodName) method_9_code (6 : Nat) (Option.some Jvm.ClassFile.FieldType.int) [((0 : Nat), (12 : Nat), (15 : Nat), (23 : Nat)), ((0 : Nat), (12 : Nat), (19 : Nat), (13 : Nat)), ((0 : Nat), (12 : Nat), (23 : Nat), (15 : Nat))]) ∈ lw_all := lw_g (lw_at lw_m8 41 rfl) rfl
theorem q1792 : (Jvm.Cond.methodLink "SkipSchoolLaw" (35 : Nat) ({ cls := "SkipSchool", name := "book", desc := "(III)I" } : Jvm.MethodName)) ∈ lw_all := lw_g (lw_at lw_m8 42 rfl) rfl
theorem q1797 : (Jvm.Cond.methodLink "SkipSchoolLaw" (174 : Nat) ({ cls := "SkipSchoolLaw", name := "free", desc := "(LSkipSchool;II[J)I" } : Jvm.MethodName)) ∈ lw_all := lw_g (lw_at lw_m8 47 rfl) rfl
theorem q1798 : (Jvm.Cond.static ({ cls := "SkipSchoolLaw", name := "free", desc := "(LSkipSchool;II[J)I" } : Jvm.MethodName)) ∈ lw_all := lw_g (lw_at lw_m8 48 rfl) rfl
theorem q1799 : (Jvm.Cond.codeWith ({ cls := "SkipSchoolLaw", name := "free", desc := "(LSkipSchool;II[J)I" } : Jvm.MethodName) method_10_code (5 : Nat) (Option.some Jvm.ClassFile.FieldType.int) [((0 : Nat), (10 : Nat), (13 : Nat), (23 : Nat)), ((0 : Nat), (10 : Nat), (17 : Nat), (13 : Nat)), ((0 : Nat), (10 : Nat), (21 : Nat), (15 : Nat))]) ∈ lw_all := lw_g (lw_at lw_m8 49 rfl) rfl
theorem q1800 : (Jvm.Cond.methodLink "SkipSchoolLaw" (39 : Nat) ({ cls := "SkipSchool", name := "free", desc := "(II)I" } : Jvm.MethodName)) ∈ lw_all := lw_g (lw_at lw_m8 50 rfl) rfl
theorem q1805 : (Jvm.Cond.methodLink "SkipSchoolLaw" (177 : Nat) ({ cls := "SkipSchoolLaw", name := "booked", desc := "(LSkipSchool;II[J)I" } : Jvm.MethodName)) ∈ lw_all := lw_g (lw_at lw_m8 55 rfl) rfl
theorem q1806 : (Jvm.Cond.static ({ cls := "SkipSchoolLaw", name := "booked", desc := "(LSkipSchool;II[J)I" } : Jvm.MethodName)) ∈ lw_all := lw_g (lw_at lw_m8 56 rfl) rfl
theorem q1807 : (Jvm.Cond.codeWith ({ cls := "SkipSchoolLaw", name := "booked", desc := "(LSkipSchool;II[J)I" } : Jvm.MethodName) method_11_code (5 : Nat) (Option.some Jvm.ClassFile.FieldType.int) [((0 : Nat), (10 : Nat), (13 : Nat), (23 : Nat)), ((0 : Nat), (10 : Nat), (17 : Nat), (13 : Nat))]) ∈ lw_all := lw_g (lw_at lw_m8 57 rfl) rfl
theorem q1808 : (Jvm.Cond.methodLink "SkipSchoolLaw" (42 : Nat) ({ cls := "SkipSchool", name := "booked", desc := "(II)I" } : Jvm.MethodName)) ∈ lw_all := lw_g (lw_at lw_m8 58 rfl) rfl
theorem q1815 : (Jvm.Cond.methodLink "SkipSchoolLaw" (180 : Nat) ({ cls := "SkipSchoolLaw", name := "nextFree", desc := "(LSkipSchool;II[J)I" } : Jvm.MethodName)) ∈ lw_all := lw_g (lw_at lw_m8 65 rfl) rfl
theorem q1816 : (Jvm.Cond.static ({ cls := "SkipSchoolLaw", name := "nextFree", desc := "(LSkipSchool;II[J)I" } : Jvm.MethodName)) ∈ lw_all := lw_g (lw_at lw_m8 66 rfl) rfl
theorem q1817 : (Jvm.Cond.codeWith ({ cls := "SkipSchoolLaw", name := "nextFree", desc := "(LSkipSchool;II[J)I" } : Jvm.MethodName) method_12_code (5 : Nat) (Option.some Jvm.ClassFile.FieldType.int) [((0 : Nat), (10 : Nat), (13 : Nat), (23 : Nat)), ((0 : Nat), (10 : Nat), (17 : Nat), (13 : Nat)), ((0 : Nat), (10 : Nat), (21 : Nat), (48 : Nat))]) ∈ lw_all := lw_g (lw_at lw_m8 67 rfl) rfl
theorem q1818 : (Jvm.Cond.classLink "SkipSchoolLaw" (48 : Nat) "java/util/NoSuchElementException") ∈ lw_all := lw_g (lw_at lw_m8 68 rfl) rfl
theorem q1819 : (Jvm.Cond.methodLink "SkipSchoolLaw" (45 : Nat) ({ cls := "SkipSchool", name := "nextFree", desc := "(II)I" } : Jvm.MethodName)) ∈ lw_all := lw_g (lw_at lw_m8 69 rfl) rfl
theorem q1837 : (Jvm.Cond.methodLink "SkipSchoolLaw" (183 : Nat) ({ cls := "SkipSchoolLaw", name := "teach", desc := "(LSkipSchool;I[J)I" } : Jvm.MethodName)) ∈ lw_all := lw_g (lw_at lw_m8 87 rfl) rfl
theorem q1838 : (Jvm.Cond.static ({ cls := "SkipSchoolLaw", name := "teach", desc := "(LSkipSchool;I[J)I" } : Jvm.MethodName)) ∈ lw_all := lw_g (lw_at lw_m8 88 rfl) rfl
theorem q1839 : (Jvm.Cond.codeWith ({ cls := "SkipSchoolLaw", name := "teach", desc := "(LSkipSchool;I[J)I" } : Jvm.MethodName) method_13_code (4 : Nat) (Option.some Jvm.ClassFile.FieldType.int) [((0 : Nat), (9 : Nat), (12 : Nat), (23 : Nat)), ((0 : Nat), (9 : Nat), (15 : Nat), (15 : Nat))]) ∈ lw_all := lw_g (lw_at lw_m8 89 rfl) rfl
theorem q1840 : (Jvm.Cond.methodLink "SkipSchoolLaw" (50 : Nat) ({ cls := "SkipSchool", name := "teach", desc := "(I)I" } : Jvm.MethodName)) ∈ lw_all := lw_g (lw_at lw_m8 90 rfl) rfl
theorem q1845 : (Jvm.Cond.methodLink "SkipSchoolLaw" (186 : Nat) ({ cls := "SkipSchoolLaw", name := "trial", desc := "(LSkipSchool;IIII[J)I" } : Jvm.MethodName)) ∈ lw_all := lw_g (lw_at lw_m8 95 rfl) rfl
theorem q1846 : (Jvm.Cond.static ({ cls := "SkipSchoolLaw", name := "trial", desc := "(LSkipSchool;IIII[J)I" } : Jvm.MethodName)) ∈ lw_all := lw_g (lw_at lw_m8 96 rfl) rfl
theorem q1847 : (Jvm.Cond.codeWith ({ cls := "SkipSchoolLaw", name := "trial", desc := "(LSkipSchool;IIII[J)I" } : Jvm.MethodName) method_14_code (7 : Nat) (Option.some Jvm.ClassFile.FieldType.int) [((0 : Nat), (14 : Nat), (17 : Nat), (23 : Nat)), ((0 : Nat), (14 : Nat), (21 : Nat), (13 : Nat)), ((0 : Nat), (14 : Nat), (25 : Nat), (15 : Nat))]) ∈ lw_all := lw_g (lw_at lw_m8 97 rfl) rfl
theorem q1848 : (Jvm.Cond.methodLink "SkipSchoolLaw" (54 : Nat) ({ cls := "SkipSchool", name := "trial", desc := "(IIII)I" } : Jvm.MethodName)) ∈ lw_all := lw_g (lw_at lw_m8 98 rfl) rfl
theorem q1853 : (Jvm.Cond.methodLink "SkipSchoolLaw" (190 : Nat) ({ cls := "SkipSchoolLaw", name := "skim", desc := "(LSkipSchool;IIII[J)I" } : Jvm.MethodName)) ∈ lw_all := lw_g (lw_at lw_m8 103 rfl) rfl
theorem q1854 : (Jvm.Cond.static ({ cls := "SkipSchoolLaw", name := "skim", desc := "(LSkipSchool;IIII[J)I" } : Jvm.MethodName)) ∈ lw_all := lw_g (lw_at lw_m8 104 rfl) rfl
theorem q1855 : (Jvm.Cond.codeWith ({ cls := "SkipSchoolLaw", name := "skim", desc := "(LSkipSchool;IIII[J)I" } : Jvm.MethodName) method_15_code (7 : Nat) (Option.some Jvm.ClassFile.FieldType.int) [((0 : Nat), (14 : Nat), (17 : Nat), (23 : Nat)), ((0 : Nat), (14 : Nat), (21 : Nat), (13 : Nat)), ((0 : Nat), (14 : Nat), (25 : Nat), (15 : Nat))]) ∈ lw_all := lw_g (lw_at lw_m8 105 rfl) rfl
theorem q1856 : (Jvm.Cond.methodLink "SkipSchoolLaw" (58 : Nat) ({ cls := "SkipSchool", name := "skim", desc := "(IIII)I" } : Jvm.MethodName)) ∈ lw_all := lw_g (lw_at lw_m8 106 rfl) rfl
theorem q1861 : (Jvm.Cond.methodLink "SkipSchoolLaw" (193 : Nat) ({ cls := "SkipSchoolLaw", name := "fetch", desc := "(LSkipSchool;I[J)I" } : Jvm.MethodName)) ∈ lw_all := lw_g (lw_at lw_m8 111 rfl) rfl
theorem q1862 : (Jvm.Cond.static ({ cls := "SkipSchoolLaw", name := "fetch", desc := "(LSkipSchool;I[J)I" } : Jvm.MethodName)) ∈ lw_all := lw_g (lw_at lw_m8 112 rfl) rfl
theorem q1863 : (Jvm.Cond.codeWith ({ cls := "SkipSchoolLaw", name := "fetch", desc := "(LSkipSchool;I[J)I" } : Jvm.MethodName) method_16_code (4 : Nat) (Option.some Jvm.ClassFile.FieldType.int) [((0 : Nat), (9 : Nat), (12 : Nat), (23 : Nat)), ((0 : Nat), (9 : Nat), (15 : Nat), (15 : Nat))]) ∈ lw_all := lw_g (lw_at lw_m8 113 rfl) rfl
theorem q1864 : (Jvm.Cond.methodLink "SkipSchoolLaw" (61 : Nat) ({ cls := "SkipSchool", name := "fetch", desc := "(I)I" } : Jvm.MethodName)) ∈ lw_all := lw_g (lw_at lw_m8 114 rfl) rfl
theorem q1869 : (Jvm.Cond.methodLink "SkipSchoolLaw" (200 : Nat) ({ cls := "SkipSchoolLaw", name := "skips", desc := "(LSkipSchool;IIIIZ[J)I" } : Jvm.MethodName)) ∈ lw_all := lw_g (lw_at lw_m8 119 rfl) rfl
theorem q1870 : (Jvm.Cond.static ({ cls := "SkipSchoolLaw", name := "skips", desc := "(LSkipSchool;IIIIZ[J)I" } : Jvm.MethodName)) ∈ lw_all := lw_g (lw_at lw_m8 120 rfl) rfl
theorem q1871 : (Jvm.Cond.codeWith ({ cls := "SkipSchoolLaw", name := "skips", desc := "(LSkipSchool;IIIIZ[J)I" } : Jvm.MethodName) method_17_code (8 : Nat) (Option.some Jvm.ClassFile.FieldType.int) [((0 : Nat), (16 : Nat), (19 : Nat), (23 : Nat)), ((0 : Nat), (16 : Nat), (23 : Nat), (13 : Nat))]) ∈ lw_all := lw_g (lw_at lw_m8 121 rfl) rfl
theorem q1872 : (Jvm.Cond.methodLink "SkipSchoolLaw" (64 : Nat) ({ cls := "SkipSchool", name := "skips", desc := "(IIIIZ)I" } : Jvm.MethodName)) ∈ lw_all := lw_g (lw_at lw_m8 122 rfl) rfl
theorem q1879 : (Jvm.Cond.methodLink "SkipSchoolLaw" (204 : Nat) ({ cls := "SkipSchoolLaw", name := "way", desc := "(LSkipSchool;IIIIZ[J)I" } : Jvm.MethodName)) ∈ lw_all := lw_g (lw_at lw_m8 129 rfl) rfl
theorem q1880 : (Jvm.Cond.static ({ cls := "SkipSchoolLaw", name := "way", desc := "(LSkipSchool;IIIIZ[J)I" } : Jvm.MethodName)) ∈ lw_all := lw_g (lw_at lw_m8 130 rfl) rfl
theorem q1881 : (Jvm.Cond.codeWith ({ cls := "SkipSchoolLaw", name := "way", desc := "(LSkipSchool;IIIIZ[J)I" } : Jvm.MethodName) method_18_code (8 : Nat) (Option.some Jvm.ClassFile.FieldType.int) [((0 : Nat), (16 : Nat), (19 : Nat), (23 : Nat)), ((0 : Nat), (16 : Nat), (23 : Nat), (13 : Nat))]) ∈ lw_all := lw_g (lw_at lw_m8 131 rfl) rfl
theorem q1882 : (Jvm.Cond.methodLink "SkipSchoolLaw" (68 : Nat) ({ cls := "SkipSchool", name := "way", desc := "(IIIIZ)I" } : Jvm.MethodName)) ∈ lw_all := lw_g (lw_at lw_m8 132 rfl) rfl
theorem q1888 : (Jvm.Cond.methodLink "SkipSchoolLaw" (207 : Nat) ({ cls := "SkipSchoolLaw", name := "bestAngle", desc := "(LSkipSchool;III[J)I" } : Jvm.MethodName)) ∈ lw_all := lw_g (lw_at lw_m8 138 rfl) rfl
theorem q1889 : (Jvm.Cond.static ({ cls := "SkipSchoolLaw", name := "bestAngle", desc := "(LSkipSchool;III[J)I" } : Jvm.MethodName)) ∈ lw_all := lw_g (lw_at lw_m8 139 rfl) rfl
theorem q1890 : (Jvm.Cond.codeWith ({ cls := "SkipSchoolLaw", name := "bestAngle", desc := "(LSkipSchool;III[J)I" } : Jvm.MethodName) method_19_code (6 : Nat) (Option.some Jvm.ClassFile.FieldType.int) [((0 : Nat), (12 : Nat), (15 : Nat), (23 : Nat)), ((0 : Nat), (12 : Nat), (19 : Nat), (13 : Nat))]) ∈ lw_all := lw_g (lw_at lw_m8 140 rfl) rfl
theorem q1891 : (Jvm.Cond.methodLink "SkipSchoolLaw" (71 : Nat) ({ cls := "SkipSchool", name := "bestAngle", desc := "(III)I" } : Jvm.MethodName)) ∈ lw_all := lw_g (lw_at lw_m8 141 rfl) rfl
theorem q1899 : (Jvm.Cond.methodLink "SkipSchoolLaw" (210 : Nat) ({ cls := "SkipSchoolLaw", name := "leastSpeed", desc := "(LSkipSchool;III[J)I" } : Jvm.MethodName)) ∈ lw_all := lw_g (lw_at lw_m8 149 rfl) rfl
theorem q1900 : (Jvm.Cond.static ({ cls := "SkipSchoolLaw", name := "leastSpeed", desc := "(LSkipSchool;III[J)I" } : Jvm.MethodName)) ∈ lw_all := lw_g (lw_at lw_m8 150 rfl) rfl
theorem q1901 : (Jvm.Cond.codeWith ({ cls := "SkipSchoolLaw", name := "leastSpeed", desc := "(LSkipSchool;III[J)I" } : Jvm.MethodName) method_20_code (6 : Nat) (Option.some Jvm.ClassFile.FieldType.int) [((0 : Nat), (12 : Nat), (15 : Nat), (23 : Nat)), ((0 : Nat), (12 : Nat), (19 : Nat), (13 : Nat)), ((0 : Nat), (12 : Nat), (23 : Nat), (48 : Nat))]) ∈ lw_all := lw_g (lw_at lw_m8 151 rfl) rfl
theorem q1902 : (Jvm.Cond.methodLink "SkipSchoolLaw" (74 : Nat) ({ cls := "SkipSchool", name := "leastSpeed", desc := "(III)I" } : Jvm.MethodName)) ∈ lw_all := lw_g (lw_at lw_m8 152 rfl) rfl
theorem q1910 : (Jvm.Cond.methodLink "SkipSchoolLaw" (213 : Nat) ({ cls := "SkipSchoolLaw", name := "alumnus", desc := "(LSkipSchool;I[J)I" } : Jvm.MethodName)) ∈ lw_all := lw_g (lw_at lw_m8 160 rfl) rfl
theorem q1911 : (Jvm.Cond.static ({ cls := "SkipSchoolLaw", name := "alumnus", desc := "(LSkipSchool;I[J)I" } : Jvm.MethodName)) ∈ lw_all := lw_g (lw_at lw_m8 161 rfl) rfl
theorem q1912 : (Jvm.Cond.codeWith ({ cls := "SkipSchoolLaw", name := "alumnus", desc := "(LSkipSchool;I[J)I" } : Jvm.MethodName) method_21_code (4 : Nat) (Option.some Jvm.ClassFile.FieldType.int) [((0 : Nat), (9 : Nat), (12 : Nat), (48 : Nat))]) ∈ lw_all := lw_g (lw_at lw_m8 162 rfl) rfl
theorem q1913 : (Jvm.Cond.methodLink "SkipSchoolLaw" (77 : Nat) ({ cls := "SkipSchool", name := "alumnus", desc := "(I)I" } : Jvm.MethodName)) ∈ lw_all := lw_g (lw_at lw_m8 163 rfl) rfl
theorem q1921 : (Jvm.Cond.methodLink "SkipSchoolLaw" (216 : Nat) ({ cls := "SkipSchoolLaw", name := "sankOn", desc := "(LSkipSchool;I[J)I" } : Jvm.MethodName)) ∈ lw_all := lw_g (lw_at lw_m8 171 rfl) rfl
theorem q1922 : (Jvm.Cond.static ({ cls := "SkipSchoolLaw", name := "sankOn", desc := "(LSkipSchool;I[J)I" } : Jvm.MethodName)) ∈ lw_all := lw_g (lw_at lw_m8 172 rfl) rfl
theorem q1923 : (Jvm.Cond.codeWith ({ cls := "SkipSchoolLaw", name := "sankOn", desc := "(LSkipSchool;I[J)I" } : Jvm.MethodName) method_22_code (4 : Nat) (Option.some Jvm.ClassFile.FieldType.int) [((0 : Nat), (9 : Nat), (12 : Nat), (23 : Nat)), ((0 : Nat), (9 : Nat), (15 : Nat), (48 : Nat))]) ∈ lw_all := lw_g (lw_at lw_m8 173 rfl) rfl
theorem q1924 : (Jvm.Cond.methodLink "SkipSchoolLaw" (80 : Nat) ({ cls := "SkipSchool", name := "sankOn", desc := "(I)I" } : Jvm.MethodName)) ∈ lw_all := lw_g (lw_at lw_m8 174 rfl) rfl
theorem q1929 : (Jvm.Cond.methodLink "SkipSchoolLaw" (219 : Nat) ({ cls := "SkipSchoolLaw", name := "ranked", desc := "(LSkipSchool;II[J)I" } : Jvm.MethodName)) ∈ lw_all := lw_g (lw_at lw_m8 179 rfl) rfl
theorem q1930 : (Jvm.Cond.static ({ cls := "SkipSchoolLaw", name := "ranked", desc := "(LSkipSchool;II[J)I" } : Jvm.MethodName)) ∈ lw_all := lw_g (lw_at lw_m8 180 rfl) rfl
theorem q1931 : (Jvm.Cond.codeWith ({ cls := "SkipSchoolLaw", name := "ranked", desc := "(LSkipSchool;II[J)I" } : Jvm.MethodName) method_23_code (5 : Nat) (Option.some Jvm.ClassFile.FieldType.int) [((0 : Nat), (10 : Nat), (13 : Nat), (13 : Nat)), ((0 : Nat), (10 : Nat), (17 : Nat), (48 : Nat))]) ∈ lw_all := lw_g (lw_at lw_m8 181 rfl) rfl
theorem q1932 : (Jvm.Cond.methodLink "SkipSchoolLaw" (83 : Nat) ({ cls := "SkipSchool", name := "ranked", desc := "(II)I" } : Jvm.MethodName)) ∈ lw_all := lw_g (lw_at lw_m8 182 rfl) rfl
theorem q1946 : (Jvm.Cond.methodLink "SkipSchoolLaw" (222 : Nat) ({ cls := "SkipSchoolLaw", name := "graded", desc := "(LSkipSchool;C[J)I" } : Jvm.MethodName)) ∈ lw_all := lw_g (lw_at lw_m8 196 rfl) rfl
theorem q1947 : (Jvm.Cond.static ({ cls := "SkipSchoolLaw", name := "graded", desc := "(LSkipSchool;C[J)I" } : Jvm.MethodName)) ∈ lw_all := lw_g (lw_at lw_m8 197 rfl) rfl
theorem q1948 : (Jvm.Cond.codeWith ({ cls := "SkipSchoolLaw", name := "graded", desc := "(LSkipSchool;C[J)I" } : Jvm.MethodName) method_24_code (4 : Nat) (Option.some Jvm.ClassFile.FieldType.int) [((0 : Nat), (9 : Nat), (12 : Nat), (13 : Nat))]) ∈ lw_all := lw_g (lw_at lw_m8 198 rfl) rfl
theorem q1949 : (Jvm.Cond.methodLink "SkipSchoolLaw" (86 : Nat) ({ cls := "SkipSchool", name := "graded", desc := "(C)I" } : Jvm.MethodName)) ∈ lw_all := lw_g (lw_at lw_m8 199 rfl) rfl
theorem q1960 : (Jvm.Cond.methodLink "SkipSchoolLaw" (231 : Nat) ({ cls := "SkipSchoolLaw", name := "line", desc := "(LSkipSchool;I[J)I" } : Jvm.MethodName)) ∈ lw_all := lw_g (lw_at lw_m8 210 rfl) rfl
theorem q1961 : (Jvm.Cond.static ({ cls := "SkipSchoolLaw", name := "line", desc := "(LSkipSchool;I[J)I" } : Jvm.MethodName)) ∈ lw_all := lw_g (lw_at lw_m8 211 rfl) rfl
theorem q1962 : (Jvm.Cond.codeWith ({ cls := "SkipSchoolLaw", name := "line", desc := "(LSkipSchool;I[J)I" } : Jvm.MethodName) method_25_code (4 : Nat) (Option.some Jvm.ClassFile.FieldType.int) [((0 : Nat), (9 : Nat), (12 : Nat), (23 : Nat))]) ∈ lw_all := lw_g (lw_at lw_m8 212 rfl) rfl
theorem q1963 : (Jvm.Cond.methodLink "SkipSchoolLaw" (90 : Nat) ({ cls := "SkipSchool", name := "line", desc := "(I)I" } : Jvm.MethodName)) ∈ lw_all := lw_g (lw_at lw_m8 213 rfl) rfl
theorem q1989 : (Jvm.Cond.methodLink "SkipSchoolLaw" (234 : Nat) ({ cls := "SkipSchoolLaw", name := "riverLine", desc := "(LSkipSchool;I[J)I" } : Jvm.MethodName)) ∈ lw_all := lw_g (lw_at lw_m8 239 rfl) rfl
theorem q1990 : (Jvm.Cond.static ({ cls := "SkipSchoolLaw", name := "riverLine", desc := "(LSkipSchool;I[J)I" } : Jvm.MethodName)) ∈ lw_all := lw_g (lw_at lw_m9 0 rfl) rfl
theorem q1991 : (Jvm.Cond.codeWith ({ cls := "SkipSchoolLaw", name := "riverLine", desc := "(LSkipSchool;I[J)I" } : Jvm.MethodName) method_26_code (4 : Nat) (Option.some Jvm.ClassFile.FieldType.int) [((0 : Nat), (9 : Nat), (12 : Nat), (23 : Nat))]) ∈ lw_all := lw_g (lw_at lw_m9 1 rfl) rfl
theorem q1992 : (Jvm.Cond.methodLink "SkipSchoolLaw" (93 : Nat) ({ cls := "SkipSchool", name := "riverLine", desc := "(I)I" } : Jvm.MethodName)) ∈ lw_all := lw_g (lw_at lw_m9 2 rfl) rfl
theorem q2023 : (Jvm.Cond.methodLink "SkipSchoolLaw" (237 : Nat) ({ cls := "SkipSchoolLaw", name := "character", desc := "(LSkipSchool;I[J)I" } : Jvm.MethodName)) ∈ lw_all := lw_g (lw_at lw_m9 33 rfl) rfl
theorem q2024 : (Jvm.Cond.static ({ cls := "SkipSchoolLaw", name := "character", desc := "(LSkipSchool;I[J)I" } : Jvm.MethodName)) ∈ lw_all := lw_g (lw_at lw_m9 34 rfl) rfl
theorem q2025 : (Jvm.Cond.codeWith ({ cls := "SkipSchoolLaw", name := "character", desc := "(LSkipSchool;I[J)I" } : Jvm.MethodName) method_27_code (4 : Nat) (Option.some Jvm.ClassFile.FieldType.int) [((0 : Nat), (9 : Nat), (12 : Nat), (23 : Nat))]) ∈ lw_all := lw_g (lw_at lw_m9 35 rfl) rfl
theorem q2026 : (Jvm.Cond.methodLink "SkipSchoolLaw" (96 : Nat) ({ cls := "SkipSchool", name := "character", desc := "(I)C" } : Jvm.MethodName)) ∈ lw_all := lw_g (lw_at lw_m9 36 rfl) rfl
theorem q2042 : (Jvm.Cond.methodLink "SkipSchoolLaw" (240 : Nat) ({ cls := "SkipSchoolLaw", name := "refusal", desc := "(LSkipSchool;Z[J)I" } : Jvm.MethodName)) ∈ lw_all := lw_g (lw_at lw_m9 52 rfl) rfl
theorem q2043 : (Jvm.Cond.static ({ cls := "SkipSchoolLaw", name := "refusal", desc := "(LSkipSchool;Z[J)I" } : Jvm.MethodName)) ∈ lw_all := lw_g (lw_at lw_m9 53 rfl) rfl
theorem q2044 : (Jvm.Cond.codeWith ({ cls := "SkipSchoolLaw", name := "refusal", desc := "(LSkipSchool;Z[J)I" } : Jvm.MethodName) method_28_code (4 : Nat) (Option.some Jvm.ClassFile.FieldType.int) [((0 : Nat), (9 : Nat), (12 : Nat), (103 : Nat))]) ∈ lw_all := lw_g (lw_at lw_m9 54 rfl) rfl
theorem q2045 : (Jvm.Cond.classLink "SkipSchoolLaw" (103 : Nat) "java/lang/IllegalStateException") ∈ lw_all := lw_g (lw_at lw_m9 55 rfl) rfl
theorem q2046 : (Jvm.Cond.methodLink "SkipSchoolLaw" (99 : Nat) ({ cls := "SkipSchool", name := "refusal", desc := "(Z)I" } : Jvm.MethodName)) ∈ lw_all := lw_g (lw_at lw_m9 56 rfl) rfl
theorem q2058 : (Jvm.Cond.methodLink "SkipSchoolLaw" (244 : Nat) ({ cls := "SkipSchoolLaw", name := "account", desc := "(LSkipSchool;I[J)I" } : Jvm.MethodName)) ∈ lw_all := lw_g (lw_at lw_m9 68 rfl) rfl
theorem q2059 : (Jvm.Cond.static ({ cls := "SkipSchoolLaw", name := "account", desc := "(LSkipSchool;I[J)I" } : Jvm.MethodName)) ∈ lw_all := lw_g (lw_at lw_m9 69 rfl) rfl
theorem q2060 : (Jvm.Cond.codeWith ({ cls := "SkipSchoolLaw", name := "account", desc := "(LSkipSchool;I[J)I" } : Jvm.MethodName) method_29_code (4 : Nat) (Option.some Jvm.ClassFile.FieldType.int) [((0 : Nat), (9 : Nat), (12 : Nat), (13 : Nat))]) ∈ lw_all := lw_g (lw_at lw_m9 70 rfl) rfl
theorem q2061 : (Jvm.Cond.methodLink "SkipSchoolLaw" (105 : Nat) ({ cls := "SkipSchool", name := "account", desc := "(I)I" } : Jvm.MethodName)) ∈ lw_all := lw_g (lw_at lw_m9 71 rfl) rfl
theorem q2071 : (Jvm.Cond.methodLink "SkipSchoolLaw" (247 : Nat) ({ cls := "SkipSchoolLaw", name := "meanSkill", desc := "(LSkipSchool;[D)I" } : Jvm.MethodName)) ∈ lw_all := lw_g (lw_at lw_m9 81 rfl) rfl
theorem q2072 : (Jvm.Cond.static ({ cls := "SkipSchoolLaw", name := "meanSkill", desc := "(LSkipSchool;[D)I" } : Jvm.MethodName)) ∈ lw_all := lw_g (lw_at lw_m9 82 rfl) rfl
theorem q2073 : (Jvm.Cond.codeWith ({ cls := "SkipSchoolLaw", name := "meanSkill", desc := "(LSkipSchool;[D)I" } : Jvm.MethodName) method_30_code (3 : Nat) (Option.some Jvm.ClassFile.FieldType.int) [((0 : Nat), (7 : Nat), (10 : Nat), (112 : Nat))]) ∈ lw_all := lw_g (lw_at lw_m9 83 rfl) rfl
theorem q2074 : (Jvm.Cond.classLink "SkipSchoolLaw" (112 : Nat) "java/lang/ArithmeticException") ∈ lw_all := lw_g (lw_at lw_m9 84 rfl) rfl
theorem q2088 : (Jvm.Cond.methodLink "SkipSchoolLaw" (108 : Nat) ({ cls := "SkipSchool", name := "meanSkill", desc := "()D" } : Jvm.MethodName)) ∈ lw_all := lw_g (lw_at lw_m9 98 rfl) rfl
theorem q2104 : (Jvm.Cond.methodLink "SkipSchoolLaw" (251 : Nat) ({ cls := "SkipSchoolLaw", name := "crossShare", desc := "(LSkipSchool;[D)I" } : Jvm.MethodName)) ∈ lw_all := lw_g (lw_at lw_m9 114 rfl) rfl
theorem q2105 : (Jvm.Cond.static ({ cls := "SkipSchoolLaw", name := "crossShare", desc := "(LSkipSchool;[D)I" } : Jvm.MethodName)) ∈ lw_all := lw_g (lw_at lw_m9 115 rfl) rfl
theorem q2106 : (Jvm.Cond.codeWith ({ cls := "SkipSchoolLaw", name := "crossShare", desc := "(LSkipSchool;[D)I" } : Jvm.MethodName) method_31_code (3 : Nat) (Option.some Jvm.ClassFile.FieldType.int) [((0 : Nat), (8 : Nat), (11 : Nat), (112 : Nat))]) ∈ lw_all := lw_g (lw_at lw_m9 116 rfl) rfl
theorem q2107 : (Jvm.Cond.methodLink "SkipSchoolLaw" (114 : Nat) ({ cls := "SkipSchool", name := "crossShare", desc := "()F" } : Jvm.MethodName)) ∈ lw_all := lw_g (lw_at lw_m9 117 rfl) rfl
theorem q2111 : (Jvm.Cond.methodLink "SkipSchoolLaw" (254 : Nat) ({ cls := "SkipSchoolLaw", name := "append", desc := "(LSkipSchool;I[J)I" } : Jvm.MethodName)) ∈ lw_all := lw_g (lw_at lw_m9 121 rfl) rfl
theorem q2112 : (Jvm.Cond.static ({ cls := "SkipSchoolLaw", name := "append", desc := "(LSkipSchool;I[J)I" } : Jvm.MethodName)) ∈ lw_all := lw_g (lw_at lw_m9 122 rfl) rfl
theorem q2113 : (Jvm.Cond.codeWith ({ cls := "SkipSchoolLaw", name := "append", desc := "(LSkipSchool;I[J)I" } : Jvm.MethodName) method_32_code (4 : Nat) (Option.some Jvm.ClassFile.FieldType.int) [((0 : Nat), (9 : Nat), (12 : Nat), (13 : Nat)), ((0 : Nat), (9 : Nat), (15 : Nat), (103 : Nat))]) ∈ lw_all := lw_g (lw_at lw_m9 123 rfl) rfl
theorem q2114 : (Jvm.Cond.methodLink "SkipSchoolLaw" (118 : Nat) ({ cls := "SkipSchool", name := "append", desc := "(I)I" } : Jvm.MethodName)) ∈ lw_all := lw_g (lw_at lw_m9 124 rfl) rfl
theorem q2121 : (Jvm.Cond.methodLink "SkipSchoolLaw" (257 : Nat) ({ cls := "SkipSchoolLaw", name := "read", desc := "(LSkipSchool;[J)I" } : Jvm.MethodName)) ∈ lw_all := lw_g (lw_at lw_m9 131 rfl) rfl
theorem q2122 : (Jvm.Cond.static ({ cls := "SkipSchoolLaw", name := "read", desc := "(LSkipSchool;[J)I" } : Jvm.MethodName)) ∈ lw_all := lw_g (lw_at lw_m9 132 rfl) rfl
theorem q2123 : (Jvm.Cond.codeWith ({ cls := "SkipSchoolLaw", name := "read", desc := "(LSkipSchool;[J)I" } : Jvm.MethodName) method_33_code (3 : Nat) (Option.some Jvm.ClassFile.FieldType.int) [((0 : Nat), (8 : Nat), (11 : Nat), (13 : Nat)), ((0 : Nat), (8 : Nat), (14 : Nat), (15 : Nat))]) ∈ lw_all := lw_g (lw_at lw_m9 133 rfl) rfl
theorem q2124 : (Jvm.Cond.methodLink "SkipSchoolLaw" (121 : Nat) ({ cls := "SkipSchool", name := "read", desc := "()I" } : Jvm.MethodName)) ∈ lw_all := lw_g (lw_at lw_m9 134 rfl) rfl
theorem q2267 : (Jvm.Cond.methodLink "SkipSchoolLaw" (261 : Nat) ({ cls := "SkipSchoolLaw", name := "errorPosition", desc := "(LSkipSchool;[J)I" } : Jvm.MethodName)) ∈ lw_all := lw_g (lw_at lw_m10 37 rfl) rfl
theorem q2268 : (Jvm.Cond.static ({ cls := "SkipSchoolLaw", name := "errorPosition", desc := "(LSkipSchool;[J)I" } : Jvm.MethodName)) ∈ lw_all := lw_g (lw_at lw_m10 38 rfl) rfl
theorem q2269 : (Jvm.Cond.codeWith ({ cls := "SkipSchoolLaw", name := "errorPosition", desc := "(LSkipSchool;[J)I" } : Jvm.MethodName) method_34_code (3 : Nat) (Option.some Jvm.ClassFile.FieldType.int) [((0 : Nat), (8 : Nat), (11 : Nat), (48 : Nat))]) ∈ lw_all := lw_g (lw_at lw_m10 39 rfl) rfl
theorem q2270 : (Jvm.Cond.methodLink "SkipSchoolLaw" (125 : Nat) ({ cls := "SkipSchool", name := "errorPosition", desc := "()I" } : Jvm.MethodName)) ∈ lw_all := lw_g (lw_at lw_m10 40 rfl) rfl
theorem q2274 : (Jvm.Cond.methodLink "SkipSchoolLaw" (264 : Nat) ({ cls := "SkipSchoolLaw", name := "refusedItem", desc := "(LSkipSchool;[J)I" } : Jvm.MethodName)) ∈ lw_all := lw_g (lw_at lw_m10 44 rfl) rfl
theorem q2275 : (Jvm.Cond.static ({ cls := "SkipSchoolLaw", name := "refusedItem", desc := "(LSkipSchool;[J)I" } : Jvm.MethodName)) ∈ lw_all := lw_g (lw_at lw_m10 45 rfl) rfl
theorem q2276 : (Jvm.Cond.codeWith ({ cls := "SkipSchoolLaw", name := "refusedItem", desc := "(LSkipSchool;[J)I" } : Jvm.MethodName) method_35_code (3 : Nat) (Option.some Jvm.ClassFile.FieldType.int) [((0 : Nat), (8 : Nat), (11 : Nat), (48 : Nat))]) ∈ lw_all := lw_g (lw_at lw_m10 46 rfl) rfl
theorem q2277 : (Jvm.Cond.methodLink "SkipSchoolLaw" (128 : Nat) ({ cls := "SkipSchool", name := "refusedItem", desc := "()I" } : Jvm.MethodName)) ∈ lw_all := lw_g (lw_at lw_m10 47 rfl) rfl
theorem q2281 : (Jvm.Cond.methodLink "SkipSchoolLaw" (267 : Nat) ({ cls := "SkipSchoolLaw", name := "undo", desc := "(LSkipSchool;[J)I" } : Jvm.MethodName)) ∈ lw_all := lw_g (lw_at lw_m10 51 rfl) rfl
theorem q2282 : (Jvm.Cond.static ({ cls := "SkipSchoolLaw", name := "undo", desc := "(LSkipSchool;[J)I" } : Jvm.MethodName)) ∈ lw_all := lw_g (lw_at lw_m10 52 rfl) rfl
theorem q2283 : (Jvm.Cond.codeWith ({ cls := "SkipSchoolLaw", name := "undo", desc := "(LSkipSchool;[J)I" } : Jvm.MethodName) method_36_code (3 : Nat) (Option.some Jvm.ClassFile.FieldType.int) [((0 : Nat), (8 : Nat), (11 : Nat), (103 : Nat))]) ∈ lw_all := lw_g (lw_at lw_m10 53 rfl) rfl
theorem q2284 : (Jvm.Cond.methodLink "SkipSchoolLaw" (131 : Nat) ({ cls := "SkipSchool", name := "undo", desc := "()I" } : Jvm.MethodName)) ∈ lw_all := lw_g (lw_at lw_m10 54 rfl) rfl
theorem q2303 : (Jvm.Cond.methodLink "SkipSchoolLaw" (274 : Nat) ({ cls := "SkipSchoolLaw", name := "restore", desc := "(LSkipSchool;[J)I" } : Jvm.MethodName)) ∈ lw_all := lw_g (lw_at lw_m10 73 rfl) rfl
theorem q2304 : (Jvm.Cond.static ({ cls := "SkipSchoolLaw", name := "restore", desc := "(LSkipSchool;[J)I" } : Jvm.MethodName)) ∈ lw_all := lw_g (lw_at lw_m10 74 rfl) rfl
theorem q2305 : (Jvm.Cond.codeWith ({ cls := "SkipSchoolLaw", name := "restore", desc := "(LSkipSchool;[J)I" } : Jvm.MethodName) method_37_code (3 : Nat) (Option.some Jvm.ClassFile.FieldType.int) [((0 : Nat), (8 : Nat), (11 : Nat), (103 : Nat))]) ∈ lw_all := lw_g (lw_at lw_m10 75 rfl) rfl
theorem q2306 : (Jvm.Cond.methodLink "SkipSchoolLaw" (134 : Nat) ({ cls := "SkipSchool", name := "restore", desc := "()I" } : Jvm.MethodName)) ∈ lw_all := lw_g (lw_at lw_m10 76 rfl) rfl
theorem q2310 : (Jvm.Cond.classLink "SkipSchoolLaw" (138 : Nat) "SkipSchoolModel") ∈ lw_all := lw_g (lw_at lw_m10 80 rfl) rfl
theorem q2312 : (Jvm.Cond.methodLink "SkipSchoolLaw" (140 : Nat) ({ cls := "SkipSchoolModel", name := "<init>", desc := "()V" } : Jvm.MethodName)) ∈ lw_all := lw_g (lw_at lw_m10 82 rfl) rfl
theorem q2379 : (Jvm.Cond.methodLink "SkipSchoolLaw" (151 : Nat) ({ cls := "SkipSchoolModel", name := "thrown", desc := "()I" } : Jvm.MethodName)) ∈ lw_all := lw_g (lw_at lw_m10 149 rfl) rfl
theorem q2383 : (Jvm.Cond.methodLink "SkipSchoolLaw" (144 : Nat) ({ cls := "SkipSchoolModel", name := "clear", desc := "()I" } : Jvm.MethodName)) ∈ lw_all := lw_g (lw_at lw_m10 153 rfl) rfl
theorem q2387 : (Jvm.Cond.methodLink "SkipSchoolLaw" (150 : Nat) ({ cls := "SkipSchoolModel", name := "stone", desc := "(II)I" } : Jvm.MethodName)) ∈ lw_all := lw_g (lw_at lw_m10 157 rfl) rfl
theorem q2413 : (Jvm.Cond.methodLink "SkipSchoolLaw" (156 : Nat) ({ cls := "SkipSchoolModel", name := "river", desc := "(II)I" } : Jvm.MethodName)) ∈ lw_all := lw_g (lw_at lw_m10 183 rfl) rfl
theorem q2417 : (Jvm.Cond.methodLink "SkipSchoolLaw" (159 : Nat) ({ cls := "SkipSchoolModel", name := "calm", desc := "(II)I" } : Jvm.MethodName)) ∈ lw_all := lw_g (lw_at lw_m10 187 rfl) rfl
theorem q2429 : (Jvm.Cond.methodLink "SkipSchoolLaw" (162 : Nat) ({ cls := "SkipSchoolModel", name := "stoneOf", desc := "(II)I" } : Jvm.MethodName)) ∈ lw_all := lw_g (lw_at lw_m10 199 rfl) rfl
theorem q2449 : (Jvm.Cond.methodLink "SkipSchoolLaw" (166 : Nat) ({ cls := "SkipSchoolModel", name := "grade", desc := "(I)C" } : Jvm.MethodName)) ∈ lw_all := lw_g (lw_at lw_m10 219 rfl) rfl
theorem q2457 : (Jvm.Cond.methodLink "SkipSchoolLaw" (169 : Nat) ({ cls := "SkipSchoolModel", name := "riverOf", desc := "(II)I" } : Jvm.MethodName)) ∈ lw_all := lw_g (lw_at lw_m10 227 rfl) rfl
theorem q2473 : (Jvm.Cond.methodLink "SkipSchoolLaw" (173 : Nat) ({ cls := "SkipSchoolModel", name := "book", desc := "(III)I" } : Jvm.MethodName)) ∈ lw_all := lw_g (lw_at lw_m11 3 rfl) rfl
theorem q2484 : (Jvm.Cond.methodLink "SkipSchoolLaw" (176 : Nat) ({ cls := "SkipSchoolModel", name := "free", desc := "(II)I" } : Jvm.MethodName)) ∈ lw_all := lw_g (lw_at lw_m11 14 rfl) rfl
theorem q2488 : (Jvm.Cond.methodLink "SkipSchoolLaw" (179 : Nat) ({ cls := "SkipSchoolModel", name := "booked", desc := "(II)I" } : Jvm.MethodName)) ∈ lw_all := lw_g (lw_at lw_m11 18 rfl) rfl
theorem q2492 : (Jvm.Cond.methodLink "SkipSchoolLaw" (182 : Nat) ({ cls := "SkipSchoolModel", name := "nextFree", desc := "(II)I" } : Jvm.MethodName)) ∈ lw_all := lw_g (lw_at lw_m11 22 rfl) rfl
theorem q2496 : (Jvm.Cond.methodLink "SkipSchoolLaw" (185 : Nat) ({ cls := "SkipSchoolModel", name := "teach", desc := "(I)I" } : Jvm.MethodName)) ∈ lw_all := lw_g (lw_at lw_m11 26 rfl) rfl
theorem q2503 : (Jvm.Cond.methodLink "SkipSchoolLaw" (189 : Nat) ({ cls := "SkipSchoolModel", name := "trial", desc := "(IIII)I" } : Jvm.MethodName)) ∈ lw_all := lw_g (lw_at lw_m11 33 rfl) rfl
theorem q2529 : (Jvm.Cond.methodLink "SkipSchoolLaw" (192 : Nat) ({ cls := "SkipSchoolModel", name := "skim", desc := "(IIII)I" } : Jvm.MethodName)) ∈ lw_all := lw_g (lw_at lw_m11 59 rfl) rfl
theorem q2537 : (Jvm.Cond.methodLink "SkipSchoolLaw" (195 : Nat) ({ cls := "SkipSchoolModel", name := "fetch", desc := "(I)I" } : Jvm.MethodName)) ∈ lw_all := lw_g (lw_at lw_m11 67 rfl) rfl
theorem q2541 : (Jvm.Cond.methodLink "SkipSchoolLaw" (199 : Nat) ({ cls := "SkipSchoolModel", name := "day", desc := "()I" } : Jvm.MethodName)) ∈ lw_all := lw_g (lw_at lw_m11 71 rfl) rfl
theorem q2545 : (Jvm.Cond.methodLink "SkipSchoolLaw" (203 : Nat) ({ cls := "SkipSchoolModel", name := "skips", desc := "(IIIIZ)I" } : Jvm.MethodName)) ∈ lw_all := lw_g (lw_at lw_m11 75 rfl) rfl
theorem q2549 : (Jvm.Cond.methodLink "SkipSchoolLaw" (206 : Nat) ({ cls := "SkipSchoolModel", name := "way", desc := "(IIIIZ)I" } : Jvm.MethodName)) ∈ lw_all := lw_g (lw_at lw_m11 79 rfl) rfl
theorem q2553 : (Jvm.Cond.methodLink "SkipSchoolLaw" (209 : Nat) ({ cls := "SkipSchoolModel", name := "bestAngle", desc := "(III)I" } : Jvm.MethodName)) ∈ lw_all := lw_g (lw_at lw_m11 83 rfl) rfl
theorem q2557 : (Jvm.Cond.methodLink "SkipSchoolLaw" (212 : Nat) ({ cls := "SkipSchoolModel", name := "leastSpeed", desc := "(III)I" } : Jvm.MethodName)) ∈ lw_all := lw_g (lw_at lw_m11 87 rfl) rfl
theorem q2561 : (Jvm.Cond.methodLink "SkipSchoolLaw" (215 : Nat) ({ cls := "SkipSchoolModel", name := "alumnus", desc := "(I)I" } : Jvm.MethodName)) ∈ lw_all := lw_g (lw_at lw_m11 91 rfl) rfl
theorem q2565 : (Jvm.Cond.methodLink "SkipSchoolLaw" (218 : Nat) ({ cls := "SkipSchoolModel", name := "sankOn", desc := "(I)I" } : Jvm.MethodName)) ∈ lw_all := lw_g (lw_at lw_m11 95 rfl) rfl
theorem q2569 : (Jvm.Cond.methodLink "SkipSchoolLaw" (221 : Nat) ({ cls := "SkipSchoolModel", name := "ranked", desc := "(II)I" } : Jvm.MethodName)) ∈ lw_all := lw_g (lw_at lw_m11 99 rfl) rfl
theorem q2573 : (Jvm.Cond.methodLink "SkipSchoolLaw" (225 : Nat) ({ cls := "SkipSchoolModel", name := "graded", desc := "(C)I" } : Jvm.MethodName)) ∈ lw_all := lw_g (lw_at lw_m11 103 rfl) rfl
theorem q2577 : (Jvm.Cond.methodLink "SkipSchoolLaw" (230 : Nat) ({ cls := "SkipSchoolModel", name := "isRight", desc := "()Z" } : Jvm.MethodName)) ∈ lw_all := lw_g (lw_at lw_m11 107 rfl) rfl
theorem q2581 : (Jvm.Cond.methodLink "SkipSchoolLaw" (233 : Nat) ({ cls := "SkipSchoolModel", name := "line", desc := "(I)I" } : Jvm.MethodName)) ∈ lw_all := lw_g (lw_at lw_m11 111 rfl) rfl
theorem q2593 : (Jvm.Cond.methodLink "SkipSchoolLaw" (236 : Nat) ({ cls := "SkipSchoolModel", name := "riverLine", desc := "(I)I" } : Jvm.MethodName)) ∈ lw_all := lw_g (lw_at lw_m11 123 rfl) rfl
theorem q2597 : (Jvm.Cond.methodLink "SkipSchoolLaw" (239 : Nat) ({ cls := "SkipSchoolModel", name := "character", desc := "(I)C" } : Jvm.MethodName)) ∈ lw_all := lw_g (lw_at lw_m11 127 rfl) rfl
theorem q2601 : (Jvm.Cond.methodLink "SkipSchoolLaw" (243 : Nat) ({ cls := "SkipSchoolModel", name := "refusal", desc := "(Z)I" } : Jvm.MethodName)) ∈ lw_all := lw_g (lw_at lw_m11 131 rfl) rfl
theorem q2605 : (Jvm.Cond.methodLink "SkipSchoolLaw" (246 : Nat) ({ cls := "SkipSchoolModel", name := "account", desc := "(I)I" } : Jvm.MethodName)) ∈ lw_all := lw_g (lw_at lw_m11 135 rfl) rfl
theorem q2613 : (Jvm.Cond.methodLink "SkipSchoolLaw" (250 : Nat) ({ cls := "SkipSchoolModel", name := "meanSkill", desc := "()D" } : Jvm.MethodName)) ∈ lw_all := lw_g (lw_at lw_m11 143 rfl) rfl
theorem q2617 : (Jvm.Cond.methodLink "SkipSchoolLaw" (253 : Nat) ({ cls := "SkipSchoolModel", name := "crossShare", desc := "()F" } : Jvm.MethodName)) ∈ lw_all := lw_g (lw_at lw_m11 147 rfl) rfl
theorem q2621 : (Jvm.Cond.methodLink "SkipSchoolLaw" (256 : Nat) ({ cls := "SkipSchoolModel", name := "append", desc := "(I)I" } : Jvm.MethodName)) ∈ lw_all := lw_g (lw_at lw_m11 151 rfl) rfl
theorem q2625 : (Jvm.Cond.methodLink "SkipSchoolLaw" (260 : Nat) ({ cls := "SkipSchoolModel", name := "read", desc := "()I" } : Jvm.MethodName)) ∈ lw_all := lw_g (lw_at lw_m11 155 rfl) rfl
theorem q2695 : (Jvm.Cond.methodLink "SkipSchoolLaw" (263 : Nat) ({ cls := "SkipSchoolModel", name := "errorPosition", desc := "()I" } : Jvm.MethodName)) ∈ lw_all := lw_g (lw_at lw_m11 225 rfl) rfl
theorem q2699 : (Jvm.Cond.methodLink "SkipSchoolLaw" (266 : Nat) ({ cls := "SkipSchoolModel", name := "refusedItem", desc := "()I" } : Jvm.MethodName)) ∈ lw_all := lw_g (lw_at lw_m11 229 rfl) rfl
theorem q2703 : (Jvm.Cond.methodLink "SkipSchoolLaw" (269 : Nat) ({ cls := "SkipSchoolModel", name := "undo", desc := "()I" } : Jvm.MethodName)) ∈ lw_all := lw_g (lw_at lw_m11 233 rfl) rfl
theorem q2707 : (Jvm.Cond.methodLink "SkipSchoolLaw" (273 : Nat) ({ cls := "SkipSchoolModel", name := "snapshot", desc := "()I" } : Jvm.MethodName)) ∈ lw_all := lw_g (lw_at lw_m11 237 rfl) rfl
theorem q2711 : (Jvm.Cond.methodLink "SkipSchoolLaw" (276 : Nat) ({ cls := "SkipSchoolModel", name := "restore", desc := "()I" } : Jvm.MethodName)) ∈ lw_all := lw_g (lw_at lw_m12 1 rfl) rfl

/-! SkipSchool -/
set_option maxRecDepth 100000
def RX1 : String := "SkipSchool"
def TX1 : u_T := fun k => match k with
  | 0 => ("SkipSchool", "school", "LSkipSchool$School;", false)
  | 1 => ("SkipSchool", "undoSteps", "Ljava/util/ArrayDeque;", true)
  | 2 => ("SkipSchool", "saved", "LSkipSchool$School;", false)
  | 3 => ("SkipSchool", "input", "Ljava/lang/StringBuilder;", false)
  | 4 => ("SkipSchool", "line", "Ljava/lang/String;", false)
  | 5 => ("SkipSchool", "lastError", "LSkipSchool$SyntaxException;", false)
  | 6 => ("SkipSchool", "lastItem", "I", false)
  | _ => ("SkipSchool", "lastRefusal", "LSkipSchool$Refused;", false)
def tyX1 : Nat → FieldType := fun k => match k with
  | 0 => .object "SkipSchool$School"
  | 1 => .object "java/util/ArrayDeque"
  | 2 => .object "SkipSchool$School"
  | 3 => .object "java/lang/StringBuilder"
  | 4 => .object "java/lang/String"
  | 5 => .object "SkipSchool$SyntaxException"
  | 6 => .int
  | _ => .object "SkipSchool$Refused"
abbrev wsX10 : List Cond := u_ws RX1 TX1 8
theorem nmX1 : ∀ a, a < 8 → ∀ b, b < 8 → a ≠ b → (TX1 a).2.1 ≠ (TX1 b).2.1 := by decide +kernel
theorem tyX1_ok : ∀ k, k < 8 → parseFieldDescriptor (TX1 k).2.2.1 = some (tyX1 k) := by decide +kernel
abbrev cX1_init : ByteArray := prog_1_method_10_code
def yX1_init : MethodName := ⟨RX1, "<init>", "()V"⟩
def dkwX1_init_2 : List UInt8 := [181, 0, 65, 177]
abbrev dktX1_init_2 : List UInt8 := dkwX1_init_2 ++ []
def dkwX1_init_1 : List UInt8 := [181, 0, 48, 42, 187, 0, 52, 89, 183, 0, 54, 181, 0, 55, 42, 18, 59, 181, 0, 61, 42, 2]
abbrev dktX1_init_1 : List UInt8 := dkwX1_init_1 ++ dktX1_init_2
def dkwX1_init_0 : List UInt8 := [42, 183, 0, 35, 42, 187, 0, 38, 89, 183, 0, 40, 181, 0, 41, 42, 187, 0, 45, 89, 183, 0, 47]
abbrev dktX1_init_0 : List UInt8 := dkwX1_init_0 ++ dktX1_init_1
theorem dksX1_init_0 : cX1_init.data.toList.drop 0 = dktX1_init_0 := by decide +kernel
theorem dksX1_init_1 : cX1_init.data.toList.drop 23 = dktX1_init_1 := dk_seg dksX1_init_0 23 rfl rfl
theorem dksX1_init_2 : cX1_init.data.toList.drop 45 = dktX1_init_2 := dk_seg dksX1_init_1 22 rfl rfl
theorem dX1_init_0 : decode cX1_init 0 = .ok (.aload_n 0, 1) := dk_42 (dk_at dksX1_init_0 0 rfl rfl)
theorem dX1_init_1 : decode cX1_init 1 = .ok (.invokespecial 35, 3) := dk_183 0 35 (dk_at dksX1_init_0 1 rfl rfl)
theorem dX1_init_4 : decode cX1_init 4 = .ok (.aload_n 0, 1) := dk_42 (dk_at dksX1_init_0 4 rfl rfl)
theorem dX1_init_5 : decode cX1_init 5 = .ok (.new 38, 3) := dk_187 0 38 (dk_at dksX1_init_0 5 rfl rfl)
theorem dX1_init_8 : decode cX1_init 8 = .ok (.dup, 1) := dk_89 (dk_at dksX1_init_0 8 rfl rfl)
theorem dX1_init_9 : decode cX1_init 9 = .ok (.invokespecial 40, 3) := dk_183 0 40 (dk_at dksX1_init_0 9 rfl rfl)
theorem dX1_init_12 : decode cX1_init 12 = .ok (.putfield 41, 3) := dk_181 0 41 (dk_at dksX1_init_0 12 rfl rfl)
theorem dX1_init_15 : decode cX1_init 15 = .ok (.aload_n 0, 1) := dk_42 (dk_at dksX1_init_0 15 rfl rfl)
theorem dX1_init_16 : decode cX1_init 16 = .ok (.new 45, 3) := dk_187 0 45 (dk_at dksX1_init_0 16 rfl rfl)
theorem dX1_init_19 : decode cX1_init 19 = .ok (.dup, 1) := dk_89 (dk_at dksX1_init_0 19 rfl rfl)
theorem dX1_init_20 : decode cX1_init 20 = .ok (.invokespecial 47, 3) := dk_183 0 47 (dk_at dksX1_init_0 20 rfl rfl)
theorem dX1_init_23 : decode cX1_init 23 = .ok (.putfield 48, 3) := dk_181 0 48 (dk_at dksX1_init_1 0 rfl rfl)
theorem dX1_init_26 : decode cX1_init 26 = .ok (.aload_n 0, 1) := dk_42 (dk_at dksX1_init_1 3 rfl rfl)
theorem dX1_init_27 : decode cX1_init 27 = .ok (.new 52, 3) := dk_187 0 52 (dk_at dksX1_init_1 4 rfl rfl)
theorem dX1_init_30 : decode cX1_init 30 = .ok (.dup, 1) := dk_89 (dk_at dksX1_init_1 7 rfl rfl)
theorem dX1_init_31 : decode cX1_init 31 = .ok (.invokespecial 54, 3) := dk_183 0 54 (dk_at dksX1_init_1 8 rfl rfl)
theorem dX1_init_34 : decode cX1_init 34 = .ok (.putfield 55, 3) := dk_181 0 55 (dk_at dksX1_init_1 11 rfl rfl)
theorem dX1_init_37 : decode cX1_init 37 = .ok (.aload_n 0, 1) := dk_42 (dk_at dksX1_init_1 14 rfl rfl)
theorem dX1_init_38 : decode cX1_init 38 = .ok (.ldc 59, 2) := dk_18 59 (dk_at dksX1_init_1 15 rfl rfl)
theorem dX1_init_40 : decode cX1_init 40 = .ok (.putfield 61, 3) := dk_181 0 61 (dk_at dksX1_init_1 17 rfl rfl)
theorem dX1_init_43 : decode cX1_init 43 = .ok (.aload_n 0, 1) := dk_42 (dk_at dksX1_init_1 20 rfl rfl)
theorem dX1_init_44 : decode cX1_init 44 = .ok (.iconst (-1), 1) := dk_2 (dk_at dksX1_init_1 21 rfl rfl)
theorem dX1_init_45 : decode cX1_init 45 = .ok (.putfield 65, 3) := dk_181 0 65 (dk_at dksX1_init_2 0 rfl rfl)
theorem dX1_init_48 : decode cX1_init 48 = .ok (.return_, 1) := dk_177 (dk_at dksX1_init_2 3 rfl rfl)
abbrev cX1_clear : ByteArray := prog_1_method_13_code
def yX1_clear : MethodName := ⟨RX1, "clear", "()I"⟩
def dkwX1_clear_1 : List UInt8 := [180, 0, 48, 182, 0, 114, 27, 172]
abbrev dktX1_clear_1 : List UInt8 := dkwX1_clear_1 ++ []
def dkwX1_clear_0 : List UInt8 := [42, 180, 0, 41, 180, 0, 107, 182, 0, 111, 60, 42, 187, 0, 38, 89, 183, 0, 40, 181, 0, 41, 42]
abbrev dktX1_clear_0 : List UInt8 := dkwX1_clear_0 ++ dktX1_clear_1
theorem dksX1_clear_0 : cX1_clear.data.toList.drop 0 = dktX1_clear_0 := by decide +kernel
theorem dksX1_clear_1 : cX1_clear.data.toList.drop 23 = dktX1_clear_1 := dk_seg dksX1_clear_0 23 rfl rfl
theorem dX1_clear_0 : decode cX1_clear 0 = .ok (.aload_n 0, 1) := dk_42 (dk_at dksX1_clear_0 0 rfl rfl)
theorem dX1_clear_1 : decode cX1_clear 1 = .ok (.getfield 41, 3) := dk_180 0 41 (dk_at dksX1_clear_0 1 rfl rfl)
theorem dX1_clear_4 : decode cX1_clear 4 = .ok (.getfield 107, 3) := dk_180 0 107 (dk_at dksX1_clear_0 4 rfl rfl)
theorem dX1_clear_7 : decode cX1_clear 7 = .ok (.invokevirtual 111, 3) := dk_182 0 111 (dk_at dksX1_clear_0 7 rfl rfl)
theorem dX1_clear_10 : decode cX1_clear 10 = .ok (.istore_n 1, 1) := dk_60 (dk_at dksX1_clear_0 10 rfl rfl)
theorem dX1_clear_11 : decode cX1_clear 11 = .ok (.aload_n 0, 1) := dk_42 (dk_at dksX1_clear_0 11 rfl rfl)
theorem dX1_clear_12 : decode cX1_clear 12 = .ok (.new 38, 3) := dk_187 0 38 (dk_at dksX1_clear_0 12 rfl rfl)
theorem dX1_clear_15 : decode cX1_clear 15 = .ok (.dup, 1) := dk_89 (dk_at dksX1_clear_0 15 rfl rfl)
theorem dX1_clear_16 : decode cX1_clear 16 = .ok (.invokespecial 40, 3) := dk_183 0 40 (dk_at dksX1_clear_0 16 rfl rfl)
theorem dX1_clear_19 : decode cX1_clear 19 = .ok (.putfield 41, 3) := dk_181 0 41 (dk_at dksX1_clear_0 19 rfl rfl)
theorem dX1_clear_22 : decode cX1_clear 22 = .ok (.aload_n 0, 1) := dk_42 (dk_at dksX1_clear_0 22 rfl rfl)
theorem dX1_clear_23 : decode cX1_clear 23 = .ok (.getfield 48, 3) := dk_180 0 48 (dk_at dksX1_clear_1 0 rfl rfl)
theorem dX1_clear_26 : decode cX1_clear 26 = .ok (.invokevirtual 114, 3) := dk_182 0 114 (dk_at dksX1_clear_1 3 rfl rfl)
theorem dX1_clear_29 : decode cX1_clear 29 = .ok (.iload_n 1, 1) := dk_27 (dk_at dksX1_clear_1 6 rfl rfl)
theorem dX1_clear_30 : decode cX1_clear 30 = .ok (.ireturn, 1) := dk_172 (dk_at dksX1_clear_1 7 rfl rfl)
abbrev cX1_day : ByteArray := prog_1_method_28_code
def yX1_day : MethodName := ⟨RX1, "day", "()I"⟩
def dkwX1_day_0 : List UInt8 := [42, 18, 179, 3, 188, 10, 182, 0, 119, 172]
abbrev dktX1_day_0 : List UInt8 := dkwX1_day_0 ++ []
theorem dksX1_day_0 : cX1_day.data.toList.drop 0 = dktX1_day_0 := by decide +kernel
theorem dX1_day_0 : decode cX1_day 0 = .ok (.aload_n 0, 1) := dk_42 (dk_at dksX1_day_0 0 rfl rfl)
theorem dX1_day_1 : decode cX1_day 1 = .ok (.ldc 179, 2) := dk_18 179 (dk_at dksX1_day_0 1 rfl rfl)
theorem dX1_day_3 : decode cX1_day 3 = .ok (.iconst 0, 1) := dk_3 (dk_at dksX1_day_0 3 rfl rfl)
theorem dX1_day_4 : decode cX1_day 4 = .ok (.newarray .int, 2) := dk_188_10 (dk_at dksX1_day_0 4 rfl rfl)
theorem dX1_day_6 : decode cX1_day 6 = .ok (.invokevirtual 119, 3) := dk_182 0 119 (dk_at dksX1_day_0 6 rfl rfl)
theorem dX1_day_9 : decode cX1_day 9 = .ok (.ireturn, 1) := dk_172 (dk_at dksX1_day_0 9 rfl rfl)
abbrev cX1_change : ByteArray := prog_1_method_12_code
def yX1_change : MethodName := ⟨RX1, "change", "(Ljava/lang/String;[I)I"⟩
def dkwX1_change_2 : List UInt8 := [21, 4, 172]
abbrev dktX1_change_2 : List UInt8 := dkwX1_change_2 ++ []
def dkwX1_change_1 : List UInt8 := [167, 0, 19, 58, 5, 42, 25, 5, 181, 0, 96, 187, 0, 100, 89, 183, 0, 102, 191, 42, 45, 182, 0, 103]
abbrev dktX1_change_1 : List UInt8 := dkwX1_change_1 ++ dktX1_change_2
def dkwX1_change_0 : List UInt8 := [42, 180, 0, 41, 182, 0, 81, 78, 187, 0, 85, 89, 43, 44, 183, 0, 87, 45, 182, 0, 90, 54, 4]
abbrev dktX1_change_0 : List UInt8 := dkwX1_change_0 ++ dktX1_change_1
theorem dksX1_change_0 : cX1_change.data.toList.drop 0 = dktX1_change_0 := by decide +kernel
theorem dksX1_change_1 : cX1_change.data.toList.drop 23 = dktX1_change_1 := dk_seg dksX1_change_0 23 rfl rfl
theorem dksX1_change_2 : cX1_change.data.toList.drop 47 = dktX1_change_2 := dk_seg dksX1_change_1 24 rfl rfl
theorem dX1_change_0 : decode cX1_change 0 = .ok (.aload_n 0, 1) := dk_42 (dk_at dksX1_change_0 0 rfl rfl)
theorem dX1_change_1 : decode cX1_change 1 = .ok (.getfield 41, 3) := dk_180 0 41 (dk_at dksX1_change_0 1 rfl rfl)
theorem dX1_change_4 : decode cX1_change 4 = .ok (.invokevirtual 81, 3) := dk_182 0 81 (dk_at dksX1_change_0 4 rfl rfl)
theorem dX1_change_7 : decode cX1_change 7 = .ok (.astore_n 3, 1) := dk_78 (dk_at dksX1_change_0 7 rfl rfl)
theorem dX1_change_8 : decode cX1_change 8 = .ok (.new 85, 3) := dk_187 0 85 (dk_at dksX1_change_0 8 rfl rfl)
theorem dX1_change_11 : decode cX1_change 11 = .ok (.dup, 1) := dk_89 (dk_at dksX1_change_0 11 rfl rfl)
theorem dX1_change_12 : decode cX1_change 12 = .ok (.aload_n 1, 1) := dk_43 (dk_at dksX1_change_0 12 rfl rfl)
theorem dX1_change_13 : decode cX1_change 13 = .ok (.aload_n 2, 1) := dk_44 (dk_at dksX1_change_0 13 rfl rfl)
theorem dX1_change_14 : decode cX1_change 14 = .ok (.invokespecial 87, 3) := dk_183 0 87 (dk_at dksX1_change_0 14 rfl rfl)
theorem dX1_change_17 : decode cX1_change 17 = .ok (.aload_n 3, 1) := dk_45 (dk_at dksX1_change_0 17 rfl rfl)
theorem dX1_change_18 : decode cX1_change 18 = .ok (.invokevirtual 90, 3) := dk_182 0 90 (dk_at dksX1_change_0 18 rfl rfl)
theorem dX1_change_21 : decode cX1_change 21 = .ok (.istore 4, 2) := dk_54 4 (dk_at dksX1_change_0 21 rfl rfl)
theorem dX1_change_23 : decode cX1_change 23 = .ok (.goto 19, 3) := dk_167 0 19 (dk_at dksX1_change_1 0 rfl rfl)
theorem dX1_change_26 : decode cX1_change 26 = .ok (.astore 5, 2) := dk_58 5 (dk_at dksX1_change_1 3 rfl rfl)
theorem dX1_change_28 : decode cX1_change 28 = .ok (.aload_n 0, 1) := dk_42 (dk_at dksX1_change_1 5 rfl rfl)
theorem dX1_change_29 : decode cX1_change 29 = .ok (.aload 5, 2) := dk_25 5 (dk_at dksX1_change_1 6 rfl rfl)
theorem dX1_change_31 : decode cX1_change 31 = .ok (.putfield 96, 3) := dk_181 0 96 (dk_at dksX1_change_1 8 rfl rfl)
theorem dX1_change_34 : decode cX1_change 34 = .ok (.new 100, 3) := dk_187 0 100 (dk_at dksX1_change_1 11 rfl rfl)
theorem dX1_change_37 : decode cX1_change 37 = .ok (.dup, 1) := dk_89 (dk_at dksX1_change_1 14 rfl rfl)
theorem dX1_change_38 : decode cX1_change 38 = .ok (.invokespecial 102, 3) := dk_183 0 102 (dk_at dksX1_change_1 15 rfl rfl)
theorem dX1_change_41 : decode cX1_change 41 = .ok (.athrow, 1) := dk_191 (dk_at dksX1_change_1 18 rfl rfl)
theorem dX1_change_42 : decode cX1_change 42 = .ok (.aload_n 0, 1) := dk_42 (dk_at dksX1_change_1 19 rfl rfl)
theorem dX1_change_43 : decode cX1_change 43 = .ok (.aload_n 3, 1) := dk_45 (dk_at dksX1_change_1 20 rfl rfl)
theorem dX1_change_44 : decode cX1_change 44 = .ok (.invokevirtual 103, 3) := dk_182 0 103 (dk_at dksX1_change_1 21 rfl rfl)
theorem dX1_change_47 : decode cX1_change 47 = .ok (.iload 4, 2) := dk_21 4 (dk_at dksX1_change_2 0 rfl rfl)
theorem dX1_change_49 : decode cX1_change 49 = .ok (.ireturn, 1) := dk_172 (dk_at dksX1_change_2 2 rfl rfl)
abbrev cX1_inRange : ByteArray := prog_1_method_1_code
def yX1_inRange : MethodName := ⟨RX1, "inRange", "(JJJ)Z"⟩
def dkwX1_inRange_0 : List UInt8 := [30, 32, 148, 155, 0, 14, 30, 22, 4, 148, 157, 0, 7, 4, 167, 0, 4, 3, 172]
abbrev dktX1_inRange_0 : List UInt8 := dkwX1_inRange_0 ++ []
theorem dksX1_inRange_0 : cX1_inRange.data.toList.drop 0 = dktX1_inRange_0 := by decide +kernel
theorem dX1_inRange_0 : decode cX1_inRange 0 = .ok (.lload_n 0, 1) := dk_30 (dk_at dksX1_inRange_0 0 rfl rfl)
theorem dX1_inRange_1 : decode cX1_inRange 1 = .ok (.lload_n 2, 1) := dk_32 (dk_at dksX1_inRange_0 1 rfl rfl)
theorem dX1_inRange_2 : decode cX1_inRange 2 = .ok (.lcmp, 1) := dk_148 (dk_at dksX1_inRange_0 2 rfl rfl)
theorem dX1_inRange_3 : decode cX1_inRange 3 = .ok (.ifCond .lt 14, 3) := dk_155 0 14 (dk_at dksX1_inRange_0 3 rfl rfl)
theorem dX1_inRange_6 : decode cX1_inRange 6 = .ok (.lload_n 0, 1) := dk_30 (dk_at dksX1_inRange_0 6 rfl rfl)
theorem dX1_inRange_7 : decode cX1_inRange 7 = .ok (.lload 4, 2) := dk_22 4 (dk_at dksX1_inRange_0 7 rfl rfl)
theorem dX1_inRange_9 : decode cX1_inRange 9 = .ok (.lcmp, 1) := dk_148 (dk_at dksX1_inRange_0 9 rfl rfl)
theorem dX1_inRange_10 : decode cX1_inRange 10 = .ok (.ifCond .gt 7, 3) := dk_157 0 7 (dk_at dksX1_inRange_0 10 rfl rfl)
theorem dX1_inRange_13 : decode cX1_inRange 13 = .ok (.iconst 1, 1) := dk_4 (dk_at dksX1_inRange_0 13 rfl rfl)
theorem dX1_inRange_14 : decode cX1_inRange 14 = .ok (.goto 4, 3) := dk_167 0 4 (dk_at dksX1_inRange_0 14 rfl rfl)
theorem dX1_inRange_17 : decode cX1_inRange 17 = .ok (.iconst 0, 1) := dk_3 (dk_at dksX1_inRange_0 17 rfl rfl)
theorem dX1_inRange_18 : decode cX1_inRange 18 = .ok (.ireturn, 1) := dk_172 (dk_at dksX1_inRange_0 18 rfl rfl)
abbrev cX1_checkArgument : ByteArray := prog_1_method_2_code
def yX1_checkArgument : MethodName := ⟨RX1, "checkArgument", "(Z)V"⟩
def dkwX1_checkArgument_0 : List UInt8 := [26, 154, 0, 11, 187, 0, 1, 89, 183, 0, 3, 191, 177]
abbrev dktX1_checkArgument_0 : List UInt8 := dkwX1_checkArgument_0 ++ []
theorem dksX1_checkArgument_0 : cX1_checkArgument.data.toList.drop 0 = dktX1_checkArgument_0 := by decide +kernel
theorem dX1_checkArgument_0 : decode cX1_checkArgument 0 = .ok (.iload_n 0, 1) := dk_26 (dk_at dksX1_checkArgument_0 0 rfl rfl)
theorem dX1_checkArgument_1 : decode cX1_checkArgument 1 = .ok (.ifCond .ne 11, 3) := dk_154 0 11 (dk_at dksX1_checkArgument_0 1 rfl rfl)
theorem dX1_checkArgument_4 : decode cX1_checkArgument 4 = .ok (.new 1, 3) := dk_187 0 1 (dk_at dksX1_checkArgument_0 4 rfl rfl)
theorem dX1_checkArgument_7 : decode cX1_checkArgument 7 = .ok (.dup, 1) := dk_89 (dk_at dksX1_checkArgument_0 7 rfl rfl)
theorem dX1_checkArgument_8 : decode cX1_checkArgument 8 = .ok (.invokespecial 3, 3) := dk_183 0 3 (dk_at dksX1_checkArgument_0 8 rfl rfl)
theorem dX1_checkArgument_11 : decode cX1_checkArgument 11 = .ok (.athrow, 1) := dk_191 (dk_at dksX1_checkArgument_0 11 rfl rfl)
theorem dX1_checkArgument_12 : decode cX1_checkArgument 12 = .ok (.return_, 1) := dk_177 (dk_at dksX1_checkArgument_0 12 rfl rfl)
abbrev cX1_checkIndex : ByteArray := prog_1_method_3_code
def yX1_checkIndex : MethodName := ⟨RX1, "checkIndex", "(Z)V"⟩
def dkwX1_checkIndex_0 : List UInt8 := [26, 154, 0, 11, 187, 0, 7, 89, 183, 0, 9, 191, 177]
abbrev dktX1_checkIndex_0 : List UInt8 := dkwX1_checkIndex_0 ++ []
theorem dksX1_checkIndex_0 : cX1_checkIndex.data.toList.drop 0 = dktX1_checkIndex_0 := by decide +kernel
theorem dX1_checkIndex_0 : decode cX1_checkIndex 0 = .ok (.iload_n 0, 1) := dk_26 (dk_at dksX1_checkIndex_0 0 rfl rfl)
theorem dX1_checkIndex_1 : decode cX1_checkIndex 1 = .ok (.ifCond .ne 11, 3) := dk_154 0 11 (dk_at dksX1_checkIndex_0 1 rfl rfl)
theorem dX1_checkIndex_4 : decode cX1_checkIndex 4 = .ok (.new 7, 3) := dk_187 0 7 (dk_at dksX1_checkIndex_0 4 rfl rfl)
theorem dX1_checkIndex_7 : decode cX1_checkIndex 7 = .ok (.dup, 1) := dk_89 (dk_at dksX1_checkIndex_0 7 rfl rfl)
theorem dX1_checkIndex_8 : decode cX1_checkIndex 8 = .ok (.invokespecial 9, 3) := dk_183 0 9 (dk_at dksX1_checkIndex_0 8 rfl rfl)
theorem dX1_checkIndex_11 : decode cX1_checkIndex 11 = .ok (.athrow, 1) := dk_191 (dk_at dksX1_checkIndex_0 11 rfl rfl)
theorem dX1_checkIndex_12 : decode cX1_checkIndex 12 = .ok (.return_, 1) := dk_177 (dk_at dksX1_checkIndex_0 12 rfl rfl)
abbrev cX1_checkAhead : ByteArray := prog_1_method_9_code
def yX1_checkAhead : MethodName := ⟨RX1, "checkAhead", "(I)V"⟩
def dkwX1_checkAhead_0 : List UInt8 := [26, 133, 9, 20, 0, 33, 184, 0, 23, 184, 0, 27, 177]
abbrev dktX1_checkAhead_0 : List UInt8 := dkwX1_checkAhead_0 ++ []
theorem dksX1_checkAhead_0 : cX1_checkAhead.data.toList.drop 0 = dktX1_checkAhead_0 := by decide +kernel
theorem dX1_checkAhead_0 : decode cX1_checkAhead 0 = .ok (.iload_n 0, 1) := dk_26 (dk_at dksX1_checkAhead_0 0 rfl rfl)
theorem dX1_checkAhead_1 : decode cX1_checkAhead 1 = .ok (.i2l, 1) := dk_133 (dk_at dksX1_checkAhead_0 1 rfl rfl)
theorem dX1_checkAhead_2 : decode cX1_checkAhead 2 = .ok (.lconst 0, 1) := dk_9 (dk_at dksX1_checkAhead_0 2 rfl rfl)
theorem dX1_checkAhead_3 : decode cX1_checkAhead 3 = .ok (.ldc2_w 33, 3) := dk_20 0 33 (dk_at dksX1_checkAhead_0 3 rfl rfl)
theorem dX1_checkAhead_6 : decode cX1_checkAhead 6 = .ok (.invokestatic 23, 3) := dk_184 0 23 (dk_at dksX1_checkAhead_0 6 rfl rfl)
theorem dX1_checkAhead_9 : decode cX1_checkAhead 9 = .ok (.invokestatic 27, 3) := dk_184 0 27 (dk_at dksX1_checkAhead_0 9 rfl rfl)
theorem dX1_checkAhead_12 : decode cX1_checkAhead 12 = .ok (.return_, 1) := dk_177 (dk_at dksX1_checkAhead_0 12 rfl rfl)
abbrev cX1_checkAngle : ByteArray := prog_1_method_7_code
def yX1_checkAngle : MethodName := ⟨RX1, "checkAngle", "(I)V"⟩
def dkwX1_checkAngle_0 : List UInt8 := [26, 133, 9, 20, 0, 21, 184, 0, 23, 184, 0, 27, 177]
abbrev dktX1_checkAngle_0 : List UInt8 := dkwX1_checkAngle_0 ++ []
theorem dksX1_checkAngle_0 : cX1_checkAngle.data.toList.drop 0 = dktX1_checkAngle_0 := by decide +kernel
theorem dX1_checkAngle_0 : decode cX1_checkAngle 0 = .ok (.iload_n 0, 1) := dk_26 (dk_at dksX1_checkAngle_0 0 rfl rfl)
theorem dX1_checkAngle_1 : decode cX1_checkAngle 1 = .ok (.i2l, 1) := dk_133 (dk_at dksX1_checkAngle_0 1 rfl rfl)
theorem dX1_checkAngle_2 : decode cX1_checkAngle 2 = .ok (.lconst 0, 1) := dk_9 (dk_at dksX1_checkAngle_0 2 rfl rfl)
theorem dX1_checkAngle_3 : decode cX1_checkAngle 3 = .ok (.ldc2_w 21, 3) := dk_20 0 21 (dk_at dksX1_checkAngle_0 3 rfl rfl)
theorem dX1_checkAngle_6 : decode cX1_checkAngle 6 = .ok (.invokestatic 23, 3) := dk_184 0 23 (dk_at dksX1_checkAngle_0 6 rfl rfl)
theorem dX1_checkAngle_9 : decode cX1_checkAngle 9 = .ok (.invokestatic 27, 3) := dk_184 0 27 (dk_at dksX1_checkAngle_0 9 rfl rfl)
theorem dX1_checkAngle_12 : decode cX1_checkAngle 12 = .ok (.return_, 1) := dk_177 (dk_at dksX1_checkAngle_0 12 rfl rfl)
abbrev cX1_checkSpeed : ByteArray := prog_1_method_8_code
def yX1_checkSpeed : MethodName := ⟨RX1, "checkSpeed", "(I)V"⟩
def dkwX1_checkSpeed_0 : List UInt8 := [26, 133, 10, 20, 0, 31, 184, 0, 23, 184, 0, 27, 177]
abbrev dktX1_checkSpeed_0 : List UInt8 := dkwX1_checkSpeed_0 ++ []
theorem dksX1_checkSpeed_0 : cX1_checkSpeed.data.toList.drop 0 = dktX1_checkSpeed_0 := by decide +kernel
theorem dX1_checkSpeed_0 : decode cX1_checkSpeed 0 = .ok (.iload_n 0, 1) := dk_26 (dk_at dksX1_checkSpeed_0 0 rfl rfl)
theorem dX1_checkSpeed_1 : decode cX1_checkSpeed 1 = .ok (.i2l, 1) := dk_133 (dk_at dksX1_checkSpeed_0 1 rfl rfl)
theorem dX1_checkSpeed_2 : decode cX1_checkSpeed 2 = .ok (.lconst 1, 1) := dk_10 (dk_at dksX1_checkSpeed_0 2 rfl rfl)
theorem dX1_checkSpeed_3 : decode cX1_checkSpeed 3 = .ok (.ldc2_w 31, 3) := dk_20 0 31 (dk_at dksX1_checkSpeed_0 3 rfl rfl)
theorem dX1_checkSpeed_6 : decode cX1_checkSpeed 6 = .ok (.invokestatic 23, 3) := dk_184 0 23 (dk_at dksX1_checkSpeed_0 6 rfl rfl)
theorem dX1_checkSpeed_9 : decode cX1_checkSpeed 9 = .ok (.invokestatic 27, 3) := dk_184 0 27 (dk_at dksX1_checkSpeed_0 9 rfl rfl)
theorem dX1_checkSpeed_12 : decode cX1_checkSpeed 12 = .ok (.return_, 1) := dk_177 (dk_at dksX1_checkSpeed_0 12 rfl rfl)
abbrev cX1_become : ByteArray := prog_1_method_11_code
def yX1_become : MethodName := ⟨RX1, "become", "(LSkipSchool$School;)V"⟩
def dkwX1_become_1 : List UInt8 := [180, 0, 48, 42, 180, 0, 41, 182, 0, 77, 42, 43, 181, 0, 41, 177]
abbrev dktX1_become_1 : List UInt8 := dkwX1_become_1 ++ []
def dkwX1_become_0 : List UInt8 := [42, 180, 0, 48, 182, 0, 69, 16, 8, 160, 0, 14, 42, 180, 0, 48, 182, 0, 73, 192, 0, 38, 77, 42]
abbrev dktX1_become_0 : List UInt8 := dkwX1_become_0 ++ dktX1_become_1
theorem dksX1_become_0 : cX1_become.data.toList.drop 0 = dktX1_become_0 := by decide +kernel
theorem dksX1_become_1 : cX1_become.data.toList.drop 24 = dktX1_become_1 := dk_seg dksX1_become_0 24 rfl rfl
theorem dX1_become_0 : decode cX1_become 0 = .ok (.aload_n 0, 1) := dk_42 (dk_at dksX1_become_0 0 rfl rfl)
theorem dX1_become_1 : decode cX1_become 1 = .ok (.getfield 48, 3) := dk_180 0 48 (dk_at dksX1_become_0 1 rfl rfl)
theorem dX1_become_4 : decode cX1_become 4 = .ok (.invokevirtual 69, 3) := dk_182 0 69 (dk_at dksX1_become_0 4 rfl rfl)
theorem dX1_become_7 : decode cX1_become 7 = .ok (.bipush 8, 2) := dk_16 8 (dk_at dksX1_become_0 7 rfl rfl)
theorem dX1_become_9 : decode cX1_become 9 = .ok (.if_icmp .ne 14, 3) := dk_160 0 14 (dk_at dksX1_become_0 9 rfl rfl)
theorem dX1_become_12 : decode cX1_become 12 = .ok (.aload_n 0, 1) := dk_42 (dk_at dksX1_become_0 12 rfl rfl)
theorem dX1_become_13 : decode cX1_become 13 = .ok (.getfield 48, 3) := dk_180 0 48 (dk_at dksX1_become_0 13 rfl rfl)
theorem dX1_become_16 : decode cX1_become 16 = .ok (.invokevirtual 73, 3) := dk_182 0 73 (dk_at dksX1_become_0 16 rfl rfl)
theorem dX1_become_19 : decode cX1_become 19 = .ok (.checkcast 38, 3) := dk_192 0 38 (dk_at dksX1_become_0 19 rfl rfl)
theorem dX1_become_22 : decode cX1_become 22 = .ok (.astore_n 2, 1) := dk_77 (dk_at dksX1_become_0 22 rfl rfl)
theorem dX1_become_23 : decode cX1_become 23 = .ok (.aload_n 0, 1) := dk_42 (dk_at dksX1_become_0 23 rfl rfl)
theorem dX1_become_24 : decode cX1_become 24 = .ok (.getfield 48, 3) := dk_180 0 48 (dk_at dksX1_become_1 0 rfl rfl)
theorem dX1_become_27 : decode cX1_become 27 = .ok (.aload_n 0, 1) := dk_42 (dk_at dksX1_become_1 3 rfl rfl)
theorem dX1_become_28 : decode cX1_become 28 = .ok (.getfield 41, 3) := dk_180 0 41 (dk_at dksX1_become_1 4 rfl rfl)
theorem dX1_become_31 : decode cX1_become 31 = .ok (.invokevirtual 77, 3) := dk_182 0 77 (dk_at dksX1_become_1 7 rfl rfl)
theorem dX1_become_34 : decode cX1_become 34 = .ok (.aload_n 0, 1) := dk_42 (dk_at dksX1_become_1 10 rfl rfl)
theorem dX1_become_35 : decode cX1_become 35 = .ok (.aload_n 1, 1) := dk_43 (dk_at dksX1_become_1 11 rfl rfl)
theorem dX1_become_36 : decode cX1_become 36 = .ok (.putfield 41, 3) := dk_181 0 41 (dk_at dksX1_become_1 12 rfl rfl)
theorem dX1_become_39 : decode cX1_become 39 = .ok (.return_, 1) := dk_177 (dk_at dksX1_become_1 15 rfl rfl)
abbrev cX1_isRight : ByteArray := prog_1_method_37_code
def yX1_isRight : MethodName := ⟨RX1, "isRight", "()Z"⟩
def dkwX1_isRight_0 : List UInt8 := [42, 180, 0, 41, 182, 0, 242, 172]
abbrev dktX1_isRight_0 : List UInt8 := dkwX1_isRight_0 ++ []
theorem dksX1_isRight_0 : cX1_isRight.data.toList.drop 0 = dktX1_isRight_0 := by decide +kernel
theorem dX1_isRight_0 : decode cX1_isRight 0 = .ok (.aload_n 0, 1) := dk_42 (dk_at dksX1_isRight_0 0 rfl rfl)
theorem dX1_isRight_1 : decode cX1_isRight 1 = .ok (.getfield 41, 3) := dk_180 0 41 (dk_at dksX1_isRight_0 1 rfl rfl)
theorem dX1_isRight_4 : decode cX1_isRight 4 = .ok (.invokevirtual 242, 3) := dk_182 0 242 (dk_at dksX1_isRight_0 4 rfl rfl)
theorem dX1_isRight_7 : decode cX1_isRight 7 = .ok (.ireturn, 1) := dk_172 (dk_at dksX1_isRight_0 7 rfl rfl)
abbrev cX1_snapshot : ByteArray := prog_1_method_52_code
def yX1_snapshot : MethodName := ⟨RX1, "snapshot", "()I"⟩
def dkwX1_snapshot_0 : List UInt8 := [42, 42, 180, 0, 41, 181, 1, 99, 42, 180, 0, 41, 180, 0, 107, 182, 0, 111, 172]
abbrev dktX1_snapshot_0 : List UInt8 := dkwX1_snapshot_0 ++ []
theorem dksX1_snapshot_0 : cX1_snapshot.data.toList.drop 0 = dktX1_snapshot_0 := by decide +kernel
theorem dX1_snapshot_0 : decode cX1_snapshot 0 = .ok (.aload_n 0, 1) := dk_42 (dk_at dksX1_snapshot_0 0 rfl rfl)
theorem dX1_snapshot_1 : decode cX1_snapshot 1 = .ok (.aload_n 0, 1) := dk_42 (dk_at dksX1_snapshot_0 1 rfl rfl)
theorem dX1_snapshot_2 : decode cX1_snapshot 2 = .ok (.getfield 41, 3) := dk_180 0 41 (dk_at dksX1_snapshot_0 2 rfl rfl)
theorem dX1_snapshot_5 : decode cX1_snapshot 5 = .ok (.putfield 355, 3) := dk_181 1 99 (dk_at dksX1_snapshot_0 5 rfl rfl)
theorem dX1_snapshot_8 : decode cX1_snapshot 8 = .ok (.aload_n 0, 1) := dk_42 (dk_at dksX1_snapshot_0 8 rfl rfl)
theorem dX1_snapshot_9 : decode cX1_snapshot 9 = .ok (.getfield 41, 3) := dk_180 0 41 (dk_at dksX1_snapshot_0 9 rfl rfl)
theorem dX1_snapshot_12 : decode cX1_snapshot 12 = .ok (.getfield 107, 3) := dk_180 0 107 (dk_at dksX1_snapshot_0 12 rfl rfl)
theorem dX1_snapshot_15 : decode cX1_snapshot 15 = .ok (.invokevirtual 111, 3) := dk_182 0 111 (dk_at dksX1_snapshot_0 15 rfl rfl)
theorem dX1_snapshot_18 : decode cX1_snapshot 18 = .ok (.ireturn, 1) := dk_172 (dk_at dksX1_snapshot_0 18 rfl rfl)
abbrev cX1_stone : ByteArray := prog_1_method_14_code
def yX1_stone : MethodName := ⟨RX1, "stone", "(II)I"⟩
def dkwX1_stone_0 : List UInt8 := [42, 18, 117, 5, 188, 10, 89, 3, 27, 79, 89, 4, 28, 79, 182, 0, 119, 172]
abbrev dktX1_stone_0 : List UInt8 := dkwX1_stone_0 ++ []
theorem dksX1_stone_0 : cX1_stone.data.toList.drop 0 = dktX1_stone_0 := by decide +kernel
theorem dX1_stone_0 : decode cX1_stone 0 = .ok (.aload_n 0, 1) := dk_42 (dk_at dksX1_stone_0 0 rfl rfl)
theorem dX1_stone_1 : decode cX1_stone 1 = .ok (.ldc 117, 2) := dk_18 117 (dk_at dksX1_stone_0 1 rfl rfl)
theorem dX1_stone_3 : decode cX1_stone 3 = .ok (.iconst 2, 1) := dk_5 (dk_at dksX1_stone_0 3 rfl rfl)
theorem dX1_stone_4 : decode cX1_stone 4 = .ok (.newarray .int, 2) := dk_188_10 (dk_at dksX1_stone_0 4 rfl rfl)
theorem dX1_stone_6 : decode cX1_stone 6 = .ok (.dup, 1) := dk_89 (dk_at dksX1_stone_0 6 rfl rfl)
theorem dX1_stone_7 : decode cX1_stone 7 = .ok (.iconst 0, 1) := dk_3 (dk_at dksX1_stone_0 7 rfl rfl)
theorem dX1_stone_8 : decode cX1_stone 8 = .ok (.iload_n 1, 1) := dk_27 (dk_at dksX1_stone_0 8 rfl rfl)
theorem dX1_stone_9 : decode cX1_stone 9 = .ok (.iastore, 1) := dk_79 (dk_at dksX1_stone_0 9 rfl rfl)
theorem dX1_stone_10 : decode cX1_stone 10 = .ok (.dup, 1) := dk_89 (dk_at dksX1_stone_0 10 rfl rfl)
theorem dX1_stone_11 : decode cX1_stone 11 = .ok (.iconst 1, 1) := dk_4 (dk_at dksX1_stone_0 11 rfl rfl)
theorem dX1_stone_12 : decode cX1_stone 12 = .ok (.iload_n 2, 1) := dk_28 (dk_at dksX1_stone_0 12 rfl rfl)
theorem dX1_stone_13 : decode cX1_stone 13 = .ok (.iastore, 1) := dk_79 (dk_at dksX1_stone_0 13 rfl rfl)
theorem dX1_stone_14 : decode cX1_stone 14 = .ok (.invokevirtual 119, 3) := dk_182 0 119 (dk_at dksX1_stone_0 14 rfl rfl)
theorem dX1_stone_17 : decode cX1_stone 17 = .ok (.ireturn, 1) := dk_172 (dk_at dksX1_stone_0 17 rfl rfl)
abbrev cX1_river : ByteArray := prog_1_method_15_code
def yX1_river : MethodName := ⟨RX1, "river", "(II)I"⟩
def dkwX1_river_0 : List UInt8 := [42, 18, 123, 5, 188, 10, 89, 3, 27, 79, 89, 4, 28, 79, 182, 0, 119, 172]
abbrev dktX1_river_0 : List UInt8 := dkwX1_river_0 ++ []
theorem dksX1_river_0 : cX1_river.data.toList.drop 0 = dktX1_river_0 := by decide +kernel
theorem dX1_river_0 : decode cX1_river 0 = .ok (.aload_n 0, 1) := dk_42 (dk_at dksX1_river_0 0 rfl rfl)
theorem dX1_river_1 : decode cX1_river 1 = .ok (.ldc 123, 2) := dk_18 123 (dk_at dksX1_river_0 1 rfl rfl)
theorem dX1_river_3 : decode cX1_river 3 = .ok (.iconst 2, 1) := dk_5 (dk_at dksX1_river_0 3 rfl rfl)
theorem dX1_river_4 : decode cX1_river 4 = .ok (.newarray .int, 2) := dk_188_10 (dk_at dksX1_river_0 4 rfl rfl)
theorem dX1_river_6 : decode cX1_river 6 = .ok (.dup, 1) := dk_89 (dk_at dksX1_river_0 6 rfl rfl)
theorem dX1_river_7 : decode cX1_river 7 = .ok (.iconst 0, 1) := dk_3 (dk_at dksX1_river_0 7 rfl rfl)
theorem dX1_river_8 : decode cX1_river 8 = .ok (.iload_n 1, 1) := dk_27 (dk_at dksX1_river_0 8 rfl rfl)
theorem dX1_river_9 : decode cX1_river 9 = .ok (.iastore, 1) := dk_79 (dk_at dksX1_river_0 9 rfl rfl)
theorem dX1_river_10 : decode cX1_river 10 = .ok (.dup, 1) := dk_89 (dk_at dksX1_river_0 10 rfl rfl)
theorem dX1_river_11 : decode cX1_river 11 = .ok (.iconst 1, 1) := dk_4 (dk_at dksX1_river_0 11 rfl rfl)
theorem dX1_river_12 : decode cX1_river 12 = .ok (.iload_n 2, 1) := dk_28 (dk_at dksX1_river_0 12 rfl rfl)
theorem dX1_river_13 : decode cX1_river 13 = .ok (.iastore, 1) := dk_79 (dk_at dksX1_river_0 13 rfl rfl)
theorem dX1_river_14 : decode cX1_river 14 = .ok (.invokevirtual 119, 3) := dk_182 0 119 (dk_at dksX1_river_0 14 rfl rfl)
theorem dX1_river_17 : decode cX1_river 17 = .ok (.ireturn, 1) := dk_172 (dk_at dksX1_river_0 17 rfl rfl)
abbrev cX1_calm : ByteArray := prog_1_method_16_code
def yX1_calm : MethodName := ⟨RX1, "calm", "(II)I"⟩
def dkwX1_calm_0 : List UInt8 := [42, 18, 125, 5, 188, 10, 89, 3, 27, 79, 89, 4, 28, 79, 182, 0, 119, 172]
abbrev dktX1_calm_0 : List UInt8 := dkwX1_calm_0 ++ []
theorem dksX1_calm_0 : cX1_calm.data.toList.drop 0 = dktX1_calm_0 := by decide +kernel
theorem dX1_calm_0 : decode cX1_calm 0 = .ok (.aload_n 0, 1) := dk_42 (dk_at dksX1_calm_0 0 rfl rfl)
theorem dX1_calm_1 : decode cX1_calm 1 = .ok (.ldc 125, 2) := dk_18 125 (dk_at dksX1_calm_0 1 rfl rfl)
theorem dX1_calm_3 : decode cX1_calm 3 = .ok (.iconst 2, 1) := dk_5 (dk_at dksX1_calm_0 3 rfl rfl)
theorem dX1_calm_4 : decode cX1_calm 4 = .ok (.newarray .int, 2) := dk_188_10 (dk_at dksX1_calm_0 4 rfl rfl)
theorem dX1_calm_6 : decode cX1_calm 6 = .ok (.dup, 1) := dk_89 (dk_at dksX1_calm_0 6 rfl rfl)
theorem dX1_calm_7 : decode cX1_calm 7 = .ok (.iconst 0, 1) := dk_3 (dk_at dksX1_calm_0 7 rfl rfl)
theorem dX1_calm_8 : decode cX1_calm 8 = .ok (.iload_n 1, 1) := dk_27 (dk_at dksX1_calm_0 8 rfl rfl)
theorem dX1_calm_9 : decode cX1_calm 9 = .ok (.iastore, 1) := dk_79 (dk_at dksX1_calm_0 9 rfl rfl)
theorem dX1_calm_10 : decode cX1_calm 10 = .ok (.dup, 1) := dk_89 (dk_at dksX1_calm_0 10 rfl rfl)
theorem dX1_calm_11 : decode cX1_calm 11 = .ok (.iconst 1, 1) := dk_4 (dk_at dksX1_calm_0 11 rfl rfl)
theorem dX1_calm_12 : decode cX1_calm 12 = .ok (.iload_n 2, 1) := dk_28 (dk_at dksX1_calm_0 12 rfl rfl)
theorem dX1_calm_13 : decode cX1_calm 13 = .ok (.iastore, 1) := dk_79 (dk_at dksX1_calm_0 13 rfl rfl)
theorem dX1_calm_14 : decode cX1_calm 14 = .ok (.invokevirtual 119, 3) := dk_182 0 119 (dk_at dksX1_calm_0 14 rfl rfl)
theorem dX1_calm_17 : decode cX1_calm 17 = .ok (.ireturn, 1) := dk_172 (dk_at dksX1_calm_0 17 rfl rfl)
abbrev cX1_stoneOf : ByteArray := prog_1_method_17_code
def yX1_stoneOf : MethodName := ⟨RX1, "stoneOf", "(II)I"⟩
def dkwX1_stoneOf_1 : List UInt8 := [167, 0, 8, 45, 28, 182, 0, 134, 172]
abbrev dktX1_stoneOf_1 : List UInt8 := dkwX1_stoneOf_1 ++ []
def dkwX1_stoneOf_0 : List UInt8 := [42, 180, 0, 41, 27, 182, 0, 127, 78, 28, 16, 9, 160, 0, 14, 42, 180, 0, 41, 27, 182, 0, 130]
abbrev dktX1_stoneOf_0 : List UInt8 := dkwX1_stoneOf_0 ++ dktX1_stoneOf_1
theorem dksX1_stoneOf_0 : cX1_stoneOf.data.toList.drop 0 = dktX1_stoneOf_0 := by decide +kernel
theorem dksX1_stoneOf_1 : cX1_stoneOf.data.toList.drop 23 = dktX1_stoneOf_1 := dk_seg dksX1_stoneOf_0 23 rfl rfl
theorem dX1_stoneOf_0 : decode cX1_stoneOf 0 = .ok (.aload_n 0, 1) := dk_42 (dk_at dksX1_stoneOf_0 0 rfl rfl)
theorem dX1_stoneOf_1 : decode cX1_stoneOf 1 = .ok (.getfield 41, 3) := dk_180 0 41 (dk_at dksX1_stoneOf_0 1 rfl rfl)
theorem dX1_stoneOf_4 : decode cX1_stoneOf 4 = .ok (.iload_n 1, 1) := dk_27 (dk_at dksX1_stoneOf_0 4 rfl rfl)
theorem dX1_stoneOf_5 : decode cX1_stoneOf 5 = .ok (.invokevirtual 127, 3) := dk_182 0 127 (dk_at dksX1_stoneOf_0 5 rfl rfl)
theorem dX1_stoneOf_8 : decode cX1_stoneOf 8 = .ok (.astore_n 3, 1) := dk_78 (dk_at dksX1_stoneOf_0 8 rfl rfl)
theorem dX1_stoneOf_9 : decode cX1_stoneOf 9 = .ok (.iload_n 2, 1) := dk_28 (dk_at dksX1_stoneOf_0 9 rfl rfl)
theorem dX1_stoneOf_10 : decode cX1_stoneOf 10 = .ok (.bipush 9, 2) := dk_16 9 (dk_at dksX1_stoneOf_0 10 rfl rfl)
theorem dX1_stoneOf_12 : decode cX1_stoneOf 12 = .ok (.if_icmp .ne 14, 3) := dk_160 0 14 (dk_at dksX1_stoneOf_0 12 rfl rfl)
theorem dX1_stoneOf_15 : decode cX1_stoneOf 15 = .ok (.aload_n 0, 1) := dk_42 (dk_at dksX1_stoneOf_0 15 rfl rfl)
theorem dX1_stoneOf_16 : decode cX1_stoneOf 16 = .ok (.getfield 41, 3) := dk_180 0 41 (dk_at dksX1_stoneOf_0 16 rfl rfl)
theorem dX1_stoneOf_19 : decode cX1_stoneOf 19 = .ok (.iload_n 1, 1) := dk_27 (dk_at dksX1_stoneOf_0 19 rfl rfl)
theorem dX1_stoneOf_20 : decode cX1_stoneOf 20 = .ok (.invokevirtual 130, 3) := dk_182 0 130 (dk_at dksX1_stoneOf_0 20 rfl rfl)
theorem dX1_stoneOf_23 : decode cX1_stoneOf 23 = .ok (.goto 8, 3) := dk_167 0 8 (dk_at dksX1_stoneOf_1 0 rfl rfl)
theorem dX1_stoneOf_26 : decode cX1_stoneOf 26 = .ok (.aload_n 3, 1) := dk_45 (dk_at dksX1_stoneOf_1 3 rfl rfl)
theorem dX1_stoneOf_27 : decode cX1_stoneOf 27 = .ok (.iload_n 2, 1) := dk_28 (dk_at dksX1_stoneOf_1 4 rfl rfl)
theorem dX1_stoneOf_28 : decode cX1_stoneOf 28 = .ok (.invokevirtual 134, 3) := dk_182 0 134 (dk_at dksX1_stoneOf_1 5 rfl rfl)
theorem dX1_stoneOf_31 : decode cX1_stoneOf 31 = .ok (.ireturn, 1) := dk_172 (dk_at dksX1_stoneOf_1 8 rfl rfl)
abbrev cX1_grade : ByteArray := prog_1_method_18_code
def yX1_grade : MethodName := ⟨RX1, "grade", "(I)C"⟩
def dkwX1_grade_0 : List UInt8 := [42, 180, 0, 41, 27, 182, 0, 127, 182, 0, 139, 172]
abbrev dktX1_grade_0 : List UInt8 := dkwX1_grade_0 ++ []
theorem dksX1_grade_0 : cX1_grade.data.toList.drop 0 = dktX1_grade_0 := by decide +kernel
theorem dX1_grade_0 : decode cX1_grade 0 = .ok (.aload_n 0, 1) := dk_42 (dk_at dksX1_grade_0 0 rfl rfl)
theorem dX1_grade_1 : decode cX1_grade 1 = .ok (.getfield 41, 3) := dk_180 0 41 (dk_at dksX1_grade_0 1 rfl rfl)
theorem dX1_grade_4 : decode cX1_grade 4 = .ok (.iload_n 1, 1) := dk_27 (dk_at dksX1_grade_0 4 rfl rfl)
theorem dX1_grade_5 : decode cX1_grade 5 = .ok (.invokevirtual 127, 3) := dk_182 0 127 (dk_at dksX1_grade_0 5 rfl rfl)
theorem dX1_grade_8 : decode cX1_grade 8 = .ok (.invokevirtual 139, 3) := dk_182 0 139 (dk_at dksX1_grade_0 8 rfl rfl)
theorem dX1_grade_11 : decode cX1_grade 11 = .ok (.ireturn, 1) := dk_172 (dk_at dksX1_grade_0 11 rfl rfl)
abbrev cX1_riverOf : ByteArray := prog_1_method_19_code
def yX1_riverOf : MethodName := ⟨RX1, "riverOf", "(II)I"⟩
def dkwX1_riverOf_0 : List UInt8 := [42, 180, 0, 41, 27, 28, 182, 0, 143, 172]
abbrev dktX1_riverOf_0 : List UInt8 := dkwX1_riverOf_0 ++ []
theorem dksX1_riverOf_0 : cX1_riverOf.data.toList.drop 0 = dktX1_riverOf_0 := by decide +kernel
theorem dX1_riverOf_0 : decode cX1_riverOf 0 = .ok (.aload_n 0, 1) := dk_42 (dk_at dksX1_riverOf_0 0 rfl rfl)
theorem dX1_riverOf_1 : decode cX1_riverOf 1 = .ok (.getfield 41, 3) := dk_180 0 41 (dk_at dksX1_riverOf_0 1 rfl rfl)
theorem dX1_riverOf_4 : decode cX1_riverOf 4 = .ok (.iload_n 1, 1) := dk_27 (dk_at dksX1_riverOf_0 4 rfl rfl)
theorem dX1_riverOf_5 : decode cX1_riverOf 5 = .ok (.iload_n 2, 1) := dk_28 (dk_at dksX1_riverOf_0 5 rfl rfl)
theorem dX1_riverOf_6 : decode cX1_riverOf 6 = .ok (.invokevirtual 143, 3) := dk_182 0 143 (dk_at dksX1_riverOf_0 6 rfl rfl)
theorem dX1_riverOf_9 : decode cX1_riverOf 9 = .ok (.ireturn, 1) := dk_172 (dk_at dksX1_riverOf_0 9 rfl rfl)
abbrev cX1_book : ByteArray := prog_1_method_20_code
def yX1_book : MethodName := ⟨RX1, "book", "(III)I"⟩
def dkwX1_book_0 : List UInt8 := [42, 18, 147, 6, 188, 10, 89, 3, 27, 79, 89, 4, 28, 79, 89, 5, 29, 79, 182, 0, 119, 172]
abbrev dktX1_book_0 : List UInt8 := dkwX1_book_0 ++ []
theorem dksX1_book_0 : cX1_book.data.toList.drop 0 = dktX1_book_0 := by decide +kernel
theorem dX1_book_0 : decode cX1_book 0 = .ok (.aload_n 0, 1) := dk_42 (dk_at dksX1_book_0 0 rfl rfl)
theorem dX1_book_1 : decode cX1_book 1 = .ok (.ldc 147, 2) := dk_18 147 (dk_at dksX1_book_0 1 rfl rfl)
theorem dX1_book_3 : decode cX1_book 3 = .ok (.iconst 3, 1) := dk_6 (dk_at dksX1_book_0 3 rfl rfl)
theorem dX1_book_4 : decode cX1_book 4 = .ok (.newarray .int, 2) := dk_188_10 (dk_at dksX1_book_0 4 rfl rfl)
theorem dX1_book_6 : decode cX1_book 6 = .ok (.dup, 1) := dk_89 (dk_at dksX1_book_0 6 rfl rfl)
theorem dX1_book_7 : decode cX1_book 7 = .ok (.iconst 0, 1) := dk_3 (dk_at dksX1_book_0 7 rfl rfl)
theorem dX1_book_8 : decode cX1_book 8 = .ok (.iload_n 1, 1) := dk_27 (dk_at dksX1_book_0 8 rfl rfl)
theorem dX1_book_9 : decode cX1_book 9 = .ok (.iastore, 1) := dk_79 (dk_at dksX1_book_0 9 rfl rfl)
theorem dX1_book_10 : decode cX1_book 10 = .ok (.dup, 1) := dk_89 (dk_at dksX1_book_0 10 rfl rfl)
theorem dX1_book_11 : decode cX1_book 11 = .ok (.iconst 1, 1) := dk_4 (dk_at dksX1_book_0 11 rfl rfl)
theorem dX1_book_12 : decode cX1_book 12 = .ok (.iload_n 2, 1) := dk_28 (dk_at dksX1_book_0 12 rfl rfl)
theorem dX1_book_13 : decode cX1_book 13 = .ok (.iastore, 1) := dk_79 (dk_at dksX1_book_0 13 rfl rfl)
theorem dX1_book_14 : decode cX1_book 14 = .ok (.dup, 1) := dk_89 (dk_at dksX1_book_0 14 rfl rfl)
theorem dX1_book_15 : decode cX1_book 15 = .ok (.iconst 2, 1) := dk_5 (dk_at dksX1_book_0 15 rfl rfl)
theorem dX1_book_16 : decode cX1_book 16 = .ok (.iload_n 3, 1) := dk_29 (dk_at dksX1_book_0 16 rfl rfl)
theorem dX1_book_17 : decode cX1_book 17 = .ok (.iastore, 1) := dk_79 (dk_at dksX1_book_0 17 rfl rfl)
theorem dX1_book_18 : decode cX1_book 18 = .ok (.invokevirtual 119, 3) := dk_182 0 119 (dk_at dksX1_book_0 18 rfl rfl)
theorem dX1_book_21 : decode cX1_book 21 = .ok (.ireturn, 1) := dk_172 (dk_at dksX1_book_0 21 rfl rfl)
abbrev cX1_free : ByteArray := prog_1_method_21_code
def yX1_free : MethodName := ⟨RX1, "free", "(II)I"⟩
def dkwX1_free_0 : List UInt8 := [42, 18, 149, 5, 188, 10, 89, 3, 27, 79, 89, 4, 28, 79, 182, 0, 119, 172]
abbrev dktX1_free_0 : List UInt8 := dkwX1_free_0 ++ []
theorem dksX1_free_0 : cX1_free.data.toList.drop 0 = dktX1_free_0 := by decide +kernel
theorem dX1_free_0 : decode cX1_free 0 = .ok (.aload_n 0, 1) := dk_42 (dk_at dksX1_free_0 0 rfl rfl)
theorem dX1_free_1 : decode cX1_free 1 = .ok (.ldc 149, 2) := dk_18 149 (dk_at dksX1_free_0 1 rfl rfl)
theorem dX1_free_3 : decode cX1_free 3 = .ok (.iconst 2, 1) := dk_5 (dk_at dksX1_free_0 3 rfl rfl)
theorem dX1_free_4 : decode cX1_free 4 = .ok (.newarray .int, 2) := dk_188_10 (dk_at dksX1_free_0 4 rfl rfl)
theorem dX1_free_6 : decode cX1_free 6 = .ok (.dup, 1) := dk_89 (dk_at dksX1_free_0 6 rfl rfl)
theorem dX1_free_7 : decode cX1_free 7 = .ok (.iconst 0, 1) := dk_3 (dk_at dksX1_free_0 7 rfl rfl)
theorem dX1_free_8 : decode cX1_free 8 = .ok (.iload_n 1, 1) := dk_27 (dk_at dksX1_free_0 8 rfl rfl)
theorem dX1_free_9 : decode cX1_free 9 = .ok (.iastore, 1) := dk_79 (dk_at dksX1_free_0 9 rfl rfl)
theorem dX1_free_10 : decode cX1_free 10 = .ok (.dup, 1) := dk_89 (dk_at dksX1_free_0 10 rfl rfl)
theorem dX1_free_11 : decode cX1_free 11 = .ok (.iconst 1, 1) := dk_4 (dk_at dksX1_free_0 11 rfl rfl)
theorem dX1_free_12 : decode cX1_free 12 = .ok (.iload_n 2, 1) := dk_28 (dk_at dksX1_free_0 12 rfl rfl)
theorem dX1_free_13 : decode cX1_free 13 = .ok (.iastore, 1) := dk_79 (dk_at dksX1_free_0 13 rfl rfl)
theorem dX1_free_14 : decode cX1_free 14 = .ok (.invokevirtual 119, 3) := dk_182 0 119 (dk_at dksX1_free_0 14 rfl rfl)
theorem dX1_free_17 : decode cX1_free 17 = .ok (.ireturn, 1) := dk_172 (dk_at dksX1_free_0 17 rfl rfl)
abbrev cX1_booked : ByteArray := prog_1_method_22_code
def yX1_booked : MethodName := ⟨RX1, "booked", "(II)I"⟩
def dkwX1_booked_0 : List UInt8 := [42, 180, 0, 41, 27, 182, 0, 151, 78, 28, 184, 0, 154, 45, 28, 182, 0, 158, 172]
abbrev dktX1_booked_0 : List UInt8 := dkwX1_booked_0 ++ []
theorem dksX1_booked_0 : cX1_booked.data.toList.drop 0 = dktX1_booked_0 := by decide +kernel
theorem dX1_booked_0 : decode cX1_booked 0 = .ok (.aload_n 0, 1) := dk_42 (dk_at dksX1_booked_0 0 rfl rfl)
theorem dX1_booked_1 : decode cX1_booked 1 = .ok (.getfield 41, 3) := dk_180 0 41 (dk_at dksX1_booked_0 1 rfl rfl)
theorem dX1_booked_4 : decode cX1_booked 4 = .ok (.iload_n 1, 1) := dk_27 (dk_at dksX1_booked_0 4 rfl rfl)
theorem dX1_booked_5 : decode cX1_booked 5 = .ok (.invokevirtual 151, 3) := dk_182 0 151 (dk_at dksX1_booked_0 5 rfl rfl)
theorem dX1_booked_8 : decode cX1_booked 8 = .ok (.astore_n 3, 1) := dk_78 (dk_at dksX1_booked_0 8 rfl rfl)
theorem dX1_booked_9 : decode cX1_booked 9 = .ok (.iload_n 2, 1) := dk_28 (dk_at dksX1_booked_0 9 rfl rfl)
theorem dX1_booked_10 : decode cX1_booked 10 = .ok (.invokestatic 154, 3) := dk_184 0 154 (dk_at dksX1_booked_0 10 rfl rfl)
theorem dX1_booked_13 : decode cX1_booked 13 = .ok (.aload_n 3, 1) := dk_45 (dk_at dksX1_booked_0 13 rfl rfl)
theorem dX1_booked_14 : decode cX1_booked 14 = .ok (.iload_n 2, 1) := dk_28 (dk_at dksX1_booked_0 14 rfl rfl)
theorem dX1_booked_15 : decode cX1_booked 15 = .ok (.invokevirtual 158, 3) := dk_182 0 158 (dk_at dksX1_booked_0 15 rfl rfl)
theorem dX1_booked_18 : decode cX1_booked 18 = .ok (.ireturn, 1) := dk_172 (dk_at dksX1_booked_0 18 rfl rfl)
abbrev cX1_nextFree : ByteArray := prog_1_method_23_code
def yX1_nextFree : MethodName := ⟨RX1, "nextFree", "(II)I"⟩
def dkwX1_nextFree_1 : List UInt8 := [182, 0, 165, 54, 4, 21, 4, 2, 159, 0, 7, 4, 167, 0, 4, 3, 184, 0, 168, 21, 4, 172]
abbrev dktX1_nextFree_1 : List UInt8 := dkwX1_nextFree_1 ++ []
def dkwX1_nextFree_0 : List UInt8 := [42, 180, 0, 41, 27, 182, 0, 151, 78, 28, 133, 10, 20, 0, 163, 184, 0, 23, 184, 0, 27, 45, 28]
abbrev dktX1_nextFree_0 : List UInt8 := dkwX1_nextFree_0 ++ dktX1_nextFree_1
theorem dksX1_nextFree_0 : cX1_nextFree.data.toList.drop 0 = dktX1_nextFree_0 := by decide +kernel
theorem dksX1_nextFree_1 : cX1_nextFree.data.toList.drop 23 = dktX1_nextFree_1 := dk_seg dksX1_nextFree_0 23 rfl rfl
theorem dX1_nextFree_0 : decode cX1_nextFree 0 = .ok (.aload_n 0, 1) := dk_42 (dk_at dksX1_nextFree_0 0 rfl rfl)
theorem dX1_nextFree_1 : decode cX1_nextFree 1 = .ok (.getfield 41, 3) := dk_180 0 41 (dk_at dksX1_nextFree_0 1 rfl rfl)
theorem dX1_nextFree_4 : decode cX1_nextFree 4 = .ok (.iload_n 1, 1) := dk_27 (dk_at dksX1_nextFree_0 4 rfl rfl)
theorem dX1_nextFree_5 : decode cX1_nextFree 5 = .ok (.invokevirtual 151, 3) := dk_182 0 151 (dk_at dksX1_nextFree_0 5 rfl rfl)
theorem dX1_nextFree_8 : decode cX1_nextFree 8 = .ok (.astore_n 3, 1) := dk_78 (dk_at dksX1_nextFree_0 8 rfl rfl)
theorem dX1_nextFree_9 : decode cX1_nextFree 9 = .ok (.iload_n 2, 1) := dk_28 (dk_at dksX1_nextFree_0 9 rfl rfl)
theorem dX1_nextFree_10 : decode cX1_nextFree 10 = .ok (.i2l, 1) := dk_133 (dk_at dksX1_nextFree_0 10 rfl rfl)
theorem dX1_nextFree_11 : decode cX1_nextFree 11 = .ok (.lconst 1, 1) := dk_10 (dk_at dksX1_nextFree_0 11 rfl rfl)
theorem dX1_nextFree_12 : decode cX1_nextFree 12 = .ok (.ldc2_w 163, 3) := dk_20 0 163 (dk_at dksX1_nextFree_0 12 rfl rfl)
theorem dX1_nextFree_15 : decode cX1_nextFree 15 = .ok (.invokestatic 23, 3) := dk_184 0 23 (dk_at dksX1_nextFree_0 15 rfl rfl)
theorem dX1_nextFree_18 : decode cX1_nextFree 18 = .ok (.invokestatic 27, 3) := dk_184 0 27 (dk_at dksX1_nextFree_0 18 rfl rfl)
theorem dX1_nextFree_21 : decode cX1_nextFree 21 = .ok (.aload_n 3, 1) := dk_45 (dk_at dksX1_nextFree_0 21 rfl rfl)
theorem dX1_nextFree_22 : decode cX1_nextFree 22 = .ok (.iload_n 2, 1) := dk_28 (dk_at dksX1_nextFree_0 22 rfl rfl)
theorem dX1_nextFree_23 : decode cX1_nextFree 23 = .ok (.invokevirtual 165, 3) := dk_182 0 165 (dk_at dksX1_nextFree_1 0 rfl rfl)
theorem dX1_nextFree_26 : decode cX1_nextFree 26 = .ok (.istore 4, 2) := dk_54 4 (dk_at dksX1_nextFree_1 3 rfl rfl)
theorem dX1_nextFree_28 : decode cX1_nextFree 28 = .ok (.iload 4, 2) := dk_21 4 (dk_at dksX1_nextFree_1 5 rfl rfl)
theorem dX1_nextFree_30 : decode cX1_nextFree 30 = .ok (.iconst (-1), 1) := dk_2 (dk_at dksX1_nextFree_1 7 rfl rfl)
theorem dX1_nextFree_31 : decode cX1_nextFree 31 = .ok (.if_icmp .eq 7, 3) := dk_159 0 7 (dk_at dksX1_nextFree_1 8 rfl rfl)
theorem dX1_nextFree_34 : decode cX1_nextFree 34 = .ok (.iconst 1, 1) := dk_4 (dk_at dksX1_nextFree_1 11 rfl rfl)
theorem dX1_nextFree_35 : decode cX1_nextFree 35 = .ok (.goto 4, 3) := dk_167 0 4 (dk_at dksX1_nextFree_1 12 rfl rfl)
theorem dX1_nextFree_38 : decode cX1_nextFree 38 = .ok (.iconst 0, 1) := dk_3 (dk_at dksX1_nextFree_1 15 rfl rfl)
theorem dX1_nextFree_39 : decode cX1_nextFree 39 = .ok (.invokestatic 168, 3) := dk_184 0 168 (dk_at dksX1_nextFree_1 16 rfl rfl)
theorem dX1_nextFree_42 : decode cX1_nextFree 42 = .ok (.iload 4, 2) := dk_21 4 (dk_at dksX1_nextFree_1 19 rfl rfl)
theorem dX1_nextFree_44 : decode cX1_nextFree 44 = .ok (.ireturn, 1) := dk_172 (dk_at dksX1_nextFree_1 21 rfl rfl)
abbrev cX1_checkElement : ByteArray := prog_1_method_5_code
def yX1_checkElement : MethodName := ⟨RX1, "checkElement", "(Z)V"⟩
def dkwX1_checkElement_0 : List UInt8 := [26, 154, 0, 11, 187, 0, 13, 89, 183, 0, 15, 191, 177]
abbrev dktX1_checkElement_0 : List UInt8 := dkwX1_checkElement_0 ++ []
theorem dksX1_checkElement_0 : cX1_checkElement.data.toList.drop 0 = dktX1_checkElement_0 := by decide +kernel
theorem dX1_checkElement_0 : decode cX1_checkElement 0 = .ok (.iload_n 0, 1) := dk_26 (dk_at dksX1_checkElement_0 0 rfl rfl)
theorem dX1_checkElement_1 : decode cX1_checkElement 1 = .ok (.ifCond .ne 11, 3) := dk_154 0 11 (dk_at dksX1_checkElement_0 1 rfl rfl)
theorem dX1_checkElement_4 : decode cX1_checkElement 4 = .ok (.new 13, 3) := dk_187 0 13 (dk_at dksX1_checkElement_0 4 rfl rfl)
theorem dX1_checkElement_7 : decode cX1_checkElement 7 = .ok (.dup, 1) := dk_89 (dk_at dksX1_checkElement_0 7 rfl rfl)
theorem dX1_checkElement_8 : decode cX1_checkElement 8 = .ok (.invokespecial 15, 3) := dk_183 0 15 (dk_at dksX1_checkElement_0 8 rfl rfl)
theorem dX1_checkElement_11 : decode cX1_checkElement 11 = .ok (.athrow, 1) := dk_191 (dk_at dksX1_checkElement_0 11 rfl rfl)
theorem dX1_checkElement_12 : decode cX1_checkElement 12 = .ok (.return_, 1) := dk_177 (dk_at dksX1_checkElement_0 12 rfl rfl)
abbrev cX1_teach : ByteArray := prog_1_method_24_code
def yX1_teach : MethodName := ⟨RX1, "teach", "(I)I"⟩
def dkwX1_teach_0 : List UInt8 := [42, 18, 171, 4, 188, 10, 89, 3, 27, 79, 182, 0, 119, 172]
abbrev dktX1_teach_0 : List UInt8 := dkwX1_teach_0 ++ []
theorem dksX1_teach_0 : cX1_teach.data.toList.drop 0 = dktX1_teach_0 := by decide +kernel
theorem dX1_teach_0 : decode cX1_teach 0 = .ok (.aload_n 0, 1) := dk_42 (dk_at dksX1_teach_0 0 rfl rfl)
theorem dX1_teach_1 : decode cX1_teach 1 = .ok (.ldc 171, 2) := dk_18 171 (dk_at dksX1_teach_0 1 rfl rfl)
theorem dX1_teach_3 : decode cX1_teach 3 = .ok (.iconst 1, 1) := dk_4 (dk_at dksX1_teach_0 3 rfl rfl)
theorem dX1_teach_4 : decode cX1_teach 4 = .ok (.newarray .int, 2) := dk_188_10 (dk_at dksX1_teach_0 4 rfl rfl)
theorem dX1_teach_6 : decode cX1_teach 6 = .ok (.dup, 1) := dk_89 (dk_at dksX1_teach_0 6 rfl rfl)
theorem dX1_teach_7 : decode cX1_teach 7 = .ok (.iconst 0, 1) := dk_3 (dk_at dksX1_teach_0 7 rfl rfl)
theorem dX1_teach_8 : decode cX1_teach 8 = .ok (.iload_n 1, 1) := dk_27 (dk_at dksX1_teach_0 8 rfl rfl)
theorem dX1_teach_9 : decode cX1_teach 9 = .ok (.iastore, 1) := dk_79 (dk_at dksX1_teach_0 9 rfl rfl)
theorem dX1_teach_10 : decode cX1_teach 10 = .ok (.invokevirtual 119, 3) := dk_182 0 119 (dk_at dksX1_teach_0 10 rfl rfl)
theorem dX1_teach_13 : decode cX1_teach 13 = .ok (.ireturn, 1) := dk_172 (dk_at dksX1_teach_0 13 rfl rfl)
abbrev cX1_trial : ByteArray := prog_1_method_25_code
def yX1_trial : MethodName := ⟨RX1, "trial", "(IIII)I"⟩
def dkwX1_trial_1 : List UInt8 := [182, 0, 119, 172]
abbrev dktX1_trial_1 : List UInt8 := dkwX1_trial_1 ++ []
def dkwX1_trial_0 : List UInt8 := [42, 18, 173, 7, 188, 10, 89, 3, 27, 79, 89, 4, 28, 79, 89, 5, 29, 79, 89, 6, 21, 4, 79]
abbrev dktX1_trial_0 : List UInt8 := dkwX1_trial_0 ++ dktX1_trial_1
theorem dksX1_trial_0 : cX1_trial.data.toList.drop 0 = dktX1_trial_0 := by decide +kernel
theorem dksX1_trial_1 : cX1_trial.data.toList.drop 23 = dktX1_trial_1 := dk_seg dksX1_trial_0 23 rfl rfl
theorem dX1_trial_0 : decode cX1_trial 0 = .ok (.aload_n 0, 1) := dk_42 (dk_at dksX1_trial_0 0 rfl rfl)
theorem dX1_trial_1 : decode cX1_trial 1 = .ok (.ldc 173, 2) := dk_18 173 (dk_at dksX1_trial_0 1 rfl rfl)
theorem dX1_trial_3 : decode cX1_trial 3 = .ok (.iconst 4, 1) := dk_7 (dk_at dksX1_trial_0 3 rfl rfl)
theorem dX1_trial_4 : decode cX1_trial 4 = .ok (.newarray .int, 2) := dk_188_10 (dk_at dksX1_trial_0 4 rfl rfl)
theorem dX1_trial_6 : decode cX1_trial 6 = .ok (.dup, 1) := dk_89 (dk_at dksX1_trial_0 6 rfl rfl)
theorem dX1_trial_7 : decode cX1_trial 7 = .ok (.iconst 0, 1) := dk_3 (dk_at dksX1_trial_0 7 rfl rfl)
theorem dX1_trial_8 : decode cX1_trial 8 = .ok (.iload_n 1, 1) := dk_27 (dk_at dksX1_trial_0 8 rfl rfl)
theorem dX1_trial_9 : decode cX1_trial 9 = .ok (.iastore, 1) := dk_79 (dk_at dksX1_trial_0 9 rfl rfl)
theorem dX1_trial_10 : decode cX1_trial 10 = .ok (.dup, 1) := dk_89 (dk_at dksX1_trial_0 10 rfl rfl)
theorem dX1_trial_11 : decode cX1_trial 11 = .ok (.iconst 1, 1) := dk_4 (dk_at dksX1_trial_0 11 rfl rfl)
theorem dX1_trial_12 : decode cX1_trial 12 = .ok (.iload_n 2, 1) := dk_28 (dk_at dksX1_trial_0 12 rfl rfl)
theorem dX1_trial_13 : decode cX1_trial 13 = .ok (.iastore, 1) := dk_79 (dk_at dksX1_trial_0 13 rfl rfl)
theorem dX1_trial_14 : decode cX1_trial 14 = .ok (.dup, 1) := dk_89 (dk_at dksX1_trial_0 14 rfl rfl)
theorem dX1_trial_15 : decode cX1_trial 15 = .ok (.iconst 2, 1) := dk_5 (dk_at dksX1_trial_0 15 rfl rfl)
theorem dX1_trial_16 : decode cX1_trial 16 = .ok (.iload_n 3, 1) := dk_29 (dk_at dksX1_trial_0 16 rfl rfl)
theorem dX1_trial_17 : decode cX1_trial 17 = .ok (.iastore, 1) := dk_79 (dk_at dksX1_trial_0 17 rfl rfl)
theorem dX1_trial_18 : decode cX1_trial 18 = .ok (.dup, 1) := dk_89 (dk_at dksX1_trial_0 18 rfl rfl)
theorem dX1_trial_19 : decode cX1_trial 19 = .ok (.iconst 3, 1) := dk_6 (dk_at dksX1_trial_0 19 rfl rfl)
theorem dX1_trial_20 : decode cX1_trial 20 = .ok (.iload 4, 2) := dk_21 4 (dk_at dksX1_trial_0 20 rfl rfl)
theorem dX1_trial_22 : decode cX1_trial 22 = .ok (.iastore, 1) := dk_79 (dk_at dksX1_trial_0 22 rfl rfl)
theorem dX1_trial_23 : decode cX1_trial 23 = .ok (.invokevirtual 119, 3) := dk_182 0 119 (dk_at dksX1_trial_1 0 rfl rfl)
theorem dX1_trial_26 : decode cX1_trial 26 = .ok (.ireturn, 1) := dk_172 (dk_at dksX1_trial_1 3 rfl rfl)
abbrev cX1_skim : ByteArray := prog_1_method_26_code
def yX1_skim : MethodName := ⟨RX1, "skim", "(IIII)I"⟩
def dkwX1_skim_1 : List UInt8 := [182, 0, 119, 172]
abbrev dktX1_skim_1 : List UInt8 := dkwX1_skim_1 ++ []
def dkwX1_skim_0 : List UInt8 := [42, 18, 175, 7, 188, 10, 89, 3, 27, 79, 89, 4, 28, 79, 89, 5, 29, 79, 89, 6, 21, 4, 79]
abbrev dktX1_skim_0 : List UInt8 := dkwX1_skim_0 ++ dktX1_skim_1
theorem dksX1_skim_0 : cX1_skim.data.toList.drop 0 = dktX1_skim_0 := by decide +kernel
theorem dksX1_skim_1 : cX1_skim.data.toList.drop 23 = dktX1_skim_1 := dk_seg dksX1_skim_0 23 rfl rfl
theorem dX1_skim_0 : decode cX1_skim 0 = .ok (.aload_n 0, 1) := dk_42 (dk_at dksX1_skim_0 0 rfl rfl)
theorem dX1_skim_1 : decode cX1_skim 1 = .ok (.ldc 175, 2) := dk_18 175 (dk_at dksX1_skim_0 1 rfl rfl)
theorem dX1_skim_3 : decode cX1_skim 3 = .ok (.iconst 4, 1) := dk_7 (dk_at dksX1_skim_0 3 rfl rfl)
theorem dX1_skim_4 : decode cX1_skim 4 = .ok (.newarray .int, 2) := dk_188_10 (dk_at dksX1_skim_0 4 rfl rfl)
theorem dX1_skim_6 : decode cX1_skim 6 = .ok (.dup, 1) := dk_89 (dk_at dksX1_skim_0 6 rfl rfl)
theorem dX1_skim_7 : decode cX1_skim 7 = .ok (.iconst 0, 1) := dk_3 (dk_at dksX1_skim_0 7 rfl rfl)
theorem dX1_skim_8 : decode cX1_skim 8 = .ok (.iload_n 1, 1) := dk_27 (dk_at dksX1_skim_0 8 rfl rfl)
theorem dX1_skim_9 : decode cX1_skim 9 = .ok (.iastore, 1) := dk_79 (dk_at dksX1_skim_0 9 rfl rfl)
theorem dX1_skim_10 : decode cX1_skim 10 = .ok (.dup, 1) := dk_89 (dk_at dksX1_skim_0 10 rfl rfl)
theorem dX1_skim_11 : decode cX1_skim 11 = .ok (.iconst 1, 1) := dk_4 (dk_at dksX1_skim_0 11 rfl rfl)
theorem dX1_skim_12 : decode cX1_skim 12 = .ok (.iload_n 2, 1) := dk_28 (dk_at dksX1_skim_0 12 rfl rfl)
theorem dX1_skim_13 : decode cX1_skim 13 = .ok (.iastore, 1) := dk_79 (dk_at dksX1_skim_0 13 rfl rfl)
theorem dX1_skim_14 : decode cX1_skim 14 = .ok (.dup, 1) := dk_89 (dk_at dksX1_skim_0 14 rfl rfl)
theorem dX1_skim_15 : decode cX1_skim 15 = .ok (.iconst 2, 1) := dk_5 (dk_at dksX1_skim_0 15 rfl rfl)
theorem dX1_skim_16 : decode cX1_skim 16 = .ok (.iload_n 3, 1) := dk_29 (dk_at dksX1_skim_0 16 rfl rfl)
theorem dX1_skim_17 : decode cX1_skim 17 = .ok (.iastore, 1) := dk_79 (dk_at dksX1_skim_0 17 rfl rfl)
theorem dX1_skim_18 : decode cX1_skim 18 = .ok (.dup, 1) := dk_89 (dk_at dksX1_skim_0 18 rfl rfl)
theorem dX1_skim_19 : decode cX1_skim 19 = .ok (.iconst 3, 1) := dk_6 (dk_at dksX1_skim_0 19 rfl rfl)
theorem dX1_skim_20 : decode cX1_skim 20 = .ok (.iload 4, 2) := dk_21 4 (dk_at dksX1_skim_0 20 rfl rfl)
theorem dX1_skim_22 : decode cX1_skim 22 = .ok (.iastore, 1) := dk_79 (dk_at dksX1_skim_0 22 rfl rfl)
theorem dX1_skim_23 : decode cX1_skim 23 = .ok (.invokevirtual 119, 3) := dk_182 0 119 (dk_at dksX1_skim_1 0 rfl rfl)
theorem dX1_skim_26 : decode cX1_skim 26 = .ok (.ireturn, 1) := dk_172 (dk_at dksX1_skim_1 3 rfl rfl)
abbrev cX1_fetch : ByteArray := prog_1_method_27_code
def yX1_fetch : MethodName := ⟨RX1, "fetch", "(I)I"⟩
def dkwX1_fetch_0 : List UInt8 := [42, 18, 177, 4, 188, 10, 89, 3, 27, 79, 182, 0, 119, 172]
abbrev dktX1_fetch_0 : List UInt8 := dkwX1_fetch_0 ++ []
theorem dksX1_fetch_0 : cX1_fetch.data.toList.drop 0 = dktX1_fetch_0 := by decide +kernel
theorem dX1_fetch_0 : decode cX1_fetch 0 = .ok (.aload_n 0, 1) := dk_42 (dk_at dksX1_fetch_0 0 rfl rfl)
theorem dX1_fetch_1 : decode cX1_fetch 1 = .ok (.ldc 177, 2) := dk_18 177 (dk_at dksX1_fetch_0 1 rfl rfl)
theorem dX1_fetch_3 : decode cX1_fetch 3 = .ok (.iconst 1, 1) := dk_4 (dk_at dksX1_fetch_0 3 rfl rfl)
theorem dX1_fetch_4 : decode cX1_fetch 4 = .ok (.newarray .int, 2) := dk_188_10 (dk_at dksX1_fetch_0 4 rfl rfl)
theorem dX1_fetch_6 : decode cX1_fetch 6 = .ok (.dup, 1) := dk_89 (dk_at dksX1_fetch_0 6 rfl rfl)
theorem dX1_fetch_7 : decode cX1_fetch 7 = .ok (.iconst 0, 1) := dk_3 (dk_at dksX1_fetch_0 7 rfl rfl)
theorem dX1_fetch_8 : decode cX1_fetch 8 = .ok (.iload_n 1, 1) := dk_27 (dk_at dksX1_fetch_0 8 rfl rfl)
theorem dX1_fetch_9 : decode cX1_fetch 9 = .ok (.iastore, 1) := dk_79 (dk_at dksX1_fetch_0 9 rfl rfl)
theorem dX1_fetch_10 : decode cX1_fetch 10 = .ok (.invokevirtual 119, 3) := dk_182 0 119 (dk_at dksX1_fetch_0 10 rfl rfl)
theorem dX1_fetch_13 : decode cX1_fetch 13 = .ok (.ireturn, 1) := dk_172 (dk_at dksX1_fetch_0 13 rfl rfl)
abbrev cX1_skips : ByteArray := prog_1_method_29_code
def yX1_skips : MethodName := ⟨RX1, "skips", "(IIIIZ)I"⟩
def dkwX1_skips_1 : List UInt8 := [167, 0, 8, 25, 6, 182, 0, 190, 172]
abbrev dktX1_skips_1 : List UInt8 := dkwX1_skips_1 ++ []
def dkwX1_skips_0 : List UInt8 := [42, 180, 0, 41, 27, 28, 29, 21, 4, 182, 0, 181, 58, 6, 21, 5, 153, 0, 11, 25, 6, 182, 0, 185]
abbrev dktX1_skips_0 : List UInt8 := dkwX1_skips_0 ++ dktX1_skips_1
theorem dksX1_skips_0 : cX1_skips.data.toList.drop 0 = dktX1_skips_0 := by decide +kernel
theorem dksX1_skips_1 : cX1_skips.data.toList.drop 24 = dktX1_skips_1 := dk_seg dksX1_skips_0 24 rfl rfl
theorem dX1_skips_0 : decode cX1_skips 0 = .ok (.aload_n 0, 1) := dk_42 (dk_at dksX1_skips_0 0 rfl rfl)
theorem dX1_skips_1 : decode cX1_skips 1 = .ok (.getfield 41, 3) := dk_180 0 41 (dk_at dksX1_skips_0 1 rfl rfl)
theorem dX1_skips_4 : decode cX1_skips 4 = .ok (.iload_n 1, 1) := dk_27 (dk_at dksX1_skips_0 4 rfl rfl)
theorem dX1_skips_5 : decode cX1_skips 5 = .ok (.iload_n 2, 1) := dk_28 (dk_at dksX1_skips_0 5 rfl rfl)
theorem dX1_skips_6 : decode cX1_skips 6 = .ok (.iload_n 3, 1) := dk_29 (dk_at dksX1_skips_0 6 rfl rfl)
theorem dX1_skips_7 : decode cX1_skips 7 = .ok (.iload 4, 2) := dk_21 4 (dk_at dksX1_skips_0 7 rfl rfl)
theorem dX1_skips_9 : decode cX1_skips 9 = .ok (.invokevirtual 181, 3) := dk_182 0 181 (dk_at dksX1_skips_0 9 rfl rfl)
theorem dX1_skips_12 : decode cX1_skips 12 = .ok (.astore 6, 2) := dk_58 6 (dk_at dksX1_skips_0 12 rfl rfl)
theorem dX1_skips_14 : decode cX1_skips 14 = .ok (.iload 5, 2) := dk_21 5 (dk_at dksX1_skips_0 14 rfl rfl)
theorem dX1_skips_16 : decode cX1_skips 16 = .ok (.ifCond .eq 11, 3) := dk_153 0 11 (dk_at dksX1_skips_0 16 rfl rfl)
theorem dX1_skips_19 : decode cX1_skips 19 = .ok (.aload 6, 2) := dk_25 6 (dk_at dksX1_skips_0 19 rfl rfl)
theorem dX1_skips_21 : decode cX1_skips 21 = .ok (.invokevirtual 185, 3) := dk_182 0 185 (dk_at dksX1_skips_0 21 rfl rfl)
theorem dX1_skips_24 : decode cX1_skips 24 = .ok (.goto 8, 3) := dk_167 0 8 (dk_at dksX1_skips_1 0 rfl rfl)
theorem dX1_skips_27 : decode cX1_skips 27 = .ok (.aload 6, 2) := dk_25 6 (dk_at dksX1_skips_1 3 rfl rfl)
theorem dX1_skips_29 : decode cX1_skips 29 = .ok (.invokevirtual 190, 3) := dk_182 0 190 (dk_at dksX1_skips_1 5 rfl rfl)
theorem dX1_skips_32 : decode cX1_skips 32 = .ok (.ireturn, 1) := dk_172 (dk_at dksX1_skips_1 8 rfl rfl)
abbrev cX1_way : ByteArray := prog_1_method_30_code
def yX1_way : MethodName := ⟨RX1, "way", "(IIIIZ)I"⟩
def dkwX1_way_1 : List UInt8 := [167, 0, 8, 25, 6, 182, 0, 196, 172]
abbrev dktX1_way_1 : List UInt8 := dkwX1_way_1 ++ []
def dkwX1_way_0 : List UInt8 := [42, 180, 0, 41, 27, 28, 29, 21, 4, 182, 0, 181, 58, 6, 21, 5, 153, 0, 11, 25, 6, 182, 0, 193]
abbrev dktX1_way_0 : List UInt8 := dkwX1_way_0 ++ dktX1_way_1
theorem dksX1_way_0 : cX1_way.data.toList.drop 0 = dktX1_way_0 := by decide +kernel
theorem dksX1_way_1 : cX1_way.data.toList.drop 24 = dktX1_way_1 := dk_seg dksX1_way_0 24 rfl rfl
theorem dX1_way_0 : decode cX1_way 0 = .ok (.aload_n 0, 1) := dk_42 (dk_at dksX1_way_0 0 rfl rfl)
theorem dX1_way_1 : decode cX1_way 1 = .ok (.getfield 41, 3) := dk_180 0 41 (dk_at dksX1_way_0 1 rfl rfl)
theorem dX1_way_4 : decode cX1_way 4 = .ok (.iload_n 1, 1) := dk_27 (dk_at dksX1_way_0 4 rfl rfl)
theorem dX1_way_5 : decode cX1_way 5 = .ok (.iload_n 2, 1) := dk_28 (dk_at dksX1_way_0 5 rfl rfl)
theorem dX1_way_6 : decode cX1_way 6 = .ok (.iload_n 3, 1) := dk_29 (dk_at dksX1_way_0 6 rfl rfl)
theorem dX1_way_7 : decode cX1_way 7 = .ok (.iload 4, 2) := dk_21 4 (dk_at dksX1_way_0 7 rfl rfl)
theorem dX1_way_9 : decode cX1_way 9 = .ok (.invokevirtual 181, 3) := dk_182 0 181 (dk_at dksX1_way_0 9 rfl rfl)
theorem dX1_way_12 : decode cX1_way 12 = .ok (.astore 6, 2) := dk_58 6 (dk_at dksX1_way_0 12 rfl rfl)
theorem dX1_way_14 : decode cX1_way 14 = .ok (.iload 5, 2) := dk_21 5 (dk_at dksX1_way_0 14 rfl rfl)
theorem dX1_way_16 : decode cX1_way 16 = .ok (.ifCond .eq 11, 3) := dk_153 0 11 (dk_at dksX1_way_0 16 rfl rfl)
theorem dX1_way_19 : decode cX1_way 19 = .ok (.aload 6, 2) := dk_25 6 (dk_at dksX1_way_0 19 rfl rfl)
theorem dX1_way_21 : decode cX1_way 21 = .ok (.invokevirtual 193, 3) := dk_182 0 193 (dk_at dksX1_way_0 21 rfl rfl)
theorem dX1_way_24 : decode cX1_way 24 = .ok (.goto 8, 3) := dk_167 0 8 (dk_at dksX1_way_1 0 rfl rfl)
theorem dX1_way_27 : decode cX1_way 27 = .ok (.aload 6, 2) := dk_25 6 (dk_at dksX1_way_1 3 rfl rfl)
theorem dX1_way_29 : decode cX1_way 29 = .ok (.invokevirtual 196, 3) := dk_182 0 196 (dk_at dksX1_way_1 5 rfl rfl)
theorem dX1_way_32 : decode cX1_way 32 = .ok (.ireturn, 1) := dk_172 (dk_at dksX1_way_1 8 rfl rfl)
abbrev cX1_bestAngle : ByteArray := prog_1_method_31_code
def yX1_bestAngle : MethodName := ⟨RX1, "bestAngle", "(III)I"⟩
def dkwX1_bestAngle_0 : List UInt8 := [42, 180, 0, 41, 27, 28, 3, 29, 182, 0, 181, 58, 4, 42, 180, 0, 41, 27, 28, 29, 182, 0, 199, 172]
abbrev dktX1_bestAngle_0 : List UInt8 := dkwX1_bestAngle_0 ++ []
theorem dksX1_bestAngle_0 : cX1_bestAngle.data.toList.drop 0 = dktX1_bestAngle_0 := by decide +kernel
theorem dX1_bestAngle_0 : decode cX1_bestAngle 0 = .ok (.aload_n 0, 1) := dk_42 (dk_at dksX1_bestAngle_0 0 rfl rfl)
theorem dX1_bestAngle_1 : decode cX1_bestAngle 1 = .ok (.getfield 41, 3) := dk_180 0 41 (dk_at dksX1_bestAngle_0 1 rfl rfl)
theorem dX1_bestAngle_4 : decode cX1_bestAngle 4 = .ok (.iload_n 1, 1) := dk_27 (dk_at dksX1_bestAngle_0 4 rfl rfl)
theorem dX1_bestAngle_5 : decode cX1_bestAngle 5 = .ok (.iload_n 2, 1) := dk_28 (dk_at dksX1_bestAngle_0 5 rfl rfl)
theorem dX1_bestAngle_6 : decode cX1_bestAngle 6 = .ok (.iconst 0, 1) := dk_3 (dk_at dksX1_bestAngle_0 6 rfl rfl)
theorem dX1_bestAngle_7 : decode cX1_bestAngle 7 = .ok (.iload_n 3, 1) := dk_29 (dk_at dksX1_bestAngle_0 7 rfl rfl)
theorem dX1_bestAngle_8 : decode cX1_bestAngle 8 = .ok (.invokevirtual 181, 3) := dk_182 0 181 (dk_at dksX1_bestAngle_0 8 rfl rfl)
theorem dX1_bestAngle_11 : decode cX1_bestAngle 11 = .ok (.astore 4, 2) := dk_58 4 (dk_at dksX1_bestAngle_0 11 rfl rfl)
theorem dX1_bestAngle_13 : decode cX1_bestAngle 13 = .ok (.aload_n 0, 1) := dk_42 (dk_at dksX1_bestAngle_0 13 rfl rfl)
theorem dX1_bestAngle_14 : decode cX1_bestAngle 14 = .ok (.getfield 41, 3) := dk_180 0 41 (dk_at dksX1_bestAngle_0 14 rfl rfl)
theorem dX1_bestAngle_17 : decode cX1_bestAngle 17 = .ok (.iload_n 1, 1) := dk_27 (dk_at dksX1_bestAngle_0 17 rfl rfl)
theorem dX1_bestAngle_18 : decode cX1_bestAngle 18 = .ok (.iload_n 2, 1) := dk_28 (dk_at dksX1_bestAngle_0 18 rfl rfl)
theorem dX1_bestAngle_19 : decode cX1_bestAngle 19 = .ok (.iload_n 3, 1) := dk_29 (dk_at dksX1_bestAngle_0 19 rfl rfl)
theorem dX1_bestAngle_20 : decode cX1_bestAngle 20 = .ok (.invokevirtual 199, 3) := dk_182 0 199 (dk_at dksX1_bestAngle_0 20 rfl rfl)
theorem dX1_bestAngle_23 : decode cX1_bestAngle 23 = .ok (.ireturn, 1) := dk_172 (dk_at dksX1_bestAngle_0 23 rfl rfl)
abbrev cX1_leastSpeed : ByteArray := prog_1_method_32_code
def yX1_leastSpeed : MethodName := ⟨RX1, "leastSpeed", "(III)I"⟩
def dkwX1_leastSpeed_1 : List UInt8 := [54, 5, 21, 5, 2, 159, 0, 7, 4, 167, 0, 4, 3, 184, 0, 168, 21, 5, 172]
abbrev dktX1_leastSpeed_1 : List UInt8 := dkwX1_leastSpeed_1 ++ []
def dkwX1_leastSpeed_0 : List UInt8 := [42, 180, 0, 41, 27, 28, 29, 4, 182, 0, 181, 58, 4, 42, 180, 0, 41, 27, 28, 29, 182, 0, 203]
abbrev dktX1_leastSpeed_0 : List UInt8 := dkwX1_leastSpeed_0 ++ dktX1_leastSpeed_1
theorem dksX1_leastSpeed_0 : cX1_leastSpeed.data.toList.drop 0 = dktX1_leastSpeed_0 := by decide +kernel
theorem dksX1_leastSpeed_1 : cX1_leastSpeed.data.toList.drop 23 = dktX1_leastSpeed_1 := dk_seg dksX1_leastSpeed_0 23 rfl rfl
theorem dX1_leastSpeed_0 : decode cX1_leastSpeed 0 = .ok (.aload_n 0, 1) := dk_42 (dk_at dksX1_leastSpeed_0 0 rfl rfl)
theorem dX1_leastSpeed_1 : decode cX1_leastSpeed 1 = .ok (.getfield 41, 3) := dk_180 0 41 (dk_at dksX1_leastSpeed_0 1 rfl rfl)
theorem dX1_leastSpeed_4 : decode cX1_leastSpeed 4 = .ok (.iload_n 1, 1) := dk_27 (dk_at dksX1_leastSpeed_0 4 rfl rfl)
theorem dX1_leastSpeed_5 : decode cX1_leastSpeed 5 = .ok (.iload_n 2, 1) := dk_28 (dk_at dksX1_leastSpeed_0 5 rfl rfl)
theorem dX1_leastSpeed_6 : decode cX1_leastSpeed 6 = .ok (.iload_n 3, 1) := dk_29 (dk_at dksX1_leastSpeed_0 6 rfl rfl)
theorem dX1_leastSpeed_7 : decode cX1_leastSpeed 7 = .ok (.iconst 1, 1) := dk_4 (dk_at dksX1_leastSpeed_0 7 rfl rfl)
theorem dX1_leastSpeed_8 : decode cX1_leastSpeed 8 = .ok (.invokevirtual 181, 3) := dk_182 0 181 (dk_at dksX1_leastSpeed_0 8 rfl rfl)
theorem dX1_leastSpeed_11 : decode cX1_leastSpeed 11 = .ok (.astore 4, 2) := dk_58 4 (dk_at dksX1_leastSpeed_0 11 rfl rfl)
theorem dX1_leastSpeed_13 : decode cX1_leastSpeed 13 = .ok (.aload_n 0, 1) := dk_42 (dk_at dksX1_leastSpeed_0 13 rfl rfl)
theorem dX1_leastSpeed_14 : decode cX1_leastSpeed 14 = .ok (.getfield 41, 3) := dk_180 0 41 (dk_at dksX1_leastSpeed_0 14 rfl rfl)
theorem dX1_leastSpeed_17 : decode cX1_leastSpeed 17 = .ok (.iload_n 1, 1) := dk_27 (dk_at dksX1_leastSpeed_0 17 rfl rfl)
theorem dX1_leastSpeed_18 : decode cX1_leastSpeed 18 = .ok (.iload_n 2, 1) := dk_28 (dk_at dksX1_leastSpeed_0 18 rfl rfl)
theorem dX1_leastSpeed_19 : decode cX1_leastSpeed 19 = .ok (.iload_n 3, 1) := dk_29 (dk_at dksX1_leastSpeed_0 19 rfl rfl)
theorem dX1_leastSpeed_20 : decode cX1_leastSpeed 20 = .ok (.invokevirtual 203, 3) := dk_182 0 203 (dk_at dksX1_leastSpeed_0 20 rfl rfl)
theorem dX1_leastSpeed_23 : decode cX1_leastSpeed 23 = .ok (.istore 5, 2) := dk_54 5 (dk_at dksX1_leastSpeed_1 0 rfl rfl)
theorem dX1_leastSpeed_25 : decode cX1_leastSpeed 25 = .ok (.iload 5, 2) := dk_21 5 (dk_at dksX1_leastSpeed_1 2 rfl rfl)
theorem dX1_leastSpeed_27 : decode cX1_leastSpeed 27 = .ok (.iconst (-1), 1) := dk_2 (dk_at dksX1_leastSpeed_1 4 rfl rfl)
theorem dX1_leastSpeed_28 : decode cX1_leastSpeed 28 = .ok (.if_icmp .eq 7, 3) := dk_159 0 7 (dk_at dksX1_leastSpeed_1 5 rfl rfl)
theorem dX1_leastSpeed_31 : decode cX1_leastSpeed 31 = .ok (.iconst 1, 1) := dk_4 (dk_at dksX1_leastSpeed_1 8 rfl rfl)
theorem dX1_leastSpeed_32 : decode cX1_leastSpeed 32 = .ok (.goto 4, 3) := dk_167 0 4 (dk_at dksX1_leastSpeed_1 9 rfl rfl)
theorem dX1_leastSpeed_35 : decode cX1_leastSpeed 35 = .ok (.iconst 0, 1) := dk_3 (dk_at dksX1_leastSpeed_1 12 rfl rfl)
theorem dX1_leastSpeed_36 : decode cX1_leastSpeed 36 = .ok (.invokestatic 168, 3) := dk_184 0 168 (dk_at dksX1_leastSpeed_1 13 rfl rfl)
theorem dX1_leastSpeed_39 : decode cX1_leastSpeed 39 = .ok (.iload 5, 2) := dk_21 5 (dk_at dksX1_leastSpeed_1 16 rfl rfl)
theorem dX1_leastSpeed_41 : decode cX1_leastSpeed 41 = .ok (.ireturn, 1) := dk_172 (dk_at dksX1_leastSpeed_1 18 rfl rfl)
abbrev cX1_alumnus : ByteArray := prog_1_method_33_code
def yX1_alumnus : MethodName := ⟨RX1, "alumnus", "(I)I"⟩
def dkwX1_alumnus_1 : List UInt8 := [180, 0, 41, 180, 0, 206, 27, 182, 0, 213, 192, 0, 217, 182, 0, 219, 172]
abbrev dktX1_alumnus_1 : List UInt8 := dkwX1_alumnus_1 ++ []
def dkwX1_alumnus_0 : List UInt8 := [27, 133, 9, 42, 180, 0, 41, 180, 0, 206, 182, 0, 210, 4, 100, 133, 184, 0, 23, 184, 0, 168, 42]
abbrev dktX1_alumnus_0 : List UInt8 := dkwX1_alumnus_0 ++ dktX1_alumnus_1
theorem dksX1_alumnus_0 : cX1_alumnus.data.toList.drop 0 = dktX1_alumnus_0 := by decide +kernel
theorem dksX1_alumnus_1 : cX1_alumnus.data.toList.drop 23 = dktX1_alumnus_1 := dk_seg dksX1_alumnus_0 23 rfl rfl
theorem dX1_alumnus_0 : decode cX1_alumnus 0 = .ok (.iload_n 1, 1) := dk_27 (dk_at dksX1_alumnus_0 0 rfl rfl)
theorem dX1_alumnus_1 : decode cX1_alumnus 1 = .ok (.i2l, 1) := dk_133 (dk_at dksX1_alumnus_0 1 rfl rfl)
theorem dX1_alumnus_2 : decode cX1_alumnus 2 = .ok (.lconst 0, 1) := dk_9 (dk_at dksX1_alumnus_0 2 rfl rfl)
theorem dX1_alumnus_3 : decode cX1_alumnus 3 = .ok (.aload_n 0, 1) := dk_42 (dk_at dksX1_alumnus_0 3 rfl rfl)
theorem dX1_alumnus_4 : decode cX1_alumnus 4 = .ok (.getfield 41, 3) := dk_180 0 41 (dk_at dksX1_alumnus_0 4 rfl rfl)
theorem dX1_alumnus_7 : decode cX1_alumnus 7 = .ok (.getfield 206, 3) := dk_180 0 206 (dk_at dksX1_alumnus_0 7 rfl rfl)
theorem dX1_alumnus_10 : decode cX1_alumnus 10 = .ok (.invokevirtual 210, 3) := dk_182 0 210 (dk_at dksX1_alumnus_0 10 rfl rfl)
theorem dX1_alumnus_13 : decode cX1_alumnus 13 = .ok (.iconst 1, 1) := dk_4 (dk_at dksX1_alumnus_0 13 rfl rfl)
theorem dX1_alumnus_14 : decode cX1_alumnus 14 = .ok (.isub, 1) := dk_100 (dk_at dksX1_alumnus_0 14 rfl rfl)
theorem dX1_alumnus_15 : decode cX1_alumnus 15 = .ok (.i2l, 1) := dk_133 (dk_at dksX1_alumnus_0 15 rfl rfl)
theorem dX1_alumnus_16 : decode cX1_alumnus 16 = .ok (.invokestatic 23, 3) := dk_184 0 23 (dk_at dksX1_alumnus_0 16 rfl rfl)
theorem dX1_alumnus_19 : decode cX1_alumnus 19 = .ok (.invokestatic 168, 3) := dk_184 0 168 (dk_at dksX1_alumnus_0 19 rfl rfl)
theorem dX1_alumnus_22 : decode cX1_alumnus 22 = .ok (.aload_n 0, 1) := dk_42 (dk_at dksX1_alumnus_0 22 rfl rfl)
theorem dX1_alumnus_23 : decode cX1_alumnus 23 = .ok (.getfield 41, 3) := dk_180 0 41 (dk_at dksX1_alumnus_1 0 rfl rfl)
theorem dX1_alumnus_26 : decode cX1_alumnus 26 = .ok (.getfield 206, 3) := dk_180 0 206 (dk_at dksX1_alumnus_1 3 rfl rfl)
theorem dX1_alumnus_29 : decode cX1_alumnus 29 = .ok (.iload_n 1, 1) := dk_27 (dk_at dksX1_alumnus_1 6 rfl rfl)
theorem dX1_alumnus_30 : decode cX1_alumnus 30 = .ok (.invokevirtual 213, 3) := dk_182 0 213 (dk_at dksX1_alumnus_1 7 rfl rfl)
theorem dX1_alumnus_33 : decode cX1_alumnus 33 = .ok (.checkcast 217, 3) := dk_192 0 217 (dk_at dksX1_alumnus_1 10 rfl rfl)
theorem dX1_alumnus_36 : decode cX1_alumnus 36 = .ok (.invokevirtual 219, 3) := dk_182 0 219 (dk_at dksX1_alumnus_1 13 rfl rfl)
theorem dX1_alumnus_39 : decode cX1_alumnus 39 = .ok (.ireturn, 1) := dk_172 (dk_at dksX1_alumnus_1 16 rfl rfl)
abbrev cX1_sankOn : ByteArray := prog_1_method_34_code
def yX1_sankOn : MethodName := ⟨RX1, "sankOn", "(I)I"⟩
def dkwX1_sankOn_0 : List UInt8 := [42, 180, 0, 41, 27, 182, 0, 127, 77, 44, 182, 0, 222, 184, 0, 168, 44, 180, 0, 226, 172]
abbrev dktX1_sankOn_0 : List UInt8 := dkwX1_sankOn_0 ++ []
theorem dksX1_sankOn_0 : cX1_sankOn.data.toList.drop 0 = dktX1_sankOn_0 := by decide +kernel
theorem dX1_sankOn_0 : decode cX1_sankOn 0 = .ok (.aload_n 0, 1) := dk_42 (dk_at dksX1_sankOn_0 0 rfl rfl)
theorem dX1_sankOn_1 : decode cX1_sankOn 1 = .ok (.getfield 41, 3) := dk_180 0 41 (dk_at dksX1_sankOn_0 1 rfl rfl)
theorem dX1_sankOn_4 : decode cX1_sankOn 4 = .ok (.iload_n 1, 1) := dk_27 (dk_at dksX1_sankOn_0 4 rfl rfl)
theorem dX1_sankOn_5 : decode cX1_sankOn 5 = .ok (.invokevirtual 127, 3) := dk_182 0 127 (dk_at dksX1_sankOn_0 5 rfl rfl)
theorem dX1_sankOn_8 : decode cX1_sankOn 8 = .ok (.astore_n 2, 1) := dk_77 (dk_at dksX1_sankOn_0 8 rfl rfl)
theorem dX1_sankOn_9 : decode cX1_sankOn 9 = .ok (.aload_n 2, 1) := dk_44 (dk_at dksX1_sankOn_0 9 rfl rfl)
theorem dX1_sankOn_10 : decode cX1_sankOn 10 = .ok (.invokevirtual 222, 3) := dk_182 0 222 (dk_at dksX1_sankOn_0 10 rfl rfl)
theorem dX1_sankOn_13 : decode cX1_sankOn 13 = .ok (.invokestatic 168, 3) := dk_184 0 168 (dk_at dksX1_sankOn_0 13 rfl rfl)
theorem dX1_sankOn_16 : decode cX1_sankOn 16 = .ok (.aload_n 2, 1) := dk_44 (dk_at dksX1_sankOn_0 16 rfl rfl)
theorem dX1_sankOn_17 : decode cX1_sankOn 17 = .ok (.getfield 226, 3) := dk_180 0 226 (dk_at dksX1_sankOn_0 17 rfl rfl)
theorem dX1_sankOn_20 : decode cX1_sankOn 20 = .ok (.ireturn, 1) := dk_172 (dk_at dksX1_sankOn_0 20 rfl rfl)
abbrev cX1_ranked : ByteArray := prog_1_method_35_code
def yX1_ranked : MethodName := ⟨RX1, "ranked", "(II)I"⟩
def dkwX1_ranked_1 : List UInt8 := [159, 0, 7, 4, 167, 0, 4, 3, 184, 0, 168, 29, 172]
abbrev dktX1_ranked_1 : List UInt8 := dkwX1_ranked_1 ++ []
def dkwX1_ranked_0 : List UInt8 := [27, 133, 9, 20, 0, 229, 184, 0, 23, 184, 0, 27, 42, 180, 0, 41, 27, 28, 182, 0, 231, 62, 29, 2]
abbrev dktX1_ranked_0 : List UInt8 := dkwX1_ranked_0 ++ dktX1_ranked_1
theorem dksX1_ranked_0 : cX1_ranked.data.toList.drop 0 = dktX1_ranked_0 := by decide +kernel
theorem dksX1_ranked_1 : cX1_ranked.data.toList.drop 24 = dktX1_ranked_1 := dk_seg dksX1_ranked_0 24 rfl rfl
theorem dX1_ranked_0 : decode cX1_ranked 0 = .ok (.iload_n 1, 1) := dk_27 (dk_at dksX1_ranked_0 0 rfl rfl)
theorem dX1_ranked_1 : decode cX1_ranked 1 = .ok (.i2l, 1) := dk_133 (dk_at dksX1_ranked_0 1 rfl rfl)
theorem dX1_ranked_2 : decode cX1_ranked 2 = .ok (.lconst 0, 1) := dk_9 (dk_at dksX1_ranked_0 2 rfl rfl)
theorem dX1_ranked_3 : decode cX1_ranked 3 = .ok (.ldc2_w 229, 3) := dk_20 0 229 (dk_at dksX1_ranked_0 3 rfl rfl)
theorem dX1_ranked_6 : decode cX1_ranked 6 = .ok (.invokestatic 23, 3) := dk_184 0 23 (dk_at dksX1_ranked_0 6 rfl rfl)
theorem dX1_ranked_9 : decode cX1_ranked 9 = .ok (.invokestatic 27, 3) := dk_184 0 27 (dk_at dksX1_ranked_0 9 rfl rfl)
theorem dX1_ranked_12 : decode cX1_ranked 12 = .ok (.aload_n 0, 1) := dk_42 (dk_at dksX1_ranked_0 12 rfl rfl)
theorem dX1_ranked_13 : decode cX1_ranked 13 = .ok (.getfield 41, 3) := dk_180 0 41 (dk_at dksX1_ranked_0 13 rfl rfl)
theorem dX1_ranked_16 : decode cX1_ranked 16 = .ok (.iload_n 1, 1) := dk_27 (dk_at dksX1_ranked_0 16 rfl rfl)
theorem dX1_ranked_17 : decode cX1_ranked 17 = .ok (.iload_n 2, 1) := dk_28 (dk_at dksX1_ranked_0 17 rfl rfl)
theorem dX1_ranked_18 : decode cX1_ranked 18 = .ok (.invokevirtual 231, 3) := dk_182 0 231 (dk_at dksX1_ranked_0 18 rfl rfl)
theorem dX1_ranked_21 : decode cX1_ranked 21 = .ok (.istore_n 3, 1) := dk_62 (dk_at dksX1_ranked_0 21 rfl rfl)
theorem dX1_ranked_22 : decode cX1_ranked 22 = .ok (.iload_n 3, 1) := dk_29 (dk_at dksX1_ranked_0 22 rfl rfl)
theorem dX1_ranked_23 : decode cX1_ranked 23 = .ok (.iconst (-1), 1) := dk_2 (dk_at dksX1_ranked_0 23 rfl rfl)
theorem dX1_ranked_24 : decode cX1_ranked 24 = .ok (.if_icmp .eq 7, 3) := dk_159 0 7 (dk_at dksX1_ranked_1 0 rfl rfl)
theorem dX1_ranked_27 : decode cX1_ranked 27 = .ok (.iconst 1, 1) := dk_4 (dk_at dksX1_ranked_1 3 rfl rfl)
theorem dX1_ranked_28 : decode cX1_ranked 28 = .ok (.goto 4, 3) := dk_167 0 4 (dk_at dksX1_ranked_1 4 rfl rfl)
theorem dX1_ranked_31 : decode cX1_ranked 31 = .ok (.iconst 0, 1) := dk_3 (dk_at dksX1_ranked_1 7 rfl rfl)
theorem dX1_ranked_32 : decode cX1_ranked 32 = .ok (.invokestatic 168, 3) := dk_184 0 168 (dk_at dksX1_ranked_1 8 rfl rfl)
theorem dX1_ranked_35 : decode cX1_ranked 35 = .ok (.iload_n 3, 1) := dk_29 (dk_at dksX1_ranked_1 11 rfl rfl)
theorem dX1_ranked_36 : decode cX1_ranked 36 = .ok (.ireturn, 1) := dk_172 (dk_at dksX1_ranked_1 12 rfl rfl)
abbrev cX1_graded : ByteArray := prog_1_method_36_code
def yX1_graded : MethodName := ⟨RX1, "graded", "(C)I"⟩
def dkwX1_graded_0 : List UInt8 := [27, 133, 20, 0, 234, 20, 0, 236, 184, 0, 23, 184, 0, 27, 42, 180, 0, 41, 27, 182, 0, 238, 172]
abbrev dktX1_graded_0 : List UInt8 := dkwX1_graded_0 ++ []
theorem dksX1_graded_0 : cX1_graded.data.toList.drop 0 = dktX1_graded_0 := by decide +kernel
theorem dX1_graded_0 : decode cX1_graded 0 = .ok (.iload_n 1, 1) := dk_27 (dk_at dksX1_graded_0 0 rfl rfl)
theorem dX1_graded_1 : decode cX1_graded 1 = .ok (.i2l, 1) := dk_133 (dk_at dksX1_graded_0 1 rfl rfl)
theorem dX1_graded_2 : decode cX1_graded 2 = .ok (.ldc2_w 234, 3) := dk_20 0 234 (dk_at dksX1_graded_0 2 rfl rfl)
theorem dX1_graded_5 : decode cX1_graded 5 = .ok (.ldc2_w 236, 3) := dk_20 0 236 (dk_at dksX1_graded_0 5 rfl rfl)
theorem dX1_graded_8 : decode cX1_graded 8 = .ok (.invokestatic 23, 3) := dk_184 0 23 (dk_at dksX1_graded_0 8 rfl rfl)
theorem dX1_graded_11 : decode cX1_graded 11 = .ok (.invokestatic 27, 3) := dk_184 0 27 (dk_at dksX1_graded_0 11 rfl rfl)
theorem dX1_graded_14 : decode cX1_graded 14 = .ok (.aload_n 0, 1) := dk_42 (dk_at dksX1_graded_0 14 rfl rfl)
theorem dX1_graded_15 : decode cX1_graded 15 = .ok (.getfield 41, 3) := dk_180 0 41 (dk_at dksX1_graded_0 15 rfl rfl)
theorem dX1_graded_18 : decode cX1_graded 18 = .ok (.iload_n 1, 1) := dk_27 (dk_at dksX1_graded_0 18 rfl rfl)
theorem dX1_graded_19 : decode cX1_graded 19 = .ok (.invokevirtual 238, 3) := dk_182 0 238 (dk_at dksX1_graded_0 19 rfl rfl)
theorem dX1_graded_22 : decode cX1_graded 22 = .ok (.ireturn, 1) := dk_172 (dk_at dksX1_graded_0 22 rfl rfl)
abbrev cX1_line : ByteArray := prog_1_method_39_code
def yX1_line : MethodName := ⟨RX1, "line", "(I)I"⟩
def dkwX1_line_0 : List UInt8 := [42, 42, 180, 0, 41, 27, 182, 0, 127, 182, 0, 250, 182, 0, 254, 172]
abbrev dktX1_line_0 : List UInt8 := dkwX1_line_0 ++ []
theorem dksX1_line_0 : cX1_line.data.toList.drop 0 = dktX1_line_0 := by decide +kernel
theorem dX1_line_0 : decode cX1_line 0 = .ok (.aload_n 0, 1) := dk_42 (dk_at dksX1_line_0 0 rfl rfl)
theorem dX1_line_1 : decode cX1_line 1 = .ok (.aload_n 0, 1) := dk_42 (dk_at dksX1_line_0 1 rfl rfl)
theorem dX1_line_2 : decode cX1_line 2 = .ok (.getfield 41, 3) := dk_180 0 41 (dk_at dksX1_line_0 2 rfl rfl)
theorem dX1_line_5 : decode cX1_line 5 = .ok (.iload_n 1, 1) := dk_27 (dk_at dksX1_line_0 5 rfl rfl)
theorem dX1_line_6 : decode cX1_line 6 = .ok (.invokevirtual 127, 3) := dk_182 0 127 (dk_at dksX1_line_0 6 rfl rfl)
theorem dX1_line_9 : decode cX1_line 9 = .ok (.invokevirtual 250, 3) := dk_182 0 250 (dk_at dksX1_line_0 9 rfl rfl)
theorem dX1_line_12 : decode cX1_line 12 = .ok (.invokevirtual 254, 3) := dk_182 0 254 (dk_at dksX1_line_0 12 rfl rfl)
theorem dX1_line_15 : decode cX1_line 15 = .ok (.ireturn, 1) := dk_172 (dk_at dksX1_line_0 15 rfl rfl)
abbrev cX1_tell : ByteArray := prog_1_method_38_code
def yX1_tell : MethodName := ⟨RX1, "tell", "(Ljava/lang/String;)I"⟩
def dkwX1_tell_0 : List UInt8 := [42, 43, 181, 0, 61, 43, 182, 0, 245, 172]
abbrev dktX1_tell_0 : List UInt8 := dkwX1_tell_0 ++ []
theorem dksX1_tell_0 : cX1_tell.data.toList.drop 0 = dktX1_tell_0 := by decide +kernel
theorem dX1_tell_0 : decode cX1_tell 0 = .ok (.aload_n 0, 1) := dk_42 (dk_at dksX1_tell_0 0 rfl rfl)
theorem dX1_tell_1 : decode cX1_tell 1 = .ok (.aload_n 1, 1) := dk_43 (dk_at dksX1_tell_0 1 rfl rfl)
theorem dX1_tell_2 : decode cX1_tell 2 = .ok (.putfield 61, 3) := dk_181 0 61 (dk_at dksX1_tell_0 2 rfl rfl)
theorem dX1_tell_5 : decode cX1_tell 5 = .ok (.aload_n 1, 1) := dk_43 (dk_at dksX1_tell_0 5 rfl rfl)
theorem dX1_tell_6 : decode cX1_tell 6 = .ok (.invokevirtual 245, 3) := dk_182 0 245 (dk_at dksX1_tell_0 6 rfl rfl)
theorem dX1_tell_9 : decode cX1_tell 9 = .ok (.ireturn, 1) := dk_172 (dk_at dksX1_tell_0 9 rfl rfl)
abbrev cX1_riverLine : ByteArray := prog_1_method_40_code
def yX1_riverLine : MethodName := ⟨RX1, "riverLine", "(I)I"⟩
def dkwX1_riverLine_0 : List UInt8 := [42, 42, 180, 0, 41, 27, 182, 0, 151, 182, 1, 2, 182, 0, 254, 172]
abbrev dktX1_riverLine_0 : List UInt8 := dkwX1_riverLine_0 ++ []
theorem dksX1_riverLine_0 : cX1_riverLine.data.toList.drop 0 = dktX1_riverLine_0 := by decide +kernel
theorem dX1_riverLine_0 : decode cX1_riverLine 0 = .ok (.aload_n 0, 1) := dk_42 (dk_at dksX1_riverLine_0 0 rfl rfl)
theorem dX1_riverLine_1 : decode cX1_riverLine 1 = .ok (.aload_n 0, 1) := dk_42 (dk_at dksX1_riverLine_0 1 rfl rfl)
theorem dX1_riverLine_2 : decode cX1_riverLine 2 = .ok (.getfield 41, 3) := dk_180 0 41 (dk_at dksX1_riverLine_0 2 rfl rfl)
theorem dX1_riverLine_5 : decode cX1_riverLine 5 = .ok (.iload_n 1, 1) := dk_27 (dk_at dksX1_riverLine_0 5 rfl rfl)
theorem dX1_riverLine_6 : decode cX1_riverLine 6 = .ok (.invokevirtual 151, 3) := dk_182 0 151 (dk_at dksX1_riverLine_0 6 rfl rfl)
theorem dX1_riverLine_9 : decode cX1_riverLine 9 = .ok (.invokevirtual 258, 3) := dk_182 1 2 (dk_at dksX1_riverLine_0 9 rfl rfl)
theorem dX1_riverLine_12 : decode cX1_riverLine 12 = .ok (.invokevirtual 254, 3) := dk_182 0 254 (dk_at dksX1_riverLine_0 12 rfl rfl)
theorem dX1_riverLine_15 : decode cX1_riverLine 15 = .ok (.ireturn, 1) := dk_172 (dk_at dksX1_riverLine_0 15 rfl rfl)
abbrev cX1_character : ByteArray := prog_1_method_41_code
def yX1_character : MethodName := ⟨RX1, "character", "(I)C"⟩
def dkwX1_character_1 : List UInt8 := [182, 1, 6, 172]
abbrev dktX1_character_1 : List UInt8 := dkwX1_character_1 ++ []
def dkwX1_character_0 : List UInt8 := [27, 133, 9, 42, 180, 0, 61, 182, 0, 245, 4, 100, 133, 184, 0, 23, 184, 1, 3, 42, 180, 0, 61, 27]
abbrev dktX1_character_0 : List UInt8 := dkwX1_character_0 ++ dktX1_character_1
theorem dksX1_character_0 : cX1_character.data.toList.drop 0 = dktX1_character_0 := by decide +kernel
theorem dksX1_character_1 : cX1_character.data.toList.drop 24 = dktX1_character_1 := dk_seg dksX1_character_0 24 rfl rfl
theorem dX1_character_0 : decode cX1_character 0 = .ok (.iload_n 1, 1) := dk_27 (dk_at dksX1_character_0 0 rfl rfl)
theorem dX1_character_1 : decode cX1_character 1 = .ok (.i2l, 1) := dk_133 (dk_at dksX1_character_0 1 rfl rfl)
theorem dX1_character_2 : decode cX1_character 2 = .ok (.lconst 0, 1) := dk_9 (dk_at dksX1_character_0 2 rfl rfl)
theorem dX1_character_3 : decode cX1_character 3 = .ok (.aload_n 0, 1) := dk_42 (dk_at dksX1_character_0 3 rfl rfl)
theorem dX1_character_4 : decode cX1_character 4 = .ok (.getfield 61, 3) := dk_180 0 61 (dk_at dksX1_character_0 4 rfl rfl)
theorem dX1_character_7 : decode cX1_character 7 = .ok (.invokevirtual 245, 3) := dk_182 0 245 (dk_at dksX1_character_0 7 rfl rfl)
theorem dX1_character_10 : decode cX1_character 10 = .ok (.iconst 1, 1) := dk_4 (dk_at dksX1_character_0 10 rfl rfl)
theorem dX1_character_11 : decode cX1_character 11 = .ok (.isub, 1) := dk_100 (dk_at dksX1_character_0 11 rfl rfl)
theorem dX1_character_12 : decode cX1_character 12 = .ok (.i2l, 1) := dk_133 (dk_at dksX1_character_0 12 rfl rfl)
theorem dX1_character_13 : decode cX1_character 13 = .ok (.invokestatic 23, 3) := dk_184 0 23 (dk_at dksX1_character_0 13 rfl rfl)
theorem dX1_character_16 : decode cX1_character 16 = .ok (.invokestatic 259, 3) := dk_184 1 3 (dk_at dksX1_character_0 16 rfl rfl)
theorem dX1_character_19 : decode cX1_character 19 = .ok (.aload_n 0, 1) := dk_42 (dk_at dksX1_character_0 19 rfl rfl)
theorem dX1_character_20 : decode cX1_character 20 = .ok (.getfield 61, 3) := dk_180 0 61 (dk_at dksX1_character_0 20 rfl rfl)
theorem dX1_character_23 : decode cX1_character 23 = .ok (.iload_n 1, 1) := dk_27 (dk_at dksX1_character_0 23 rfl rfl)
theorem dX1_character_24 : decode cX1_character 24 = .ok (.invokevirtual 262, 3) := dk_182 1 6 (dk_at dksX1_character_1 0 rfl rfl)
theorem dX1_character_27 : decode cX1_character 27 = .ok (.ireturn, 1) := dk_172 (dk_at dksX1_character_1 3 rfl rfl)
abbrev cX1_refusal : ByteArray := prog_1_method_42_code
def yX1_refusal : MethodName := ⟨RX1, "refusal", "(Z)I"⟩
def dkwX1_refusal_1 : List UInt8 := [180, 1, 13, 167, 0, 10, 42, 180, 0, 96, 180, 1, 16, 172]
abbrev dktX1_refusal_1 : List UInt8 := dkwX1_refusal_1 ++ []
def dkwX1_refusal_0 : List UInt8 := [42, 180, 0, 96, 198, 0, 7, 4, 167, 0, 4, 3, 184, 1, 10, 27, 153, 0, 13, 42, 180, 0, 96]
abbrev dktX1_refusal_0 : List UInt8 := dkwX1_refusal_0 ++ dktX1_refusal_1
theorem dksX1_refusal_0 : cX1_refusal.data.toList.drop 0 = dktX1_refusal_0 := by decide +kernel
theorem dksX1_refusal_1 : cX1_refusal.data.toList.drop 23 = dktX1_refusal_1 := dk_seg dksX1_refusal_0 23 rfl rfl
theorem dX1_refusal_0 : decode cX1_refusal 0 = .ok (.aload_n 0, 1) := dk_42 (dk_at dksX1_refusal_0 0 rfl rfl)
theorem dX1_refusal_1 : decode cX1_refusal 1 = .ok (.getfield 96, 3) := dk_180 0 96 (dk_at dksX1_refusal_0 1 rfl rfl)
theorem dX1_refusal_4 : decode cX1_refusal 4 = .ok (.ifnull 7, 3) := dk_198 0 7 (dk_at dksX1_refusal_0 4 rfl rfl)
theorem dX1_refusal_7 : decode cX1_refusal 7 = .ok (.iconst 1, 1) := dk_4 (dk_at dksX1_refusal_0 7 rfl rfl)
theorem dX1_refusal_8 : decode cX1_refusal 8 = .ok (.goto 4, 3) := dk_167 0 4 (dk_at dksX1_refusal_0 8 rfl rfl)
theorem dX1_refusal_11 : decode cX1_refusal 11 = .ok (.iconst 0, 1) := dk_3 (dk_at dksX1_refusal_0 11 rfl rfl)
theorem dX1_refusal_12 : decode cX1_refusal 12 = .ok (.invokestatic 266, 3) := dk_184 1 10 (dk_at dksX1_refusal_0 12 rfl rfl)
theorem dX1_refusal_15 : decode cX1_refusal 15 = .ok (.iload_n 1, 1) := dk_27 (dk_at dksX1_refusal_0 15 rfl rfl)
theorem dX1_refusal_16 : decode cX1_refusal 16 = .ok (.ifCond .eq 13, 3) := dk_153 0 13 (dk_at dksX1_refusal_0 16 rfl rfl)
theorem dX1_refusal_19 : decode cX1_refusal 19 = .ok (.aload_n 0, 1) := dk_42 (dk_at dksX1_refusal_0 19 rfl rfl)
theorem dX1_refusal_20 : decode cX1_refusal 20 = .ok (.getfield 96, 3) := dk_180 0 96 (dk_at dksX1_refusal_0 20 rfl rfl)
theorem dX1_refusal_23 : decode cX1_refusal 23 = .ok (.getfield 269, 3) := dk_180 1 13 (dk_at dksX1_refusal_1 0 rfl rfl)
theorem dX1_refusal_26 : decode cX1_refusal 26 = .ok (.goto 10, 3) := dk_167 0 10 (dk_at dksX1_refusal_1 3 rfl rfl)
theorem dX1_refusal_29 : decode cX1_refusal 29 = .ok (.aload_n 0, 1) := dk_42 (dk_at dksX1_refusal_1 6 rfl rfl)
theorem dX1_refusal_30 : decode cX1_refusal 30 = .ok (.getfield 96, 3) := dk_180 0 96 (dk_at dksX1_refusal_1 7 rfl rfl)
theorem dX1_refusal_33 : decode cX1_refusal 33 = .ok (.getfield 272, 3) := dk_180 1 16 (dk_at dksX1_refusal_1 10 rfl rfl)
theorem dX1_refusal_36 : decode cX1_refusal 36 = .ok (.ireturn, 1) := dk_172 (dk_at dksX1_refusal_1 13 rfl rfl)
abbrev cX1_checkState : ByteArray := prog_1_method_4_code
def yX1_checkState : MethodName := ⟨RX1, "checkState", "(Z)V"⟩
def dkwX1_checkState_0 : List UInt8 := [26, 154, 0, 11, 187, 0, 10, 89, 183, 0, 12, 191, 177]
abbrev dktX1_checkState_0 : List UInt8 := dkwX1_checkState_0 ++ []
theorem dksX1_checkState_0 : cX1_checkState.data.toList.drop 0 = dktX1_checkState_0 := by decide +kernel
theorem dX1_checkState_0 : decode cX1_checkState 0 = .ok (.iload_n 0, 1) := dk_26 (dk_at dksX1_checkState_0 0 rfl rfl)
theorem dX1_checkState_1 : decode cX1_checkState 1 = .ok (.ifCond .ne 11, 3) := dk_154 0 11 (dk_at dksX1_checkState_0 1 rfl rfl)
theorem dX1_checkState_4 : decode cX1_checkState 4 = .ok (.new 10, 3) := dk_187 0 10 (dk_at dksX1_checkState_0 4 rfl rfl)
theorem dX1_checkState_7 : decode cX1_checkState 7 = .ok (.dup, 1) := dk_89 (dk_at dksX1_checkState_0 7 rfl rfl)
theorem dX1_checkState_8 : decode cX1_checkState 8 = .ok (.invokespecial 12, 3) := dk_183 0 12 (dk_at dksX1_checkState_0 8 rfl rfl)
theorem dX1_checkState_11 : decode cX1_checkState 11 = .ok (.athrow, 1) := dk_191 (dk_at dksX1_checkState_0 11 rfl rfl)
theorem dX1_checkState_12 : decode cX1_checkState 12 = .ok (.return_, 1) := dk_177 (dk_at dksX1_checkState_0 12 rfl rfl)
abbrev cX1_account : ByteArray := prog_1_method_43_code
def yX1_account : MethodName := ⟨RX1, "account", "(I)I"⟩
def dkwX1_account_7 : List UInt8 := [180, 0, 48, 182, 0, 69, 172, 187, 0, 1, 89, 183, 0, 3, 191]
abbrev dktX1_account_7 : List UInt8 := dkwX1_account_7 ++ []
def dkwX1_account_6 : List UInt8 := [180, 0, 41, 180, 1, 40, 172, 42, 180, 0, 41, 180, 1, 43, 172, 42, 180, 0, 55, 182, 1, 45, 172, 42]
abbrev dktX1_account_6 : List UInt8 := dkwX1_account_6 ++ dktX1_account_7
def dkwX1_account_5 : List UInt8 := [180, 0, 41, 180, 1, 31, 172, 42, 180, 0, 41, 180, 1, 34, 172, 42, 180, 0, 41, 180, 1, 37, 172, 42]
abbrev dktX1_account_5 : List UInt8 := dkwX1_account_5 ++ dktX1_account_6
def dkwX1_account_4 : List UInt8 := [182, 1, 25, 172, 42, 180, 0, 41, 180, 0, 206, 182, 0, 210, 172, 42, 180, 0, 41, 182, 1, 28, 172, 42]
abbrev dktX1_account_4 : List UInt8 := dkwX1_account_4 ++ dktX1_account_5
def dkwX1_account_3 : List UInt8 := [180, 0, 41, 182, 1, 25, 100, 42, 180, 0, 41, 180, 0, 206, 182, 0, 210, 100, 172, 42, 180, 0, 41]
abbrev dktX1_account_3 : List UInt8 := dkwX1_account_3 ++ dktX1_account_4
def dkwX1_account_2 : List UInt8 := [28, 172, 42, 180, 0, 41, 180, 1, 19, 182, 0, 111, 172, 42, 180, 0, 41, 180, 1, 22, 172, 28, 42]
abbrev dktX1_account_2 : List UInt8 := dkwX1_account_2 ++ dktX1_account_3
def dkwX1_account_1 : List UInt8 := [170, 0, 0, 0, 0, 0, 0, 197, 0, 0, 0, 0, 0, 0, 0, 13, 0, 0, 0, 72, 0, 0, 0, 74, 0, 0, 0, 85, 0, 0, 0, 93, 0, 0, 0, 114, 0, 0, 0, 122, 0, 0, 0, 133, 0, 0, 0, 141, 0, 0, 0, 149, 0, 0, 0, 157, 0, 0, 0, 165, 0, 0, 0, 173, 0, 0, 0, 181, 0, 0, 0, 189]
abbrev dktX1_account_1 : List UInt8 := dkwX1_account_1 ++ dktX1_account_2
def dkwX1_account_0 : List UInt8 := [42, 180, 0, 41, 180, 0, 107, 182, 0, 111, 61, 27]
abbrev dktX1_account_0 : List UInt8 := dkwX1_account_0 ++ dktX1_account_1
theorem dksX1_account_0 : cX1_account.data.toList.drop 0 = dktX1_account_0 := by decide +kernel
theorem dksX1_account_1 : cX1_account.data.toList.drop 12 = dktX1_account_1 := dk_seg dksX1_account_0 12 rfl rfl
theorem dksX1_account_2 : cX1_account.data.toList.drop 84 = dktX1_account_2 := dk_seg dksX1_account_1 72 rfl rfl
theorem dksX1_account_3 : cX1_account.data.toList.drop 107 = dktX1_account_3 := dk_seg dksX1_account_2 23 rfl rfl
theorem dksX1_account_4 : cX1_account.data.toList.drop 130 = dktX1_account_4 := dk_seg dksX1_account_3 23 rfl rfl
theorem dksX1_account_5 : cX1_account.data.toList.drop 154 = dktX1_account_5 := dk_seg dksX1_account_4 24 rfl rfl
theorem dksX1_account_6 : cX1_account.data.toList.drop 178 = dktX1_account_6 := dk_seg dksX1_account_5 24 rfl rfl
theorem dksX1_account_7 : cX1_account.data.toList.drop 202 = dktX1_account_7 := dk_seg dksX1_account_6 24 rfl rfl
theorem dX1_account_0 : decode cX1_account 0 = .ok (.aload_n 0, 1) := dk_42 (dk_at dksX1_account_0 0 rfl rfl)
theorem dX1_account_1 : decode cX1_account 1 = .ok (.getfield 41, 3) := dk_180 0 41 (dk_at dksX1_account_0 1 rfl rfl)
theorem dX1_account_4 : decode cX1_account 4 = .ok (.getfield 107, 3) := dk_180 0 107 (dk_at dksX1_account_0 4 rfl rfl)
theorem dX1_account_7 : decode cX1_account 7 = .ok (.invokevirtual 111, 3) := dk_182 0 111 (dk_at dksX1_account_0 7 rfl rfl)
theorem dX1_account_10 : decode cX1_account 10 = .ok (.istore_n 2, 1) := dk_61 (dk_at dksX1_account_0 10 rfl rfl)
theorem dX1_account_11 : decode cX1_account 11 = .ok (.iload_n 1, 1) := dk_27 (dk_at dksX1_account_0 11 rfl rfl)
theorem dX1_account_12 : decode cX1_account 12 = .ok (.tableswitch 197 0 13 #[72, 74, 85, 93, 114, 122, 133, 141, 149, 157, 165, 173, 181, 189], 72) := by decide +kernel
theorem dX1_account_84 : decode cX1_account 84 = .ok (.iload_n 2, 1) := dk_28 (dk_at dksX1_account_2 0 rfl rfl)
theorem dX1_account_85 : decode cX1_account 85 = .ok (.ireturn, 1) := dk_172 (dk_at dksX1_account_2 1 rfl rfl)
theorem dX1_account_86 : decode cX1_account 86 = .ok (.aload_n 0, 1) := dk_42 (dk_at dksX1_account_2 2 rfl rfl)
theorem dX1_account_87 : decode cX1_account 87 = .ok (.getfield 41, 3) := dk_180 0 41 (dk_at dksX1_account_2 3 rfl rfl)
theorem dX1_account_90 : decode cX1_account 90 = .ok (.getfield 275, 3) := dk_180 1 19 (dk_at dksX1_account_2 6 rfl rfl)
theorem dX1_account_93 : decode cX1_account 93 = .ok (.invokevirtual 111, 3) := dk_182 0 111 (dk_at dksX1_account_2 9 rfl rfl)
theorem dX1_account_96 : decode cX1_account 96 = .ok (.ireturn, 1) := dk_172 (dk_at dksX1_account_2 12 rfl rfl)
theorem dX1_account_97 : decode cX1_account 97 = .ok (.aload_n 0, 1) := dk_42 (dk_at dksX1_account_2 13 rfl rfl)
theorem dX1_account_98 : decode cX1_account 98 = .ok (.getfield 41, 3) := dk_180 0 41 (dk_at dksX1_account_2 14 rfl rfl)
theorem dX1_account_101 : decode cX1_account 101 = .ok (.getfield 278, 3) := dk_180 1 22 (dk_at dksX1_account_2 17 rfl rfl)
theorem dX1_account_104 : decode cX1_account 104 = .ok (.ireturn, 1) := dk_172 (dk_at dksX1_account_2 20 rfl rfl)
theorem dX1_account_105 : decode cX1_account 105 = .ok (.iload_n 2, 1) := dk_28 (dk_at dksX1_account_2 21 rfl rfl)
theorem dX1_account_106 : decode cX1_account 106 = .ok (.aload_n 0, 1) := dk_42 (dk_at dksX1_account_2 22 rfl rfl)
theorem dX1_account_107 : decode cX1_account 107 = .ok (.getfield 41, 3) := dk_180 0 41 (dk_at dksX1_account_3 0 rfl rfl)
theorem dX1_account_110 : decode cX1_account 110 = .ok (.invokevirtual 281, 3) := dk_182 1 25 (dk_at dksX1_account_3 3 rfl rfl)
theorem dX1_account_113 : decode cX1_account 113 = .ok (.isub, 1) := dk_100 (dk_at dksX1_account_3 6 rfl rfl)
theorem dX1_account_114 : decode cX1_account 114 = .ok (.aload_n 0, 1) := dk_42 (dk_at dksX1_account_3 7 rfl rfl)
theorem dX1_account_115 : decode cX1_account 115 = .ok (.getfield 41, 3) := dk_180 0 41 (dk_at dksX1_account_3 8 rfl rfl)
theorem dX1_account_118 : decode cX1_account 118 = .ok (.getfield 206, 3) := dk_180 0 206 (dk_at dksX1_account_3 11 rfl rfl)
theorem dX1_account_121 : decode cX1_account 121 = .ok (.invokevirtual 210, 3) := dk_182 0 210 (dk_at dksX1_account_3 14 rfl rfl)
theorem dX1_account_124 : decode cX1_account 124 = .ok (.isub, 1) := dk_100 (dk_at dksX1_account_3 17 rfl rfl)
theorem dX1_account_125 : decode cX1_account 125 = .ok (.ireturn, 1) := dk_172 (dk_at dksX1_account_3 18 rfl rfl)
theorem dX1_account_126 : decode cX1_account 126 = .ok (.aload_n 0, 1) := dk_42 (dk_at dksX1_account_3 19 rfl rfl)
theorem dX1_account_127 : decode cX1_account 127 = .ok (.getfield 41, 3) := dk_180 0 41 (dk_at dksX1_account_3 20 rfl rfl)
theorem dX1_account_130 : decode cX1_account 130 = .ok (.invokevirtual 281, 3) := dk_182 1 25 (dk_at dksX1_account_4 0 rfl rfl)
theorem dX1_account_133 : decode cX1_account 133 = .ok (.ireturn, 1) := dk_172 (dk_at dksX1_account_4 3 rfl rfl)
theorem dX1_account_134 : decode cX1_account 134 = .ok (.aload_n 0, 1) := dk_42 (dk_at dksX1_account_4 4 rfl rfl)
theorem dX1_account_135 : decode cX1_account 135 = .ok (.getfield 41, 3) := dk_180 0 41 (dk_at dksX1_account_4 5 rfl rfl)
theorem dX1_account_138 : decode cX1_account 138 = .ok (.getfield 206, 3) := dk_180 0 206 (dk_at dksX1_account_4 8 rfl rfl)
theorem dX1_account_141 : decode cX1_account 141 = .ok (.invokevirtual 210, 3) := dk_182 0 210 (dk_at dksX1_account_4 11 rfl rfl)
theorem dX1_account_144 : decode cX1_account 144 = .ok (.ireturn, 1) := dk_172 (dk_at dksX1_account_4 14 rfl rfl)
theorem dX1_account_145 : decode cX1_account 145 = .ok (.aload_n 0, 1) := dk_42 (dk_at dksX1_account_4 15 rfl rfl)
theorem dX1_account_146 : decode cX1_account 146 = .ok (.getfield 41, 3) := dk_180 0 41 (dk_at dksX1_account_4 16 rfl rfl)
theorem dX1_account_149 : decode cX1_account 149 = .ok (.invokevirtual 284, 3) := dk_182 1 28 (dk_at dksX1_account_4 19 rfl rfl)
theorem dX1_account_152 : decode cX1_account 152 = .ok (.ireturn, 1) := dk_172 (dk_at dksX1_account_4 22 rfl rfl)
theorem dX1_account_153 : decode cX1_account 153 = .ok (.aload_n 0, 1) := dk_42 (dk_at dksX1_account_4 23 rfl rfl)
theorem dX1_account_154 : decode cX1_account 154 = .ok (.getfield 41, 3) := dk_180 0 41 (dk_at dksX1_account_5 0 rfl rfl)
theorem dX1_account_157 : decode cX1_account 157 = .ok (.getfield 287, 3) := dk_180 1 31 (dk_at dksX1_account_5 3 rfl rfl)
theorem dX1_account_160 : decode cX1_account 160 = .ok (.ireturn, 1) := dk_172 (dk_at dksX1_account_5 6 rfl rfl)
theorem dX1_account_161 : decode cX1_account 161 = .ok (.aload_n 0, 1) := dk_42 (dk_at dksX1_account_5 7 rfl rfl)
theorem dX1_account_162 : decode cX1_account 162 = .ok (.getfield 41, 3) := dk_180 0 41 (dk_at dksX1_account_5 8 rfl rfl)
theorem dX1_account_165 : decode cX1_account 165 = .ok (.getfield 290, 3) := dk_180 1 34 (dk_at dksX1_account_5 11 rfl rfl)
theorem dX1_account_168 : decode cX1_account 168 = .ok (.ireturn, 1) := dk_172 (dk_at dksX1_account_5 14 rfl rfl)
theorem dX1_account_169 : decode cX1_account 169 = .ok (.aload_n 0, 1) := dk_42 (dk_at dksX1_account_5 15 rfl rfl)
theorem dX1_account_170 : decode cX1_account 170 = .ok (.getfield 41, 3) := dk_180 0 41 (dk_at dksX1_account_5 16 rfl rfl)
theorem dX1_account_173 : decode cX1_account 173 = .ok (.getfield 293, 3) := dk_180 1 37 (dk_at dksX1_account_5 19 rfl rfl)
theorem dX1_account_176 : decode cX1_account 176 = .ok (.ireturn, 1) := dk_172 (dk_at dksX1_account_5 22 rfl rfl)
theorem dX1_account_177 : decode cX1_account 177 = .ok (.aload_n 0, 1) := dk_42 (dk_at dksX1_account_5 23 rfl rfl)
theorem dX1_account_178 : decode cX1_account 178 = .ok (.getfield 41, 3) := dk_180 0 41 (dk_at dksX1_account_6 0 rfl rfl)
theorem dX1_account_181 : decode cX1_account 181 = .ok (.getfield 296, 3) := dk_180 1 40 (dk_at dksX1_account_6 3 rfl rfl)
theorem dX1_account_184 : decode cX1_account 184 = .ok (.ireturn, 1) := dk_172 (dk_at dksX1_account_6 6 rfl rfl)
theorem dX1_account_185 : decode cX1_account 185 = .ok (.aload_n 0, 1) := dk_42 (dk_at dksX1_account_6 7 rfl rfl)
theorem dX1_account_186 : decode cX1_account 186 = .ok (.getfield 41, 3) := dk_180 0 41 (dk_at dksX1_account_6 8 rfl rfl)
theorem dX1_account_189 : decode cX1_account 189 = .ok (.getfield 299, 3) := dk_180 1 43 (dk_at dksX1_account_6 11 rfl rfl)
theorem dX1_account_192 : decode cX1_account 192 = .ok (.ireturn, 1) := dk_172 (dk_at dksX1_account_6 14 rfl rfl)
theorem dX1_account_193 : decode cX1_account 193 = .ok (.aload_n 0, 1) := dk_42 (dk_at dksX1_account_6 15 rfl rfl)
theorem dX1_account_194 : decode cX1_account 194 = .ok (.getfield 55, 3) := dk_180 0 55 (dk_at dksX1_account_6 16 rfl rfl)
theorem dX1_account_197 : decode cX1_account 197 = .ok (.invokevirtual 301, 3) := dk_182 1 45 (dk_at dksX1_account_6 19 rfl rfl)
theorem dX1_account_200 : decode cX1_account 200 = .ok (.ireturn, 1) := dk_172 (dk_at dksX1_account_6 22 rfl rfl)
theorem dX1_account_201 : decode cX1_account 201 = .ok (.aload_n 0, 1) := dk_42 (dk_at dksX1_account_6 23 rfl rfl)
theorem dX1_account_202 : decode cX1_account 202 = .ok (.getfield 48, 3) := dk_180 0 48 (dk_at dksX1_account_7 0 rfl rfl)
theorem dX1_account_205 : decode cX1_account 205 = .ok (.invokevirtual 69, 3) := dk_182 0 69 (dk_at dksX1_account_7 3 rfl rfl)
theorem dX1_account_208 : decode cX1_account 208 = .ok (.ireturn, 1) := dk_172 (dk_at dksX1_account_7 6 rfl rfl)
theorem dX1_account_209 : decode cX1_account 209 = .ok (.new 1, 3) := dk_187 0 1 (dk_at dksX1_account_7 7 rfl rfl)
theorem dX1_account_212 : decode cX1_account 212 = .ok (.dup, 1) := dk_89 (dk_at dksX1_account_7 10 rfl rfl)
theorem dX1_account_213 : decode cX1_account 213 = .ok (.invokespecial 3, 3) := dk_183 0 3 (dk_at dksX1_account_7 11 rfl rfl)
theorem dX1_account_216 : decode cX1_account 216 = .ok (.athrow, 1) := dk_191 (dk_at dksX1_account_7 14 rfl rfl)
abbrev cX1_meanSkill : ByteArray := prog_1_method_44_code
def yX1_meanSkill : MethodName := ⟨RX1, "meanSkill", "()D"⟩
def dkwX1_meanSkill_1 : List UInt8 := [180, 0, 41, 182, 1, 49, 135, 27, 135, 111, 175]
abbrev dktX1_meanSkill_1 : List UInt8 := dkwX1_meanSkill_1 ++ []
def dkwX1_meanSkill_0 : List UInt8 := [42, 180, 0, 41, 180, 0, 107, 182, 0, 111, 60, 27, 158, 0, 7, 4, 167, 0, 4, 3, 184, 1, 46, 42]
abbrev dktX1_meanSkill_0 : List UInt8 := dkwX1_meanSkill_0 ++ dktX1_meanSkill_1
theorem dksX1_meanSkill_0 : cX1_meanSkill.data.toList.drop 0 = dktX1_meanSkill_0 := by decide +kernel
theorem dksX1_meanSkill_1 : cX1_meanSkill.data.toList.drop 24 = dktX1_meanSkill_1 := dk_seg dksX1_meanSkill_0 24 rfl rfl
theorem dX1_meanSkill_0 : decode cX1_meanSkill 0 = .ok (.aload_n 0, 1) := dk_42 (dk_at dksX1_meanSkill_0 0 rfl rfl)
theorem dX1_meanSkill_1 : decode cX1_meanSkill 1 = .ok (.getfield 41, 3) := dk_180 0 41 (dk_at dksX1_meanSkill_0 1 rfl rfl)
theorem dX1_meanSkill_4 : decode cX1_meanSkill 4 = .ok (.getfield 107, 3) := dk_180 0 107 (dk_at dksX1_meanSkill_0 4 rfl rfl)
theorem dX1_meanSkill_7 : decode cX1_meanSkill 7 = .ok (.invokevirtual 111, 3) := dk_182 0 111 (dk_at dksX1_meanSkill_0 7 rfl rfl)
theorem dX1_meanSkill_10 : decode cX1_meanSkill 10 = .ok (.istore_n 1, 1) := dk_60 (dk_at dksX1_meanSkill_0 10 rfl rfl)
theorem dX1_meanSkill_11 : decode cX1_meanSkill 11 = .ok (.iload_n 1, 1) := dk_27 (dk_at dksX1_meanSkill_0 11 rfl rfl)
theorem dX1_meanSkill_12 : decode cX1_meanSkill 12 = .ok (.ifCond .le 7, 3) := dk_158 0 7 (dk_at dksX1_meanSkill_0 12 rfl rfl)
theorem dX1_meanSkill_15 : decode cX1_meanSkill 15 = .ok (.iconst 1, 1) := dk_4 (dk_at dksX1_meanSkill_0 15 rfl rfl)
theorem dX1_meanSkill_16 : decode cX1_meanSkill 16 = .ok (.goto 4, 3) := dk_167 0 4 (dk_at dksX1_meanSkill_0 16 rfl rfl)
theorem dX1_meanSkill_19 : decode cX1_meanSkill 19 = .ok (.iconst 0, 1) := dk_3 (dk_at dksX1_meanSkill_0 19 rfl rfl)
theorem dX1_meanSkill_20 : decode cX1_meanSkill 20 = .ok (.invokestatic 302, 3) := dk_184 1 46 (dk_at dksX1_meanSkill_0 20 rfl rfl)
theorem dX1_meanSkill_23 : decode cX1_meanSkill 23 = .ok (.aload_n 0, 1) := dk_42 (dk_at dksX1_meanSkill_0 23 rfl rfl)
theorem dX1_meanSkill_24 : decode cX1_meanSkill 24 = .ok (.getfield 41, 3) := dk_180 0 41 (dk_at dksX1_meanSkill_1 0 rfl rfl)
theorem dX1_meanSkill_27 : decode cX1_meanSkill 27 = .ok (.invokevirtual 305, 3) := dk_182 1 49 (dk_at dksX1_meanSkill_1 3 rfl rfl)
theorem dX1_meanSkill_30 : decode cX1_meanSkill 30 = .ok (.i2d, 1) := dk_135 (dk_at dksX1_meanSkill_1 6 rfl rfl)
theorem dX1_meanSkill_31 : decode cX1_meanSkill 31 = .ok (.iload_n 1, 1) := dk_27 (dk_at dksX1_meanSkill_1 7 rfl rfl)
theorem dX1_meanSkill_32 : decode cX1_meanSkill 32 = .ok (.i2d, 1) := dk_135 (dk_at dksX1_meanSkill_1 8 rfl rfl)
theorem dX1_meanSkill_33 : decode cX1_meanSkill 33 = .ok (.ddiv, 1) := dk_111 (dk_at dksX1_meanSkill_1 9 rfl rfl)
theorem dX1_meanSkill_34 : decode cX1_meanSkill 34 = .ok (.dreturn, 1) := dk_175 (dk_at dksX1_meanSkill_1 10 rfl rfl)
abbrev cX1_checkNumbers : ByteArray := prog_1_method_6_code
def yX1_checkNumbers : MethodName := ⟨RX1, "checkNumbers", "(Z)V"⟩
def dkwX1_checkNumbers_0 : List UInt8 := [26, 154, 0, 11, 187, 0, 16, 89, 183, 0, 18, 191, 177]
abbrev dktX1_checkNumbers_0 : List UInt8 := dkwX1_checkNumbers_0 ++ []
theorem dksX1_checkNumbers_0 : cX1_checkNumbers.data.toList.drop 0 = dktX1_checkNumbers_0 := by decide +kernel
theorem dX1_checkNumbers_0 : decode cX1_checkNumbers 0 = .ok (.iload_n 0, 1) := dk_26 (dk_at dksX1_checkNumbers_0 0 rfl rfl)
theorem dX1_checkNumbers_1 : decode cX1_checkNumbers 1 = .ok (.ifCond .ne 11, 3) := dk_154 0 11 (dk_at dksX1_checkNumbers_0 1 rfl rfl)
theorem dX1_checkNumbers_4 : decode cX1_checkNumbers 4 = .ok (.new 16, 3) := dk_187 0 16 (dk_at dksX1_checkNumbers_0 4 rfl rfl)
theorem dX1_checkNumbers_7 : decode cX1_checkNumbers 7 = .ok (.dup, 1) := dk_89 (dk_at dksX1_checkNumbers_0 7 rfl rfl)
theorem dX1_checkNumbers_8 : decode cX1_checkNumbers 8 = .ok (.invokespecial 18, 3) := dk_183 0 18 (dk_at dksX1_checkNumbers_0 8 rfl rfl)
theorem dX1_checkNumbers_11 : decode cX1_checkNumbers 11 = .ok (.athrow, 1) := dk_191 (dk_at dksX1_checkNumbers_0 11 rfl rfl)
theorem dX1_checkNumbers_12 : decode cX1_checkNumbers 12 = .ok (.return_, 1) := dk_177 (dk_at dksX1_checkNumbers_0 12 rfl rfl)
abbrev cX1_crossShare : ByteArray := prog_1_method_45_code
def yX1_crossShare : MethodName := ⟨RX1, "crossShare", "()F"⟩
def dkwX1_crossShare_1 : List UInt8 := [180, 1, 40, 134, 42, 180, 0, 41, 180, 1, 37, 134, 110, 174]
abbrev dktX1_crossShare_1 : List UInt8 := dkwX1_crossShare_1 ++ []
def dkwX1_crossShare_0 : List UInt8 := [42, 180, 0, 41, 180, 1, 37, 158, 0, 7, 4, 167, 0, 4, 3, 184, 1, 46, 42, 180, 0, 41]
abbrev dktX1_crossShare_0 : List UInt8 := dkwX1_crossShare_0 ++ dktX1_crossShare_1
theorem dksX1_crossShare_0 : cX1_crossShare.data.toList.drop 0 = dktX1_crossShare_0 := by decide +kernel
theorem dksX1_crossShare_1 : cX1_crossShare.data.toList.drop 22 = dktX1_crossShare_1 := dk_seg dksX1_crossShare_0 22 rfl rfl
theorem dX1_crossShare_0 : decode cX1_crossShare 0 = .ok (.aload_n 0, 1) := dk_42 (dk_at dksX1_crossShare_0 0 rfl rfl)
theorem dX1_crossShare_1 : decode cX1_crossShare 1 = .ok (.getfield 41, 3) := dk_180 0 41 (dk_at dksX1_crossShare_0 1 rfl rfl)
theorem dX1_crossShare_4 : decode cX1_crossShare 4 = .ok (.getfield 293, 3) := dk_180 1 37 (dk_at dksX1_crossShare_0 4 rfl rfl)
theorem dX1_crossShare_7 : decode cX1_crossShare 7 = .ok (.ifCond .le 7, 3) := dk_158 0 7 (dk_at dksX1_crossShare_0 7 rfl rfl)
theorem dX1_crossShare_10 : decode cX1_crossShare 10 = .ok (.iconst 1, 1) := dk_4 (dk_at dksX1_crossShare_0 10 rfl rfl)
theorem dX1_crossShare_11 : decode cX1_crossShare 11 = .ok (.goto 4, 3) := dk_167 0 4 (dk_at dksX1_crossShare_0 11 rfl rfl)
theorem dX1_crossShare_14 : decode cX1_crossShare 14 = .ok (.iconst 0, 1) := dk_3 (dk_at dksX1_crossShare_0 14 rfl rfl)
theorem dX1_crossShare_15 : decode cX1_crossShare 15 = .ok (.invokestatic 302, 3) := dk_184 1 46 (dk_at dksX1_crossShare_0 15 rfl rfl)
theorem dX1_crossShare_18 : decode cX1_crossShare 18 = .ok (.aload_n 0, 1) := dk_42 (dk_at dksX1_crossShare_0 18 rfl rfl)
theorem dX1_crossShare_19 : decode cX1_crossShare 19 = .ok (.getfield 41, 3) := dk_180 0 41 (dk_at dksX1_crossShare_0 19 rfl rfl)
theorem dX1_crossShare_22 : decode cX1_crossShare 22 = .ok (.getfield 296, 3) := dk_180 1 40 (dk_at dksX1_crossShare_1 0 rfl rfl)
theorem dX1_crossShare_25 : decode cX1_crossShare 25 = .ok (.i2f, 1) := dk_134 (dk_at dksX1_crossShare_1 3 rfl rfl)
theorem dX1_crossShare_26 : decode cX1_crossShare 26 = .ok (.aload_n 0, 1) := dk_42 (dk_at dksX1_crossShare_1 4 rfl rfl)
theorem dX1_crossShare_27 : decode cX1_crossShare 27 = .ok (.getfield 41, 3) := dk_180 0 41 (dk_at dksX1_crossShare_1 5 rfl rfl)
theorem dX1_crossShare_30 : decode cX1_crossShare 30 = .ok (.getfield 293, 3) := dk_180 1 37 (dk_at dksX1_crossShare_1 8 rfl rfl)
theorem dX1_crossShare_33 : decode cX1_crossShare 33 = .ok (.i2f, 1) := dk_134 (dk_at dksX1_crossShare_1 11 rfl rfl)
theorem dX1_crossShare_34 : decode cX1_crossShare 34 = .ok (.fdiv, 1) := dk_110 (dk_at dksX1_crossShare_1 12 rfl rfl)
theorem dX1_crossShare_35 : decode cX1_crossShare 35 = .ok (.freturn, 1) := dk_174 (dk_at dksX1_crossShare_1 13 rfl rfl)
abbrev cX1_append : ByteArray := prog_1_method_46_code
def yX1_append : MethodName := ⟨RX1, "append", "(I)I"⟩
def dkwX1_append_5 : List UInt8 := [182, 1, 56, 87, 132, 3, 248, 167, 255, 224, 42, 180, 0, 55, 182, 1, 45, 172]
abbrev dktX1_append_5 : List UInt8 := dkwX1_append_5 ++ []
def dkwX1_append_4 : List UInt8 := [155, 0, 34, 27, 29, 124, 17, 0, 255, 126, 54, 4, 21, 4, 153, 0, 14, 42, 180, 0, 55, 21, 4, 146]
abbrev dktX1_append_4 : List UInt8 := dkwX1_append_4 ++ dktX1_append_5
def dkwX1_append_3 : List UInt8 := [182, 1, 45, 28, 96, 16, 60, 163, 0, 7, 4, 167, 0, 4, 3, 184, 1, 10, 16, 24, 62, 29]
abbrev dktX1_append_3 : List UInt8 := dkwX1_append_3 ++ dktX1_append_4
def dkwX1_append_2 : List UInt8 := [21, 4, 154, 0, 7, 3, 167, 0, 4, 4, 96, 61, 132, 3, 248, 167, 255, 199, 42, 180, 0, 55]
abbrev dktX1_append_2 : List UInt8 := dkwX1_append_2 ++ dktX1_append_3
def dkwX1_append_1 : List UInt8 := [21, 4, 133, 20, 1, 52, 20, 1, 54, 184, 0, 23, 153, 0, 7, 4, 167, 0, 4, 3, 184, 0, 27, 28]
abbrev dktX1_append_1 : List UInt8 := dkwX1_append_1 ++ dktX1_append_2
def dkwX1_append_0 : List UInt8 := [3, 61, 16, 24, 62, 29, 155, 0, 59, 27, 29, 124, 17, 0, 255, 126, 54, 4, 21, 4, 153, 0, 18]
abbrev dktX1_append_0 : List UInt8 := dkwX1_append_0 ++ dktX1_append_1
theorem dksX1_append_0 : cX1_append.data.toList.drop 0 = dktX1_append_0 := by decide +kernel
theorem dksX1_append_1 : cX1_append.data.toList.drop 23 = dktX1_append_1 := dk_seg dksX1_append_0 23 rfl rfl
theorem dksX1_append_2 : cX1_append.data.toList.drop 47 = dktX1_append_2 := dk_seg dksX1_append_1 24 rfl rfl
theorem dksX1_append_3 : cX1_append.data.toList.drop 69 = dktX1_append_3 := dk_seg dksX1_append_2 22 rfl rfl
theorem dksX1_append_4 : cX1_append.data.toList.drop 91 = dktX1_append_4 := dk_seg dksX1_append_3 22 rfl rfl
theorem dksX1_append_5 : cX1_append.data.toList.drop 115 = dktX1_append_5 := dk_seg dksX1_append_4 24 rfl rfl
theorem dX1_append_0 : decode cX1_append 0 = .ok (.iconst 0, 1) := dk_3 (dk_at dksX1_append_0 0 rfl rfl)
theorem dX1_append_1 : decode cX1_append 1 = .ok (.istore_n 2, 1) := dk_61 (dk_at dksX1_append_0 1 rfl rfl)
theorem dX1_append_2 : decode cX1_append 2 = .ok (.bipush 24, 2) := dk_16 24 (dk_at dksX1_append_0 2 rfl rfl)
theorem dX1_append_4 : decode cX1_append 4 = .ok (.istore_n 3, 1) := dk_62 (dk_at dksX1_append_0 4 rfl rfl)
theorem dX1_append_5 : decode cX1_append 5 = .ok (.iload_n 3, 1) := dk_29 (dk_at dksX1_append_0 5 rfl rfl)
theorem dX1_append_6 : decode cX1_append 6 = .ok (.ifCond .lt 59, 3) := dk_155 0 59 (dk_at dksX1_append_0 6 rfl rfl)
theorem dX1_append_9 : decode cX1_append 9 = .ok (.iload_n 1, 1) := dk_27 (dk_at dksX1_append_0 9 rfl rfl)
theorem dX1_append_10 : decode cX1_append 10 = .ok (.iload_n 3, 1) := dk_29 (dk_at dksX1_append_0 10 rfl rfl)
theorem dX1_append_11 : decode cX1_append 11 = .ok (.iushr, 1) := dk_124 (dk_at dksX1_append_0 11 rfl rfl)
theorem dX1_append_12 : decode cX1_append 12 = .ok (.sipush 255, 3) := dk_17 0 255 (dk_at dksX1_append_0 12 rfl rfl)
theorem dX1_append_15 : decode cX1_append 15 = .ok (.iand, 1) := dk_126 (dk_at dksX1_append_0 15 rfl rfl)
theorem dX1_append_16 : decode cX1_append 16 = .ok (.istore 4, 2) := dk_54 4 (dk_at dksX1_append_0 16 rfl rfl)
theorem dX1_append_18 : decode cX1_append 18 = .ok (.iload 4, 2) := dk_21 4 (dk_at dksX1_append_0 18 rfl rfl)
theorem dX1_append_20 : decode cX1_append 20 = .ok (.ifCond .eq 18, 3) := dk_153 0 18 (dk_at dksX1_append_0 20 rfl rfl)
theorem dX1_append_23 : decode cX1_append 23 = .ok (.iload 4, 2) := dk_21 4 (dk_at dksX1_append_1 0 rfl rfl)
theorem dX1_append_25 : decode cX1_append 25 = .ok (.i2l, 1) := dk_133 (dk_at dksX1_append_1 2 rfl rfl)
theorem dX1_append_26 : decode cX1_append 26 = .ok (.ldc2_w 308, 3) := dk_20 1 52 (dk_at dksX1_append_1 3 rfl rfl)
theorem dX1_append_29 : decode cX1_append 29 = .ok (.ldc2_w 310, 3) := dk_20 1 54 (dk_at dksX1_append_1 6 rfl rfl)
theorem dX1_append_32 : decode cX1_append 32 = .ok (.invokestatic 23, 3) := dk_184 0 23 (dk_at dksX1_append_1 9 rfl rfl)
theorem dX1_append_35 : decode cX1_append 35 = .ok (.ifCond .eq 7, 3) := dk_153 0 7 (dk_at dksX1_append_1 12 rfl rfl)
theorem dX1_append_38 : decode cX1_append 38 = .ok (.iconst 1, 1) := dk_4 (dk_at dksX1_append_1 15 rfl rfl)
theorem dX1_append_39 : decode cX1_append 39 = .ok (.goto 4, 3) := dk_167 0 4 (dk_at dksX1_append_1 16 rfl rfl)
theorem dX1_append_42 : decode cX1_append 42 = .ok (.iconst 0, 1) := dk_3 (dk_at dksX1_append_1 19 rfl rfl)
theorem dX1_append_43 : decode cX1_append 43 = .ok (.invokestatic 27, 3) := dk_184 0 27 (dk_at dksX1_append_1 20 rfl rfl)
theorem dX1_append_46 : decode cX1_append 46 = .ok (.iload_n 2, 1) := dk_28 (dk_at dksX1_append_1 23 rfl rfl)
theorem dX1_append_47 : decode cX1_append 47 = .ok (.iload 4, 2) := dk_21 4 (dk_at dksX1_append_2 0 rfl rfl)
theorem dX1_append_49 : decode cX1_append 49 = .ok (.ifCond .ne 7, 3) := dk_154 0 7 (dk_at dksX1_append_2 2 rfl rfl)
theorem dX1_append_52 : decode cX1_append 52 = .ok (.iconst 0, 1) := dk_3 (dk_at dksX1_append_2 5 rfl rfl)
theorem dX1_append_53 : decode cX1_append 53 = .ok (.goto 4, 3) := dk_167 0 4 (dk_at dksX1_append_2 6 rfl rfl)
theorem dX1_append_56 : decode cX1_append 56 = .ok (.iconst 1, 1) := dk_4 (dk_at dksX1_append_2 9 rfl rfl)
theorem dX1_append_57 : decode cX1_append 57 = .ok (.iadd, 1) := dk_96 (dk_at dksX1_append_2 10 rfl rfl)
theorem dX1_append_58 : decode cX1_append 58 = .ok (.istore_n 2, 1) := dk_61 (dk_at dksX1_append_2 11 rfl rfl)
theorem dX1_append_59 : decode cX1_append 59 = .ok (.iinc 3 (-8), 3) := dk_132 3 248 (dk_at dksX1_append_2 12 rfl rfl)
theorem dX1_append_62 : decode cX1_append 62 = .ok (.goto (-57), 3) := dk_167 255 199 (dk_at dksX1_append_2 15 rfl rfl)
theorem dX1_append_65 : decode cX1_append 65 = .ok (.aload_n 0, 1) := dk_42 (dk_at dksX1_append_2 18 rfl rfl)
theorem dX1_append_66 : decode cX1_append 66 = .ok (.getfield 55, 3) := dk_180 0 55 (dk_at dksX1_append_2 19 rfl rfl)
theorem dX1_append_69 : decode cX1_append 69 = .ok (.invokevirtual 301, 3) := dk_182 1 45 (dk_at dksX1_append_3 0 rfl rfl)
theorem dX1_append_72 : decode cX1_append 72 = .ok (.iload_n 2, 1) := dk_28 (dk_at dksX1_append_3 3 rfl rfl)
theorem dX1_append_73 : decode cX1_append 73 = .ok (.iadd, 1) := dk_96 (dk_at dksX1_append_3 4 rfl rfl)
theorem dX1_append_74 : decode cX1_append 74 = .ok (.bipush 60, 2) := dk_16 60 (dk_at dksX1_append_3 5 rfl rfl)
theorem dX1_append_76 : decode cX1_append 76 = .ok (.if_icmp .gt 7, 3) := dk_163 0 7 (dk_at dksX1_append_3 7 rfl rfl)
theorem dX1_append_79 : decode cX1_append 79 = .ok (.iconst 1, 1) := dk_4 (dk_at dksX1_append_3 10 rfl rfl)
theorem dX1_append_80 : decode cX1_append 80 = .ok (.goto 4, 3) := dk_167 0 4 (dk_at dksX1_append_3 11 rfl rfl)
theorem dX1_append_83 : decode cX1_append 83 = .ok (.iconst 0, 1) := dk_3 (dk_at dksX1_append_3 14 rfl rfl)
theorem dX1_append_84 : decode cX1_append 84 = .ok (.invokestatic 266, 3) := dk_184 1 10 (dk_at dksX1_append_3 15 rfl rfl)
theorem dX1_append_87 : decode cX1_append 87 = .ok (.bipush 24, 2) := dk_16 24 (dk_at dksX1_append_3 18 rfl rfl)
theorem dX1_append_89 : decode cX1_append 89 = .ok (.istore_n 3, 1) := dk_62 (dk_at dksX1_append_3 20 rfl rfl)
theorem dX1_append_90 : decode cX1_append 90 = .ok (.iload_n 3, 1) := dk_29 (dk_at dksX1_append_3 21 rfl rfl)
theorem dX1_append_91 : decode cX1_append 91 = .ok (.ifCond .lt 34, 3) := dk_155 0 34 (dk_at dksX1_append_4 0 rfl rfl)
theorem dX1_append_94 : decode cX1_append 94 = .ok (.iload_n 1, 1) := dk_27 (dk_at dksX1_append_4 3 rfl rfl)
theorem dX1_append_95 : decode cX1_append 95 = .ok (.iload_n 3, 1) := dk_29 (dk_at dksX1_append_4 4 rfl rfl)
theorem dX1_append_96 : decode cX1_append 96 = .ok (.iushr, 1) := dk_124 (dk_at dksX1_append_4 5 rfl rfl)
theorem dX1_append_97 : decode cX1_append 97 = .ok (.sipush 255, 3) := dk_17 0 255 (dk_at dksX1_append_4 6 rfl rfl)
theorem dX1_append_100 : decode cX1_append 100 = .ok (.iand, 1) := dk_126 (dk_at dksX1_append_4 9 rfl rfl)
theorem dX1_append_101 : decode cX1_append 101 = .ok (.istore 4, 2) := dk_54 4 (dk_at dksX1_append_4 10 rfl rfl)
theorem dX1_append_103 : decode cX1_append 103 = .ok (.iload 4, 2) := dk_21 4 (dk_at dksX1_append_4 12 rfl rfl)
theorem dX1_append_105 : decode cX1_append 105 = .ok (.ifCond .eq 14, 3) := dk_153 0 14 (dk_at dksX1_append_4 14 rfl rfl)
theorem dX1_append_108 : decode cX1_append 108 = .ok (.aload_n 0, 1) := dk_42 (dk_at dksX1_append_4 17 rfl rfl)
theorem dX1_append_109 : decode cX1_append 109 = .ok (.getfield 55, 3) := dk_180 0 55 (dk_at dksX1_append_4 18 rfl rfl)
theorem dX1_append_112 : decode cX1_append 112 = .ok (.iload 4, 2) := dk_21 4 (dk_at dksX1_append_4 21 rfl rfl)
theorem dX1_append_114 : decode cX1_append 114 = .ok (.i2c, 1) := dk_146 (dk_at dksX1_append_4 23 rfl rfl)
theorem dX1_append_115 : decode cX1_append 115 = .ok (.invokevirtual 312, 3) := dk_182 1 56 (dk_at dksX1_append_5 0 rfl rfl)
theorem dX1_append_118 : decode cX1_append 118 = .ok (.pop, 1) := dk_87 (dk_at dksX1_append_5 3 rfl rfl)
theorem dX1_append_119 : decode cX1_append 119 = .ok (.iinc 3 (-8), 3) := dk_132 3 248 (dk_at dksX1_append_5 4 rfl rfl)
theorem dX1_append_122 : decode cX1_append 122 = .ok (.goto (-32), 3) := dk_167 255 224 (dk_at dksX1_append_5 7 rfl rfl)
theorem dX1_append_125 : decode cX1_append 125 = .ok (.aload_n 0, 1) := dk_42 (dk_at dksX1_append_5 10 rfl rfl)
theorem dX1_append_126 : decode cX1_append 126 = .ok (.getfield 55, 3) := dk_180 0 55 (dk_at dksX1_append_5 11 rfl rfl)
theorem dX1_append_129 : decode cX1_append 129 = .ok (.invokevirtual 301, 3) := dk_182 1 45 (dk_at dksX1_append_5 14 rfl rfl)
theorem dX1_append_132 : decode cX1_append 132 = .ok (.ireturn, 1) := dk_172 (dk_at dksX1_append_5 17 rfl rfl)
abbrev cX1_read : ByteArray := prog_1_method_48_code
def yX1_read : MethodName := ⟨RX1, "read", "()I"⟩
def dkwX1_read_4 : List UInt8 := [183, 0, 102, 191, 42, 44, 182, 0, 103, 29, 172]
abbrev dktX1_read_4 : List UInt8 := dkwX1_read_4 ++ []
def dkwX1_read_3 : List UInt8 := [181, 0, 96, 187, 0, 100, 89, 183, 0, 102, 191, 58, 4, 42, 29, 181, 0, 65, 187, 0, 100, 89]
abbrev dktX1_read_3 : List UInt8 := dkwX1_read_3 ++ dktX1_read_4
def dkwX1_read_2 : List UInt8 := [182, 0, 90, 54, 6, 132, 3, 1, 167, 255, 223, 167, 0, 39, 58, 4, 42, 29, 181, 0, 65, 42, 25, 4]
abbrev dktX1_read_2 : List UInt8 := dkwX1_read_2 ++ dktX1_read_3
def dkwX1_read_1 : List UInt8 := [185, 1, 82, 1, 0, 153, 0, 29, 25, 4, 185, 1, 87, 1, 0, 192, 0, 85, 58, 5, 25, 5, 44]
abbrev dktX1_read_1 : List UInt8 := dkwX1_read_1 ++ dktX1_read_2
def dkwX1_read_0 : List UInt8 := [42, 182, 1, 75, 76, 42, 180, 0, 41, 182, 0, 81, 77, 3, 62, 43, 182, 1, 78, 58, 4, 25, 4]
abbrev dktX1_read_0 : List UInt8 := dkwX1_read_0 ++ dktX1_read_1
theorem dksX1_read_0 : cX1_read.data.toList.drop 0 = dktX1_read_0 := by decide +kernel
theorem dksX1_read_1 : cX1_read.data.toList.drop 23 = dktX1_read_1 := dk_seg dksX1_read_0 23 rfl rfl
theorem dksX1_read_2 : cX1_read.data.toList.drop 46 = dktX1_read_2 := dk_seg dksX1_read_1 23 rfl rfl
theorem dksX1_read_3 : cX1_read.data.toList.drop 70 = dktX1_read_3 := dk_seg dksX1_read_2 24 rfl rfl
theorem dksX1_read_4 : cX1_read.data.toList.drop 92 = dktX1_read_4 := dk_seg dksX1_read_3 22 rfl rfl
theorem dX1_read_0 : decode cX1_read 0 = .ok (.aload_n 0, 1) := dk_42 (dk_at dksX1_read_0 0 rfl rfl)
theorem dX1_read_1 : decode cX1_read 1 = .ok (.invokevirtual 331, 3) := dk_182 1 75 (dk_at dksX1_read_0 1 rfl rfl)
theorem dX1_read_4 : decode cX1_read 4 = .ok (.astore_n 1, 1) := dk_76 (dk_at dksX1_read_0 4 rfl rfl)
theorem dX1_read_5 : decode cX1_read 5 = .ok (.aload_n 0, 1) := dk_42 (dk_at dksX1_read_0 5 rfl rfl)
theorem dX1_read_6 : decode cX1_read 6 = .ok (.getfield 41, 3) := dk_180 0 41 (dk_at dksX1_read_0 6 rfl rfl)
theorem dX1_read_9 : decode cX1_read 9 = .ok (.invokevirtual 81, 3) := dk_182 0 81 (dk_at dksX1_read_0 9 rfl rfl)
theorem dX1_read_12 : decode cX1_read 12 = .ok (.astore_n 2, 1) := dk_77 (dk_at dksX1_read_0 12 rfl rfl)
theorem dX1_read_13 : decode cX1_read 13 = .ok (.iconst 0, 1) := dk_3 (dk_at dksX1_read_0 13 rfl rfl)
theorem dX1_read_14 : decode cX1_read 14 = .ok (.istore_n 3, 1) := dk_62 (dk_at dksX1_read_0 14 rfl rfl)
theorem dX1_read_15 : decode cX1_read 15 = .ok (.aload_n 1, 1) := dk_43 (dk_at dksX1_read_0 15 rfl rfl)
theorem dX1_read_16 : decode cX1_read 16 = .ok (.invokevirtual 334, 3) := dk_182 1 78 (dk_at dksX1_read_0 16 rfl rfl)
theorem dX1_read_19 : decode cX1_read 19 = .ok (.astore 4, 2) := dk_58 4 (dk_at dksX1_read_0 19 rfl rfl)
theorem dX1_read_21 : decode cX1_read 21 = .ok (.aload 4, 2) := dk_25 4 (dk_at dksX1_read_0 21 rfl rfl)
theorem dX1_read_23 : decode cX1_read 23 = .ok (.invokeinterface 338 1, 5) := by decide +kernel
theorem dX1_read_28 : decode cX1_read 28 = .ok (.ifCond .eq 29, 3) := dk_153 0 29 (dk_at dksX1_read_1 5 rfl rfl)
theorem dX1_read_31 : decode cX1_read 31 = .ok (.aload 4, 2) := dk_25 4 (dk_at dksX1_read_1 8 rfl rfl)
theorem dX1_read_33 : decode cX1_read 33 = .ok (.invokeinterface 343 1, 5) := by decide +kernel
theorem dX1_read_38 : decode cX1_read 38 = .ok (.checkcast 85, 3) := dk_192 0 85 (dk_at dksX1_read_1 15 rfl rfl)
theorem dX1_read_41 : decode cX1_read 41 = .ok (.astore 5, 2) := dk_58 5 (dk_at dksX1_read_1 18 rfl rfl)
theorem dX1_read_43 : decode cX1_read 43 = .ok (.aload 5, 2) := dk_25 5 (dk_at dksX1_read_1 20 rfl rfl)
theorem dX1_read_45 : decode cX1_read 45 = .ok (.aload_n 2, 1) := dk_44 (dk_at dksX1_read_1 22 rfl rfl)
theorem dX1_read_46 : decode cX1_read 46 = .ok (.invokevirtual 90, 3) := dk_182 0 90 (dk_at dksX1_read_2 0 rfl rfl)
theorem dX1_read_49 : decode cX1_read 49 = .ok (.istore 6, 2) := dk_54 6 (dk_at dksX1_read_2 3 rfl rfl)
theorem dX1_read_51 : decode cX1_read 51 = .ok (.iinc 3 1, 3) := dk_132 3 1 (dk_at dksX1_read_2 5 rfl rfl)
theorem dX1_read_54 : decode cX1_read 54 = .ok (.goto (-33), 3) := dk_167 255 223 (dk_at dksX1_read_2 8 rfl rfl)
theorem dX1_read_57 : decode cX1_read 57 = .ok (.goto 39, 3) := dk_167 0 39 (dk_at dksX1_read_2 11 rfl rfl)
theorem dX1_read_60 : decode cX1_read 60 = .ok (.astore 4, 2) := dk_58 4 (dk_at dksX1_read_2 14 rfl rfl)
theorem dX1_read_62 : decode cX1_read 62 = .ok (.aload_n 0, 1) := dk_42 (dk_at dksX1_read_2 16 rfl rfl)
theorem dX1_read_63 : decode cX1_read 63 = .ok (.iload_n 3, 1) := dk_29 (dk_at dksX1_read_2 17 rfl rfl)
theorem dX1_read_64 : decode cX1_read 64 = .ok (.putfield 65, 3) := dk_181 0 65 (dk_at dksX1_read_2 18 rfl rfl)
theorem dX1_read_67 : decode cX1_read 67 = .ok (.aload_n 0, 1) := dk_42 (dk_at dksX1_read_2 21 rfl rfl)
theorem dX1_read_68 : decode cX1_read 68 = .ok (.aload 4, 2) := dk_25 4 (dk_at dksX1_read_2 22 rfl rfl)
theorem dX1_read_70 : decode cX1_read 70 = .ok (.putfield 96, 3) := dk_181 0 96 (dk_at dksX1_read_3 0 rfl rfl)
theorem dX1_read_73 : decode cX1_read 73 = .ok (.new 100, 3) := dk_187 0 100 (dk_at dksX1_read_3 3 rfl rfl)
theorem dX1_read_76 : decode cX1_read 76 = .ok (.dup, 1) := dk_89 (dk_at dksX1_read_3 6 rfl rfl)
theorem dX1_read_77 : decode cX1_read 77 = .ok (.invokespecial 102, 3) := dk_183 0 102 (dk_at dksX1_read_3 7 rfl rfl)
theorem dX1_read_80 : decode cX1_read 80 = .ok (.athrow, 1) := dk_191 (dk_at dksX1_read_3 10 rfl rfl)
theorem dX1_read_81 : decode cX1_read 81 = .ok (.astore 4, 2) := dk_58 4 (dk_at dksX1_read_3 11 rfl rfl)
theorem dX1_read_83 : decode cX1_read 83 = .ok (.aload_n 0, 1) := dk_42 (dk_at dksX1_read_3 13 rfl rfl)
theorem dX1_read_84 : decode cX1_read 84 = .ok (.iload_n 3, 1) := dk_29 (dk_at dksX1_read_3 14 rfl rfl)
theorem dX1_read_85 : decode cX1_read 85 = .ok (.putfield 65, 3) := dk_181 0 65 (dk_at dksX1_read_3 15 rfl rfl)
theorem dX1_read_88 : decode cX1_read 88 = .ok (.new 100, 3) := dk_187 0 100 (dk_at dksX1_read_3 18 rfl rfl)
theorem dX1_read_91 : decode cX1_read 91 = .ok (.dup, 1) := dk_89 (dk_at dksX1_read_3 21 rfl rfl)
theorem dX1_read_92 : decode cX1_read 92 = .ok (.invokespecial 102, 3) := dk_183 0 102 (dk_at dksX1_read_4 0 rfl rfl)
theorem dX1_read_95 : decode cX1_read 95 = .ok (.athrow, 1) := dk_191 (dk_at dksX1_read_4 3 rfl rfl)
theorem dX1_read_96 : decode cX1_read 96 = .ok (.aload_n 0, 1) := dk_42 (dk_at dksX1_read_4 4 rfl rfl)
theorem dX1_read_97 : decode cX1_read 97 = .ok (.aload_n 2, 1) := dk_44 (dk_at dksX1_read_4 5 rfl rfl)
theorem dX1_read_98 : decode cX1_read 98 = .ok (.invokevirtual 103, 3) := dk_182 0 103 (dk_at dksX1_read_4 6 rfl rfl)
theorem dX1_read_101 : decode cX1_read 101 = .ok (.iload_n 3, 1) := dk_29 (dk_at dksX1_read_4 9 rfl rfl)
theorem dX1_read_102 : decode cX1_read 102 = .ok (.ireturn, 1) := dk_172 (dk_at dksX1_read_4 10 rfl rfl)
abbrev cX1_takeOrders : ByteArray := prog_1_method_47_code
def yX1_takeOrders : MethodName := ⟨RX1, "takeOrders", "()Ljava/util/ArrayList;"⟩
def dkwX1_takeOrders_1 : List UInt8 := [182, 1, 65, 176, 77, 42, 44, 181, 1, 71, 187, 0, 1, 89, 183, 0, 3, 191]
abbrev dktX1_takeOrders_1 : List UInt8 := dkwX1_takeOrders_1 ++ []
def dkwX1_takeOrders_0 : List UInt8 := [187, 1, 60, 89, 42, 180, 0, 55, 183, 1, 62, 76, 42, 187, 0, 52, 89, 183, 0, 54, 181, 0, 55, 43]
abbrev dktX1_takeOrders_0 : List UInt8 := dkwX1_takeOrders_0 ++ dktX1_takeOrders_1
theorem dksX1_takeOrders_0 : cX1_takeOrders.data.toList.drop 0 = dktX1_takeOrders_0 := by decide +kernel
theorem dksX1_takeOrders_1 : cX1_takeOrders.data.toList.drop 24 = dktX1_takeOrders_1 := dk_seg dksX1_takeOrders_0 24 rfl rfl
theorem dX1_takeOrders_0 : decode cX1_takeOrders 0 = .ok (.new 316, 3) := dk_187 1 60 (dk_at dksX1_takeOrders_0 0 rfl rfl)
theorem dX1_takeOrders_3 : decode cX1_takeOrders 3 = .ok (.dup, 1) := dk_89 (dk_at dksX1_takeOrders_0 3 rfl rfl)
theorem dX1_takeOrders_4 : decode cX1_takeOrders 4 = .ok (.aload_n 0, 1) := dk_42 (dk_at dksX1_takeOrders_0 4 rfl rfl)
theorem dX1_takeOrders_5 : decode cX1_takeOrders 5 = .ok (.getfield 55, 3) := dk_180 0 55 (dk_at dksX1_takeOrders_0 5 rfl rfl)
theorem dX1_takeOrders_8 : decode cX1_takeOrders 8 = .ok (.invokespecial 318, 3) := dk_183 1 62 (dk_at dksX1_takeOrders_0 8 rfl rfl)
theorem dX1_takeOrders_11 : decode cX1_takeOrders 11 = .ok (.astore_n 1, 1) := dk_76 (dk_at dksX1_takeOrders_0 11 rfl rfl)
theorem dX1_takeOrders_12 : decode cX1_takeOrders 12 = .ok (.aload_n 0, 1) := dk_42 (dk_at dksX1_takeOrders_0 12 rfl rfl)
theorem dX1_takeOrders_13 : decode cX1_takeOrders 13 = .ok (.new 52, 3) := dk_187 0 52 (dk_at dksX1_takeOrders_0 13 rfl rfl)
theorem dX1_takeOrders_16 : decode cX1_takeOrders 16 = .ok (.dup, 1) := dk_89 (dk_at dksX1_takeOrders_0 16 rfl rfl)
theorem dX1_takeOrders_17 : decode cX1_takeOrders 17 = .ok (.invokespecial 54, 3) := dk_183 0 54 (dk_at dksX1_takeOrders_0 17 rfl rfl)
theorem dX1_takeOrders_20 : decode cX1_takeOrders 20 = .ok (.putfield 55, 3) := dk_181 0 55 (dk_at dksX1_takeOrders_0 20 rfl rfl)
theorem dX1_takeOrders_23 : decode cX1_takeOrders 23 = .ok (.aload_n 1, 1) := dk_43 (dk_at dksX1_takeOrders_0 23 rfl rfl)
theorem dX1_takeOrders_24 : decode cX1_takeOrders 24 = .ok (.invokevirtual 321, 3) := dk_182 1 65 (dk_at dksX1_takeOrders_1 0 rfl rfl)
theorem dX1_takeOrders_27 : decode cX1_takeOrders 27 = .ok (.areturn, 1) := dk_176 (dk_at dksX1_takeOrders_1 3 rfl rfl)
theorem dX1_takeOrders_28 : decode cX1_takeOrders 28 = .ok (.astore_n 2, 1) := dk_77 (dk_at dksX1_takeOrders_1 4 rfl rfl)
theorem dX1_takeOrders_29 : decode cX1_takeOrders 29 = .ok (.aload_n 0, 1) := dk_42 (dk_at dksX1_takeOrders_1 5 rfl rfl)
theorem dX1_takeOrders_30 : decode cX1_takeOrders 30 = .ok (.aload_n 2, 1) := dk_44 (dk_at dksX1_takeOrders_1 6 rfl rfl)
theorem dX1_takeOrders_31 : decode cX1_takeOrders 31 = .ok (.putfield 327, 3) := dk_181 1 71 (dk_at dksX1_takeOrders_1 7 rfl rfl)
theorem dX1_takeOrders_34 : decode cX1_takeOrders 34 = .ok (.new 1, 3) := dk_187 0 1 (dk_at dksX1_takeOrders_1 10 rfl rfl)
theorem dX1_takeOrders_37 : decode cX1_takeOrders 37 = .ok (.dup, 1) := dk_89 (dk_at dksX1_takeOrders_1 13 rfl rfl)
theorem dX1_takeOrders_38 : decode cX1_takeOrders 38 = .ok (.invokespecial 3, 3) := dk_183 0 3 (dk_at dksX1_takeOrders_1 14 rfl rfl)
theorem dX1_takeOrders_41 : decode cX1_takeOrders 41 = .ok (.athrow, 1) := dk_191 (dk_at dksX1_takeOrders_1 17 rfl rfl)
abbrev cX1_errorPosition : ByteArray := prog_1_method_49_code
def yX1_errorPosition : MethodName := ⟨RX1, "errorPosition", "()I"⟩
def dkwX1_errorPosition_0 : List UInt8 := [42, 180, 1, 71, 198, 0, 7, 4, 167, 0, 4, 3, 184, 0, 168, 42, 180, 1, 71, 180, 1, 90, 172]
abbrev dktX1_errorPosition_0 : List UInt8 := dkwX1_errorPosition_0 ++ []
theorem dksX1_errorPosition_0 : cX1_errorPosition.data.toList.drop 0 = dktX1_errorPosition_0 := by decide +kernel
theorem dX1_errorPosition_0 : decode cX1_errorPosition 0 = .ok (.aload_n 0, 1) := dk_42 (dk_at dksX1_errorPosition_0 0 rfl rfl)
theorem dX1_errorPosition_1 : decode cX1_errorPosition 1 = .ok (.getfield 327, 3) := dk_180 1 71 (dk_at dksX1_errorPosition_0 1 rfl rfl)
theorem dX1_errorPosition_4 : decode cX1_errorPosition 4 = .ok (.ifnull 7, 3) := dk_198 0 7 (dk_at dksX1_errorPosition_0 4 rfl rfl)
theorem dX1_errorPosition_7 : decode cX1_errorPosition 7 = .ok (.iconst 1, 1) := dk_4 (dk_at dksX1_errorPosition_0 7 rfl rfl)
theorem dX1_errorPosition_8 : decode cX1_errorPosition 8 = .ok (.goto 4, 3) := dk_167 0 4 (dk_at dksX1_errorPosition_0 8 rfl rfl)
theorem dX1_errorPosition_11 : decode cX1_errorPosition 11 = .ok (.iconst 0, 1) := dk_3 (dk_at dksX1_errorPosition_0 11 rfl rfl)
theorem dX1_errorPosition_12 : decode cX1_errorPosition 12 = .ok (.invokestatic 168, 3) := dk_184 0 168 (dk_at dksX1_errorPosition_0 12 rfl rfl)
theorem dX1_errorPosition_15 : decode cX1_errorPosition 15 = .ok (.aload_n 0, 1) := dk_42 (dk_at dksX1_errorPosition_0 15 rfl rfl)
theorem dX1_errorPosition_16 : decode cX1_errorPosition 16 = .ok (.getfield 327, 3) := dk_180 1 71 (dk_at dksX1_errorPosition_0 16 rfl rfl)
theorem dX1_errorPosition_19 : decode cX1_errorPosition 19 = .ok (.getfield 346, 3) := dk_180 1 90 (dk_at dksX1_errorPosition_0 19 rfl rfl)
theorem dX1_errorPosition_22 : decode cX1_errorPosition 22 = .ok (.ireturn, 1) := dk_172 (dk_at dksX1_errorPosition_0 22 rfl rfl)
abbrev cX1_refusedItem : ByteArray := prog_1_method_50_code
def yX1_refusedItem : MethodName := ⟨RX1, "refusedItem", "()I"⟩
def dkwX1_refusedItem_0 : List UInt8 := [42, 180, 0, 65, 2, 159, 0, 7, 4, 167, 0, 4, 3, 184, 0, 168, 42, 180, 0, 65, 172]
abbrev dktX1_refusedItem_0 : List UInt8 := dkwX1_refusedItem_0 ++ []
theorem dksX1_refusedItem_0 : cX1_refusedItem.data.toList.drop 0 = dktX1_refusedItem_0 := by decide +kernel
theorem dX1_refusedItem_0 : decode cX1_refusedItem 0 = .ok (.aload_n 0, 1) := dk_42 (dk_at dksX1_refusedItem_0 0 rfl rfl)
theorem dX1_refusedItem_1 : decode cX1_refusedItem 1 = .ok (.getfield 65, 3) := dk_180 0 65 (dk_at dksX1_refusedItem_0 1 rfl rfl)
theorem dX1_refusedItem_4 : decode cX1_refusedItem 4 = .ok (.iconst (-1), 1) := dk_2 (dk_at dksX1_refusedItem_0 4 rfl rfl)
theorem dX1_refusedItem_5 : decode cX1_refusedItem 5 = .ok (.if_icmp .eq 7, 3) := dk_159 0 7 (dk_at dksX1_refusedItem_0 5 rfl rfl)
theorem dX1_refusedItem_8 : decode cX1_refusedItem 8 = .ok (.iconst 1, 1) := dk_4 (dk_at dksX1_refusedItem_0 8 rfl rfl)
theorem dX1_refusedItem_9 : decode cX1_refusedItem 9 = .ok (.goto 4, 3) := dk_167 0 4 (dk_at dksX1_refusedItem_0 9 rfl rfl)
theorem dX1_refusedItem_12 : decode cX1_refusedItem 12 = .ok (.iconst 0, 1) := dk_3 (dk_at dksX1_refusedItem_0 12 rfl rfl)
theorem dX1_refusedItem_13 : decode cX1_refusedItem 13 = .ok (.invokestatic 168, 3) := dk_184 0 168 (dk_at dksX1_refusedItem_0 13 rfl rfl)
theorem dX1_refusedItem_16 : decode cX1_refusedItem 16 = .ok (.aload_n 0, 1) := dk_42 (dk_at dksX1_refusedItem_0 16 rfl rfl)
theorem dX1_refusedItem_17 : decode cX1_refusedItem 17 = .ok (.getfield 65, 3) := dk_180 0 65 (dk_at dksX1_refusedItem_0 17 rfl rfl)
theorem dX1_refusedItem_20 : decode cX1_refusedItem 20 = .ok (.ireturn, 1) := dk_172 (dk_at dksX1_refusedItem_0 20 rfl rfl)
abbrev cX1_undo : ByteArray := prog_1_method_51_code
def yX1_undo : MethodName := ⟨RX1, "undo", "()I"⟩
def dkwX1_undo_1 : List UInt8 := [182, 1, 96, 192, 0, 38, 181, 0, 41, 42, 180, 0, 48, 182, 0, 69, 172]
abbrev dktX1_undo_1 : List UInt8 := dkwX1_undo_1 ++ []
def dkwX1_undo_0 : List UInt8 := [42, 180, 0, 48, 182, 1, 93, 154, 0, 7, 4, 167, 0, 4, 3, 184, 1, 10, 42, 42, 180, 0, 48]
abbrev dktX1_undo_0 : List UInt8 := dkwX1_undo_0 ++ dktX1_undo_1
theorem dksX1_undo_0 : cX1_undo.data.toList.drop 0 = dktX1_undo_0 := by decide +kernel
theorem dksX1_undo_1 : cX1_undo.data.toList.drop 23 = dktX1_undo_1 := dk_seg dksX1_undo_0 23 rfl rfl
theorem dX1_undo_0 : decode cX1_undo 0 = .ok (.aload_n 0, 1) := dk_42 (dk_at dksX1_undo_0 0 rfl rfl)
theorem dX1_undo_1 : decode cX1_undo 1 = .ok (.getfield 48, 3) := dk_180 0 48 (dk_at dksX1_undo_0 1 rfl rfl)
theorem dX1_undo_4 : decode cX1_undo 4 = .ok (.invokevirtual 349, 3) := dk_182 1 93 (dk_at dksX1_undo_0 4 rfl rfl)
theorem dX1_undo_7 : decode cX1_undo 7 = .ok (.ifCond .ne 7, 3) := dk_154 0 7 (dk_at dksX1_undo_0 7 rfl rfl)
theorem dX1_undo_10 : decode cX1_undo 10 = .ok (.iconst 1, 1) := dk_4 (dk_at dksX1_undo_0 10 rfl rfl)
theorem dX1_undo_11 : decode cX1_undo 11 = .ok (.goto 4, 3) := dk_167 0 4 (dk_at dksX1_undo_0 11 rfl rfl)
theorem dX1_undo_14 : decode cX1_undo 14 = .ok (.iconst 0, 1) := dk_3 (dk_at dksX1_undo_0 14 rfl rfl)
theorem dX1_undo_15 : decode cX1_undo 15 = .ok (.invokestatic 266, 3) := dk_184 1 10 (dk_at dksX1_undo_0 15 rfl rfl)
theorem dX1_undo_18 : decode cX1_undo 18 = .ok (.aload_n 0, 1) := dk_42 (dk_at dksX1_undo_0 18 rfl rfl)
theorem dX1_undo_19 : decode cX1_undo 19 = .ok (.aload_n 0, 1) := dk_42 (dk_at dksX1_undo_0 19 rfl rfl)
theorem dX1_undo_20 : decode cX1_undo 20 = .ok (.getfield 48, 3) := dk_180 0 48 (dk_at dksX1_undo_0 20 rfl rfl)
theorem dX1_undo_23 : decode cX1_undo 23 = .ok (.invokevirtual 352, 3) := dk_182 1 96 (dk_at dksX1_undo_1 0 rfl rfl)
theorem dX1_undo_26 : decode cX1_undo 26 = .ok (.checkcast 38, 3) := dk_192 0 38 (dk_at dksX1_undo_1 3 rfl rfl)
theorem dX1_undo_29 : decode cX1_undo 29 = .ok (.putfield 41, 3) := dk_181 0 41 (dk_at dksX1_undo_1 6 rfl rfl)
theorem dX1_undo_32 : decode cX1_undo 32 = .ok (.aload_n 0, 1) := dk_42 (dk_at dksX1_undo_1 9 rfl rfl)
theorem dX1_undo_33 : decode cX1_undo 33 = .ok (.getfield 48, 3) := dk_180 0 48 (dk_at dksX1_undo_1 10 rfl rfl)
theorem dX1_undo_36 : decode cX1_undo 36 = .ok (.invokevirtual 69, 3) := dk_182 0 69 (dk_at dksX1_undo_1 13 rfl rfl)
theorem dX1_undo_39 : decode cX1_undo 39 = .ok (.ireturn, 1) := dk_172 (dk_at dksX1_undo_1 16 rfl rfl)
abbrev cX1_restore : ByteArray := prog_1_method_53_code
def yX1_restore : MethodName := ⟨RX1, "restore", "()I"⟩
def dkwX1_restore_1 : List UInt8 := [180, 0, 48, 182, 0, 114, 42, 180, 0, 41, 180, 0, 107, 182, 0, 111, 172]
abbrev dktX1_restore_1 : List UInt8 := dkwX1_restore_1 ++ []
def dkwX1_restore_0 : List UInt8 := [42, 180, 1, 99, 198, 0, 7, 4, 167, 0, 4, 3, 184, 1, 10, 42, 42, 180, 1, 99, 181, 0, 41, 42]
abbrev dktX1_restore_0 : List UInt8 := dkwX1_restore_0 ++ dktX1_restore_1
theorem dksX1_restore_0 : cX1_restore.data.toList.drop 0 = dktX1_restore_0 := by decide +kernel
theorem dksX1_restore_1 : cX1_restore.data.toList.drop 24 = dktX1_restore_1 := dk_seg dksX1_restore_0 24 rfl rfl
theorem dX1_restore_0 : decode cX1_restore 0 = .ok (.aload_n 0, 1) := dk_42 (dk_at dksX1_restore_0 0 rfl rfl)
theorem dX1_restore_1 : decode cX1_restore 1 = .ok (.getfield 355, 3) := dk_180 1 99 (dk_at dksX1_restore_0 1 rfl rfl)
theorem dX1_restore_4 : decode cX1_restore 4 = .ok (.ifnull 7, 3) := dk_198 0 7 (dk_at dksX1_restore_0 4 rfl rfl)
theorem dX1_restore_7 : decode cX1_restore 7 = .ok (.iconst 1, 1) := dk_4 (dk_at dksX1_restore_0 7 rfl rfl)
theorem dX1_restore_8 : decode cX1_restore 8 = .ok (.goto 4, 3) := dk_167 0 4 (dk_at dksX1_restore_0 8 rfl rfl)
theorem dX1_restore_11 : decode cX1_restore 11 = .ok (.iconst 0, 1) := dk_3 (dk_at dksX1_restore_0 11 rfl rfl)
theorem dX1_restore_12 : decode cX1_restore 12 = .ok (.invokestatic 266, 3) := dk_184 1 10 (dk_at dksX1_restore_0 12 rfl rfl)
theorem dX1_restore_15 : decode cX1_restore 15 = .ok (.aload_n 0, 1) := dk_42 (dk_at dksX1_restore_0 15 rfl rfl)
theorem dX1_restore_16 : decode cX1_restore 16 = .ok (.aload_n 0, 1) := dk_42 (dk_at dksX1_restore_0 16 rfl rfl)
theorem dX1_restore_17 : decode cX1_restore 17 = .ok (.getfield 355, 3) := dk_180 1 99 (dk_at dksX1_restore_0 17 rfl rfl)
theorem dX1_restore_20 : decode cX1_restore 20 = .ok (.putfield 41, 3) := dk_181 0 41 (dk_at dksX1_restore_0 20 rfl rfl)
theorem dX1_restore_23 : decode cX1_restore 23 = .ok (.aload_n 0, 1) := dk_42 (dk_at dksX1_restore_0 23 rfl rfl)
theorem dX1_restore_24 : decode cX1_restore 24 = .ok (.getfield 48, 3) := dk_180 0 48 (dk_at dksX1_restore_1 0 rfl rfl)
theorem dX1_restore_27 : decode cX1_restore 27 = .ok (.invokevirtual 114, 3) := dk_182 0 114 (dk_at dksX1_restore_1 3 rfl rfl)
theorem dX1_restore_30 : decode cX1_restore 30 = .ok (.aload_n 0, 1) := dk_42 (dk_at dksX1_restore_1 6 rfl rfl)
theorem dX1_restore_31 : decode cX1_restore 31 = .ok (.getfield 41, 3) := dk_180 0 41 (dk_at dksX1_restore_1 7 rfl rfl)
theorem dX1_restore_34 : decode cX1_restore 34 = .ok (.getfield 107, 3) := dk_180 0 107 (dk_at dksX1_restore_1 10 rfl rfl)
theorem dX1_restore_37 : decode cX1_restore 37 = .ok (.invokevirtual 111, 3) := dk_182 0 111 (dk_at dksX1_restore_1 13 rfl rfl)
theorem dX1_restore_40 : decode cX1_restore 40 = .ok (.ireturn, 1) := dk_172 (dk_at dksX1_restore_1 16 rfl rfl)
theorem q71 : (Jvm.Cond.initialized "SkipSchool") ∈ lw_all := lw_g (lw_at lw_m1 1 rfl) rfl
theorem q120 : (Jvm.Cond.instantiable "SkipSchool" (8 : Nat)) ∈ lw_all := lw_g (lw_at lw_m1 50 rfl) rfl
theorem q122 : (Jvm.Cond.instanceMethod ({ cls := "SkipSchool", name := "<init>", desc := "()V" } : Jvm.MethodName)) ∈ lw_all := lw_g (lw_at lw_m1 52 rfl) rfl
theorem q123 : (Jvm.Cond.code ({ cls := "SkipSchool", name := "<init>", desc := "()V" } : Jvm.MethodName) prog_1_method_10_code (1 : Nat) (Option.none : Option Jvm.ClassFile.FieldType)) ∈ lw_all := lw_g (lw_at lw_m1 53 rfl) rfl
theorem q124 : (Jvm.Cond.methodLink "SkipSchool" (35 : Nat) ({ cls := "java/lang/Object", name := "<init>", desc := "()V" } : Jvm.MethodName)) ∈ lw_all := lw_g (lw_at lw_m1 54 rfl) rfl
theorem q127 : (Jvm.Cond.classLink "SkipSchool" (38 : Nat) "SkipSchool$School") ∈ lw_all := lw_g (lw_at lw_m1 57 rfl) rfl
theorem q129 : (Jvm.Cond.methodLinkNest "SkipSchool" (40 : Nat) ({ cls := "SkipSchool$School", name := "<init>", desc := "()V" } : Jvm.MethodName) "SkipSchool") ∈ lw_tbl := lw_at lw_m1 59 rfl
theorem q188 : (Jvm.Cond.fieldLinkNest "SkipSchool" (107 : Nat) "SkipSchool$School" "stones" "Ljava/util/ArrayList;" "SkipSchool") ∈ lw_tbl := lw_at lw_m1 118 rfl
theorem q190 : (Jvm.Cond.fieldLinkNest "SkipSchool" (275 : Nat) "SkipSchool$School" "rivers" "Ljava/util/ArrayList;" "SkipSchool") ∈ lw_tbl := lw_at lw_m1 120 rfl
theorem q192 : (Jvm.Cond.fieldLinkNest "SkipSchool" (206 : Nat) "SkipSchool$School" "alumni" "Ljava/util/LinkedList;" "SkipSchool") ∈ lw_tbl := lw_at lw_m1 122 rfl
theorem q194 : (Jvm.Cond.fieldLinkNest "SkipSchool" (278 : Nat) "SkipSchool$School" "today" "I" "SkipSchool") ∈ lw_tbl := lw_at lw_m1 124 rfl
theorem q196 : (Jvm.Cond.fieldLinkNest "SkipSchool" (287 : Nat) "SkipSchool$School" "lessons" "I" "SkipSchool") ∈ lw_tbl := lw_at lw_m1 126 rfl
theorem q198 : (Jvm.Cond.fieldLinkNest "SkipSchool" (290 : Nat) "SkipSchool$School" "trials" "I" "SkipSchool") ∈ lw_tbl := lw_at lw_m1 128 rfl
theorem q200 : (Jvm.Cond.fieldLinkNest "SkipSchool" (293 : Nat) "SkipSchool$School" "throwsSoFar" "I" "SkipSchool") ∈ lw_tbl := lw_at lw_m1 130 rfl
theorem q202 : (Jvm.Cond.fieldLinkNest "SkipSchool" (296 : Nat) "SkipSchool$School" "crossed" "I" "SkipSchool") ∈ lw_tbl := lw_at lw_m1 132 rfl
theorem q204 : (Jvm.Cond.fieldLinkNest "SkipSchool" (299 : Nat) "SkipSchool$School" "skips" "I" "SkipSchool") ∈ lw_tbl := lw_at lw_m1 134 rfl
theorem q224 : (Jvm.Cond.classLink "SkipSchool" (45 : Nat) "java/util/ArrayDeque") ∈ lw_all := lw_g (lw_at lw_m1 154 rfl) rfl
theorem q226 : (Jvm.Cond.methodLink "SkipSchool" (47 : Nat) ({ cls := "java/util/ArrayDeque", name := "<init>", desc := "()V" } : Jvm.MethodName)) ∈ lw_all := lw_g (lw_at lw_m1 156 rfl) rfl
theorem q242 : (Jvm.Cond.classLink "SkipSchool" (52 : Nat) "java/lang/StringBuilder") ∈ lw_all := lw_g (lw_at lw_m1 172 rfl) rfl
theorem q244 : (Jvm.Cond.methodLink "SkipSchool" (54 : Nat) ({ cls := "java/lang/StringBuilder", name := "<init>", desc := "()V" } : Jvm.MethodName)) ∈ lw_all := lw_g (lw_at lw_m1 174 rfl) rfl
theorem q274 : (Jvm.Cond.stringRef "SkipSchool" (59 : Nat) "") ∈ lw_tbl := lw_at lw_m1 204 rfl
theorem q275 : (Jvm.Cond.fieldLink "SkipSchool" (41 : Nat) "SkipSchool" "school" "LSkipSchool$School;") ∈ lw_all := lw_g (lw_at lw_m1 205 rfl) rfl
theorem q276 : (Jvm.Cond.fieldLink "SkipSchool" (48 : Nat) "SkipSchool" "undoSteps" "Ljava/util/ArrayDeque;") ∈ lw_all := lw_g (lw_at lw_m1 206 rfl) rfl
theorem q277 : (Jvm.Cond.fieldLink "SkipSchool" (355 : Nat) "SkipSchool" "saved" "LSkipSchool$School;") ∈ lw_all := lw_g (lw_at lw_m1 207 rfl) rfl
theorem q278 : (Jvm.Cond.fieldLink "SkipSchool" (55 : Nat) "SkipSchool" "input" "Ljava/lang/StringBuilder;") ∈ lw_all := lw_g (lw_at lw_m1 208 rfl) rfl
theorem q279 : (Jvm.Cond.fieldLink "SkipSchool" (61 : Nat) "SkipSchool" "line" "Ljava/lang/String;") ∈ lw_all := lw_g (lw_at lw_m1 209 rfl) rfl
theorem q280 : (Jvm.Cond.fieldLink "SkipSchool" (327 : Nat) "SkipSchool" "lastError" "LSkipSchool$SyntaxException;") ∈ lw_all := lw_g (lw_at lw_m1 210 rfl) rfl
theorem q281 : (Jvm.Cond.fieldLink "SkipSchool" (65 : Nat) "SkipSchool" "lastItem" "I") ∈ lw_all := lw_g (lw_at lw_m1 211 rfl) rfl
theorem q282 : (Jvm.Cond.fieldLink "SkipSchool" (96 : Nat) "SkipSchool" "lastRefusal" "LSkipSchool$Refused;") ∈ lw_all := lw_g (lw_at lw_m1 212 rfl) rfl
theorem q283 : (Jvm.Cond.lays "SkipSchool" "SkipSchool" "school" "LSkipSchool$School;") ∈ lw_all := lw_g (lw_at lw_m1 213 rfl) rfl
theorem q284 : (Jvm.Cond.soleField "SkipSchool" "school") ∈ lw_all := lw_g (lw_at lw_m1 214 rfl) rfl
theorem q285 : (Jvm.Cond.laysFinal "SkipSchool" "SkipSchool" "undoSteps" "Ljava/util/ArrayDeque;") ∈ lw_all := lw_g (lw_at lw_m1 215 rfl) rfl
theorem q286 : (Jvm.Cond.soleField "SkipSchool" "undoSteps") ∈ lw_all := lw_g (lw_at lw_m1 216 rfl) rfl
theorem q287 : (Jvm.Cond.lays "SkipSchool" "SkipSchool" "saved" "LSkipSchool$School;") ∈ lw_all := lw_g (lw_at lw_m1 217 rfl) rfl
theorem q288 : (Jvm.Cond.soleField "SkipSchool" "saved") ∈ lw_all := lw_g (lw_at lw_m1 218 rfl) rfl
theorem q289 : (Jvm.Cond.lays "SkipSchool" "SkipSchool" "input" "Ljava/lang/StringBuilder;") ∈ lw_all := lw_g (lw_at lw_m1 219 rfl) rfl
theorem q290 : (Jvm.Cond.soleField "SkipSchool" "input") ∈ lw_all := lw_g (lw_at lw_m1 220 rfl) rfl
theorem q291 : (Jvm.Cond.lays "SkipSchool" "SkipSchool" "line" "Ljava/lang/String;") ∈ lw_all := lw_g (lw_at lw_m1 221 rfl) rfl
theorem q292 : (Jvm.Cond.soleField "SkipSchool" "line") ∈ lw_all := lw_g (lw_at lw_m1 222 rfl) rfl
theorem q293 : (Jvm.Cond.lays "SkipSchool" "SkipSchool" "lastError" "LSkipSchool$SyntaxException;") ∈ lw_all := lw_g (lw_at lw_m1 223 rfl) rfl
theorem q294 : (Jvm.Cond.soleField "SkipSchool" "lastError") ∈ lw_all := lw_g (lw_at lw_m1 224 rfl) rfl
theorem q295 : (Jvm.Cond.lays "SkipSchool" "SkipSchool" "lastItem" "I") ∈ lw_all := lw_g (lw_at lw_m1 225 rfl) rfl
theorem q296 : (Jvm.Cond.soleField "SkipSchool" "lastItem") ∈ lw_all := lw_g (lw_at lw_m1 226 rfl) rfl
theorem q297 : (Jvm.Cond.lays "SkipSchool" "SkipSchool" "lastRefusal" "LSkipSchool$Refused;") ∈ lw_all := lw_g (lw_at lw_m1 227 rfl) rfl
theorem q298 : (Jvm.Cond.soleField "SkipSchool" "lastRefusal") ∈ lw_all := lw_g (lw_at lw_m1 228 rfl) rfl
theorem q299 : (Jvm.Cond.superclass "SkipSchool" "java/lang/Object") ∈ lw_all := lw_g (lw_at lw_m1 229 rfl) rfl
theorem q301 : (Jvm.Cond.instanceMethod ({ cls := "SkipSchool", name := "clear", desc := "()I" } : Jvm.MethodName)) ∈ lw_all := lw_g (lw_at lw_m1 231 rfl) rfl
theorem q302 : (Jvm.Cond.selects "SkipSchool" ({ cls := "SkipSchool", name := "clear", desc := "()I" } : Jvm.MethodName) ({ cls := "SkipSchool", name := "clear", desc := "()I" } : Jvm.MethodName)) ∈ lw_all := lw_g (lw_at lw_m1 232 rfl) rfl
theorem q303 : (Jvm.Cond.code ({ cls := "SkipSchool", name := "clear", desc := "()I" } : Jvm.MethodName) prog_1_method_13_code (2 : Nat) (Option.some Jvm.ClassFile.FieldType.int)) ∈ lw_all := lw_g (lw_at lw_m1 233 rfl) rfl
theorem q304 : (Jvm.Cond.methodLink "SkipSchool" (111 : Nat) ({ cls := "java/util/ArrayList", name := "size", desc := "()I" } : Jvm.MethodName)) ∈ lw_all := lw_g (lw_at lw_m1 234 rfl) rfl
theorem q308 : (Jvm.Cond.methodLink "SkipSchool" (114 : Nat) ({ cls := "java/util/ArrayDeque", name := "clear", desc := "()V" } : Jvm.MethodName)) ∈ lw_all := lw_g (lw_at lw_m1 238 rfl) rfl
theorem q316 : (Jvm.Cond.instanceMethod ({ cls := "SkipSchool", name := "day", desc := "()I" } : Jvm.MethodName)) ∈ lw_all := lw_g (lw_at lw_m2 6 rfl) rfl
theorem q317 : (Jvm.Cond.selects "SkipSchool" ({ cls := "SkipSchool", name := "day", desc := "()I" } : Jvm.MethodName) ({ cls := "SkipSchool", name := "day", desc := "()I" } : Jvm.MethodName)) ∈ lw_all := lw_g (lw_at lw_m2 7 rfl) rfl
theorem q318 : (Jvm.Cond.code ({ cls := "SkipSchool", name := "day", desc := "()I" } : Jvm.MethodName) prog_1_method_28_code (1 : Nat) (Option.some Jvm.ClassFile.FieldType.int)) ∈ lw_all := lw_g (lw_at lw_m2 8 rfl) rfl
theorem q319 : (Jvm.Cond.stringRef "SkipSchool" (179 : Nat) "day") ∈ lw_tbl := lw_at lw_m2 9 rfl
theorem q320 : (Jvm.Cond.methodLink "SkipSchool" (119 : Nat) ({ cls := "SkipSchool", name := "change", desc := "(Ljava/lang/String;[I)I" } : Jvm.MethodName)) ∈ lw_all := lw_g (lw_at lw_m2 10 rfl) rfl
theorem q321 : (Jvm.Cond.privateMethod ({ cls := "SkipSchool", name := "change", desc := "(Ljava/lang/String;[I)I" } : Jvm.MethodName)) ∈ lw_tbl := lw_at lw_m2 11 rfl
theorem q322 : (Jvm.Cond.instanceMethod ({ cls := "SkipSchool", name := "change", desc := "(Ljava/lang/String;[I)I" } : Jvm.MethodName)) ∈ lw_all := lw_g (lw_at lw_m2 12 rfl) rfl
theorem q323 : (Jvm.Cond.codeWith ({ cls := "SkipSchool", name := "change", desc := "(Ljava/lang/String;[I)I" } : Jvm.MethodName) prog_1_method_12_code (6 : Nat) (Option.some Jvm.ClassFile.FieldType.int) [((8 : Nat), (23 : Nat), (26 : Nat), (94 : Nat))]) ∈ lw_all := lw_g (lw_at lw_m2 13 rfl) rfl
theorem q324 : (Jvm.Cond.classLink "SkipSchool" (94 : Nat) "SkipSchool$Refused") ∈ lw_all := lw_g (lw_at lw_m2 14 rfl) rfl
theorem q325 : (Jvm.Cond.methodLink "SkipSchool" (81 : Nat) ({ cls := "SkipSchool$School", name := "copy", desc := "()LSkipSchool$School;" } : Jvm.MethodName)) ∈ lw_all := lw_g (lw_at lw_m2 15 rfl) rfl
theorem q779 : (Jvm.Cond.selects "SkipSchool" ({ cls := "java/lang/Object", name := "getClass", desc := "()Ljava/lang/Class;" } : Jvm.MethodName) ({ cls := "java/lang/Object", name := "getClass", desc := "()Ljava/lang/Class;" } : Jvm.MethodName)) ∈ lw_all := lw_g (lw_at lw_m3 229 rfl) rfl
theorem q903 : (Jvm.Cond.fieldLinkNest "SkipSchool" (226 : Nat) "SkipSchool$Stone" "sankOn" "I" "SkipSchool") ∈ lw_tbl := lw_at lw_m4 113 rfl
theorem q1123 : (Jvm.Cond.classLink "SkipSchool" (85 : Nat) "SkipSchool$Order") ∈ lw_all := lw_g (lw_at lw_m5 93 rfl) rfl
theorem q1125 : (Jvm.Cond.methodLink "SkipSchool" (87 : Nat) ({ cls := "SkipSchool$Order", name := "<init>", desc := "(Ljava/lang/String;[I)V" } : Jvm.MethodName)) ∈ lw_all := lw_g (lw_at lw_m5 95 rfl) rfl
theorem q1136 : (Jvm.Cond.methodLink "SkipSchool" (90 : Nat) ({ cls := "SkipSchool$Order", name := "make", desc := "(LSkipSchool$School;)I" } : Jvm.MethodName)) ∈ lw_all := lw_g (lw_at lw_m5 106 rfl) rfl
theorem q1224 : (Jvm.Cond.static ({ cls := "SkipSchool", name := "inRange", desc := "(JJJ)Z" } : Jvm.MethodName)) ∈ lw_all := lw_g (lw_at lw_m5 194 rfl) rfl
theorem q1225 : (Jvm.Cond.code ({ cls := "SkipSchool", name := "inRange", desc := "(JJJ)Z" } : Jvm.MethodName) prog_1_method_1_code (6 : Nat) (Option.some Jvm.ClassFile.FieldType.boolean)) ∈ lw_all := lw_g (lw_at lw_m5 195 rfl) rfl
theorem q1227 : (Jvm.Cond.static ({ cls := "SkipSchool", name := "checkArgument", desc := "(Z)V" } : Jvm.MethodName)) ∈ lw_all := lw_g (lw_at lw_m5 197 rfl) rfl
theorem q1228 : (Jvm.Cond.code ({ cls := "SkipSchool", name := "checkArgument", desc := "(Z)V" } : Jvm.MethodName) prog_1_method_2_code (1 : Nat) (Option.none : Option Jvm.ClassFile.FieldType)) ∈ lw_all := lw_g (lw_at lw_m5 198 rfl) rfl
theorem q1229 : (Jvm.Cond.classLink "SkipSchool" (1 : Nat) "java/lang/IllegalArgumentException") ∈ lw_all := lw_g (lw_at lw_m5 199 rfl) rfl
theorem q1230 : (Jvm.Cond.methodLink "SkipSchool" (3 : Nat) ({ cls := "java/lang/IllegalArgumentException", name := "<init>", desc := "()V" } : Jvm.MethodName)) ∈ lw_all := lw_g (lw_at lw_m5 200 rfl) rfl
theorem q1257 : (Jvm.Cond.fieldLinkNest "SkipSchool" (272 : Nat) "SkipSchool$Refused" "reason" "I" "SkipSchool") ∈ lw_tbl := lw_at lw_m5 227 rfl
theorem q1259 : (Jvm.Cond.fieldLinkNest "SkipSchool" (269 : Nat) "SkipSchool$Refused" "detail" "I" "SkipSchool") ∈ lw_tbl := lw_at lw_m5 229 rfl
theorem q1283 : (Jvm.Cond.static ({ cls := "SkipSchool", name := "checkIndex", desc := "(Z)V" } : Jvm.MethodName)) ∈ lw_all := lw_g (lw_at lw_m6 13 rfl) rfl
theorem q1284 : (Jvm.Cond.code ({ cls := "SkipSchool", name := "checkIndex", desc := "(Z)V" } : Jvm.MethodName) prog_1_method_3_code (1 : Nat) (Option.none : Option Jvm.ClassFile.FieldType)) ∈ lw_all := lw_g (lw_at lw_m6 14 rfl) rfl
theorem q1285 : (Jvm.Cond.classLink "SkipSchool" (7 : Nat) "java/lang/IndexOutOfBoundsException") ∈ lw_all := lw_g (lw_at lw_m6 15 rfl) rfl
theorem q1286 : (Jvm.Cond.methodLink "SkipSchool" (9 : Nat) ({ cls := "java/lang/IndexOutOfBoundsException", name := "<init>", desc := "()V" } : Jvm.MethodName)) ∈ lw_all := lw_g (lw_at lw_m6 16 rfl) rfl
theorem q1300 : (Jvm.Cond.static ({ cls := "SkipSchool", name := "checkAhead", desc := "(I)V" } : Jvm.MethodName)) ∈ lw_all := lw_g (lw_at lw_m6 30 rfl) rfl
theorem q1301 : (Jvm.Cond.code ({ cls := "SkipSchool", name := "checkAhead", desc := "(I)V" } : Jvm.MethodName) prog_1_method_9_code (1 : Nat) (Option.none : Option Jvm.ClassFile.FieldType)) ∈ lw_all := lw_g (lw_at lw_m6 31 rfl) rfl
theorem q1302 : (Jvm.Cond.constantLong "SkipSchool" (33 : Nat) (29 : Int64)) ∈ lw_all := lw_g (lw_at lw_m6 32 rfl) rfl
theorem q1303 : (Jvm.Cond.methodLink "SkipSchool" (23 : Nat) ({ cls := "SkipSchool", name := "inRange", desc := "(JJJ)Z" } : Jvm.MethodName)) ∈ lw_all := lw_g (lw_at lw_m6 33 rfl) rfl
theorem q1304 : (Jvm.Cond.methodLink "SkipSchool" (27 : Nat) ({ cls := "SkipSchool", name := "checkArgument", desc := "(Z)V" } : Jvm.MethodName)) ∈ lw_all := lw_g (lw_at lw_m6 34 rfl) rfl
theorem q1382 : (Jvm.Cond.static ({ cls := "SkipSchool", name := "checkAngle", desc := "(I)V" } : Jvm.MethodName)) ∈ lw_all := lw_g (lw_at lw_m6 112 rfl) rfl
theorem q1383 : (Jvm.Cond.code ({ cls := "SkipSchool", name := "checkAngle", desc := "(I)V" } : Jvm.MethodName) prog_1_method_7_code (1 : Nat) (Option.none : Option Jvm.ClassFile.FieldType)) ∈ lw_all := lw_g (lw_at lw_m6 113 rfl) rfl
theorem q1384 : (Jvm.Cond.constantLong "SkipSchool" (21 : Nat) (90 : Int64)) ∈ lw_all := lw_g (lw_at lw_m6 114 rfl) rfl
theorem q1386 : (Jvm.Cond.static ({ cls := "SkipSchool", name := "checkSpeed", desc := "(I)V" } : Jvm.MethodName)) ∈ lw_all := lw_g (lw_at lw_m6 116 rfl) rfl
theorem q1387 : (Jvm.Cond.code ({ cls := "SkipSchool", name := "checkSpeed", desc := "(I)V" } : Jvm.MethodName) prog_1_method_8_code (1 : Nat) (Option.none : Option Jvm.ClassFile.FieldType)) ∈ lw_all := lw_g (lw_at lw_m6 117 rfl) rfl
theorem q1388 : (Jvm.Cond.constantLong "SkipSchool" (31 : Nat) (20 : Int64)) ∈ lw_all := lw_g (lw_at lw_m6 118 rfl) rfl
theorem q1501 : (Jvm.Cond.classLink "SkipSchool" (100 : Nat) "java/lang/UnsupportedOperationException") ∈ lw_all := lw_g (lw_at lw_m6 231 rfl) rfl
theorem q1510 : (Jvm.Cond.methodLink "SkipSchool" (102 : Nat) ({ cls := "java/lang/UnsupportedOperationException", name := "<init>", desc := "()V" } : Jvm.MethodName)) ∈ lw_all := lw_g (lw_at lw_m7 0 rfl) rfl
theorem q1516 : (Jvm.Cond.methodLink "SkipSchool" (103 : Nat) ({ cls := "SkipSchool", name := "become", desc := "(LSkipSchool$School;)V" } : Jvm.MethodName)) ∈ lw_all := lw_g (lw_at lw_m7 6 rfl) rfl
theorem q1517 : (Jvm.Cond.privateMethod ({ cls := "SkipSchool", name := "become", desc := "(LSkipSchool$School;)V" } : Jvm.MethodName)) ∈ lw_tbl := lw_at lw_m7 7 rfl
theorem q1518 : (Jvm.Cond.instanceMethod ({ cls := "SkipSchool", name := "become", desc := "(LSkipSchool$School;)V" } : Jvm.MethodName)) ∈ lw_all := lw_g (lw_at lw_m7 8 rfl) rfl
theorem q1519 : (Jvm.Cond.code ({ cls := "SkipSchool", name := "become", desc := "(LSkipSchool$School;)V" } : Jvm.MethodName) prog_1_method_11_code (3 : Nat) (Option.none : Option Jvm.ClassFile.FieldType)) ∈ lw_all := lw_g (lw_at lw_m7 9 rfl) rfl
theorem q1520 : (Jvm.Cond.methodLink "SkipSchool" (69 : Nat) ({ cls := "java/util/ArrayDeque", name := "size", desc := "()I" } : Jvm.MethodName)) ∈ lw_all := lw_g (lw_at lw_m7 10 rfl) rfl
theorem q1527 : (Jvm.Cond.methodLink "SkipSchool" (73 : Nat) ({ cls := "java/util/ArrayDeque", name := "removeFirst", desc := "()Ljava/lang/Object;" } : Jvm.MethodName)) ∈ lw_all := lw_g (lw_at lw_m7 17 rfl) rfl
theorem q1543 : (Jvm.Cond.methodLink "SkipSchool" (77 : Nat) ({ cls := "java/util/ArrayDeque", name := "addLast", desc := "(Ljava/lang/Object;)V" } : Jvm.MethodName)) ∈ lw_all := lw_g (lw_at lw_m7 33 rfl) rfl
theorem q1575 : (Jvm.Cond.instanceMethod ({ cls := "SkipSchool", name := "isRight", desc := "()Z" } : Jvm.MethodName)) ∈ lw_all := lw_g (lw_at lw_m7 65 rfl) rfl
theorem q1576 : (Jvm.Cond.selects "SkipSchool" ({ cls := "SkipSchool", name := "isRight", desc := "()Z" } : Jvm.MethodName) ({ cls := "SkipSchool", name := "isRight", desc := "()Z" } : Jvm.MethodName)) ∈ lw_all := lw_g (lw_at lw_m7 66 rfl) rfl
theorem q1577 : (Jvm.Cond.code ({ cls := "SkipSchool", name := "isRight", desc := "()Z" } : Jvm.MethodName) prog_1_method_37_code (1 : Nat) (Option.some Jvm.ClassFile.FieldType.boolean)) ∈ lw_all := lw_g (lw_at lw_m7 67 rfl) rfl
theorem q1578 : (Jvm.Cond.methodLink "SkipSchool" (242 : Nat) ({ cls := "SkipSchool$School", name := "isRight", desc := "()Z" } : Jvm.MethodName)) ∈ lw_all := lw_g (lw_at lw_m7 68 rfl) rfl
theorem q1684 : (Jvm.Cond.instanceMethod ({ cls := "SkipSchool", name := "snapshot", desc := "()I" } : Jvm.MethodName)) ∈ lw_all := lw_g (lw_at lw_m7 174 rfl) rfl
theorem q1685 : (Jvm.Cond.selects "SkipSchool" ({ cls := "SkipSchool", name := "snapshot", desc := "()I" } : Jvm.MethodName) ({ cls := "SkipSchool", name := "snapshot", desc := "()I" } : Jvm.MethodName)) ∈ lw_all := lw_g (lw_at lw_m7 175 rfl) rfl
theorem q1686 : (Jvm.Cond.code ({ cls := "SkipSchool", name := "snapshot", desc := "()I" } : Jvm.MethodName) prog_1_method_52_code (1 : Nat) (Option.some Jvm.ClassFile.FieldType.int)) ∈ lw_all := lw_g (lw_at lw_m7 176 rfl) rfl
theorem q1693 : (Jvm.Cond.instanceMethod ({ cls := "SkipSchool", name := "stone", desc := "(II)I" } : Jvm.MethodName)) ∈ lw_all := lw_g (lw_at lw_m7 183 rfl) rfl
theorem q1694 : (Jvm.Cond.selects "SkipSchool" ({ cls := "SkipSchool", name := "stone", desc := "(II)I" } : Jvm.MethodName) ({ cls := "SkipSchool", name := "stone", desc := "(II)I" } : Jvm.MethodName)) ∈ lw_all := lw_g (lw_at lw_m7 184 rfl) rfl
theorem q1695 : (Jvm.Cond.code ({ cls := "SkipSchool", name := "stone", desc := "(II)I" } : Jvm.MethodName) prog_1_method_14_code (3 : Nat) (Option.some Jvm.ClassFile.FieldType.int)) ∈ lw_all := lw_g (lw_at lw_m7 185 rfl) rfl
theorem q1696 : (Jvm.Cond.stringRef "SkipSchool" (117 : Nat) "stone") ∈ lw_tbl := lw_at lw_m7 186 rfl
theorem q1701 : (Jvm.Cond.instanceMethod ({ cls := "SkipSchool", name := "river", desc := "(II)I" } : Jvm.MethodName)) ∈ lw_all := lw_g (lw_at lw_m7 191 rfl) rfl
theorem q1702 : (Jvm.Cond.selects "SkipSchool" ({ cls := "SkipSchool", name := "river", desc := "(II)I" } : Jvm.MethodName) ({ cls := "SkipSchool", name := "river", desc := "(II)I" } : Jvm.MethodName)) ∈ lw_all := lw_g (lw_at lw_m7 192 rfl) rfl
theorem q1703 : (Jvm.Cond.code ({ cls := "SkipSchool", name := "river", desc := "(II)I" } : Jvm.MethodName) prog_1_method_15_code (3 : Nat) (Option.some Jvm.ClassFile.FieldType.int)) ∈ lw_all := lw_g (lw_at lw_m7 193 rfl) rfl
theorem q1704 : (Jvm.Cond.stringRef "SkipSchool" (123 : Nat) "river") ∈ lw_tbl := lw_at lw_m7 194 rfl
theorem q1725 : (Jvm.Cond.instanceMethod ({ cls := "SkipSchool", name := "calm", desc := "(II)I" } : Jvm.MethodName)) ∈ lw_all := lw_g (lw_at lw_m7 215 rfl) rfl
theorem q1726 : (Jvm.Cond.selects "SkipSchool" ({ cls := "SkipSchool", name := "calm", desc := "(II)I" } : Jvm.MethodName) ({ cls := "SkipSchool", name := "calm", desc := "(II)I" } : Jvm.MethodName)) ∈ lw_all := lw_g (lw_at lw_m7 216 rfl) rfl
theorem q1727 : (Jvm.Cond.code ({ cls := "SkipSchool", name := "calm", desc := "(II)I" } : Jvm.MethodName) prog_1_method_16_code (3 : Nat) (Option.some Jvm.ClassFile.FieldType.int)) ∈ lw_all := lw_g (lw_at lw_m7 217 rfl) rfl
theorem q1728 : (Jvm.Cond.stringRef "SkipSchool" (125 : Nat) "calm") ∈ lw_tbl := lw_at lw_m7 218 rfl
theorem q1733 : (Jvm.Cond.instanceMethod ({ cls := "SkipSchool", name := "stoneOf", desc := "(II)I" } : Jvm.MethodName)) ∈ lw_all := lw_g (lw_at lw_m7 223 rfl) rfl
theorem q1734 : (Jvm.Cond.selects "SkipSchool" ({ cls := "SkipSchool", name := "stoneOf", desc := "(II)I" } : Jvm.MethodName) ({ cls := "SkipSchool", name := "stoneOf", desc := "(II)I" } : Jvm.MethodName)) ∈ lw_all := lw_g (lw_at lw_m7 224 rfl) rfl
theorem q1735 : (Jvm.Cond.code ({ cls := "SkipSchool", name := "stoneOf", desc := "(II)I" } : Jvm.MethodName) prog_1_method_17_code (4 : Nat) (Option.some Jvm.ClassFile.FieldType.int)) ∈ lw_all := lw_g (lw_at lw_m7 225 rfl) rfl
theorem q1736 : (Jvm.Cond.methodLink "SkipSchool" (127 : Nat) ({ cls := "SkipSchool$School", name := "stone", desc := "(I)LSkipSchool$Stone;" } : Jvm.MethodName)) ∈ lw_all := lw_g (lw_at lw_m7 226 rfl) rfl
theorem q1737 : (Jvm.Cond.methodLink "SkipSchool" (130 : Nat) ({ cls := "SkipSchool$School", name := "bookingsOf", desc := "(I)I" } : Jvm.MethodName)) ∈ lw_all := lw_g (lw_at lw_m7 227 rfl) rfl
theorem q1755 : (Jvm.Cond.methodLink "SkipSchool" (134 : Nat) ({ cls := "SkipSchool$Stone", name := "number", desc := "(I)I" } : Jvm.MethodName)) ∈ lw_all := lw_g (lw_at lw_m8 5 rfl) rfl
theorem q1765 : (Jvm.Cond.instanceMethod ({ cls := "SkipSchool", name := "grade", desc := "(I)C" } : Jvm.MethodName)) ∈ lw_all := lw_g (lw_at lw_m8 15 rfl) rfl
theorem q1766 : (Jvm.Cond.selects "SkipSchool" ({ cls := "SkipSchool", name := "grade", desc := "(I)C" } : Jvm.MethodName) ({ cls := "SkipSchool", name := "grade", desc := "(I)C" } : Jvm.MethodName)) ∈ lw_all := lw_g (lw_at lw_m8 16 rfl) rfl
theorem q1767 : (Jvm.Cond.code ({ cls := "SkipSchool", name := "grade", desc := "(I)C" } : Jvm.MethodName) prog_1_method_18_code (2 : Nat) (Option.some Jvm.ClassFile.FieldType.char)) ∈ lw_all := lw_g (lw_at lw_m8 17 rfl) rfl
theorem q1768 : (Jvm.Cond.methodLink "SkipSchool" (139 : Nat) ({ cls := "SkipSchool$Stone", name := "grade", desc := "()C" } : Jvm.MethodName)) ∈ lw_all := lw_g (lw_at lw_m8 18 rfl) rfl
theorem q1776 : (Jvm.Cond.instanceMethod ({ cls := "SkipSchool", name := "riverOf", desc := "(II)I" } : Jvm.MethodName)) ∈ lw_all := lw_g (lw_at lw_m8 26 rfl) rfl
theorem q1777 : (Jvm.Cond.selects "SkipSchool" ({ cls := "SkipSchool", name := "riverOf", desc := "(II)I" } : Jvm.MethodName) ({ cls := "SkipSchool", name := "riverOf", desc := "(II)I" } : Jvm.MethodName)) ∈ lw_all := lw_g (lw_at lw_m8 27 rfl) rfl
theorem q1778 : (Jvm.Cond.code ({ cls := "SkipSchool", name := "riverOf", desc := "(II)I" } : Jvm.MethodName) prog_1_method_19_code (3 : Nat) (Option.some Jvm.ClassFile.FieldType.int)) ∈ lw_all := lw_g (lw_at lw_m8 28 rfl) rfl
theorem q1779 : (Jvm.Cond.methodLink "SkipSchool" (143 : Nat) ({ cls := "SkipSchool$School", name := "riverOf", desc := "(II)I" } : Jvm.MethodName)) ∈ lw_all := lw_g (lw_at lw_m8 29 rfl) rfl
theorem q1793 : (Jvm.Cond.instanceMethod ({ cls := "SkipSchool", name := "book", desc := "(III)I" } : Jvm.MethodName)) ∈ lw_all := lw_g (lw_at lw_m8 43 rfl) rfl
theorem q1794 : (Jvm.Cond.selects "SkipSchool" ({ cls := "SkipSchool", name := "book", desc := "(III)I" } : Jvm.MethodName) ({ cls := "SkipSchool", name := "book", desc := "(III)I" } : Jvm.MethodName)) ∈ lw_all := lw_g (lw_at lw_m8 44 rfl) rfl
theorem q1795 : (Jvm.Cond.code ({ cls := "SkipSchool", name := "book", desc := "(III)I" } : Jvm.MethodName) prog_1_method_20_code (4 : Nat) (Option.some Jvm.ClassFile.FieldType.int)) ∈ lw_all := lw_g (lw_at lw_m8 45 rfl) rfl
theorem q1796 : (Jvm.Cond.stringRef "SkipSchool" (147 : Nat) "book") ∈ lw_tbl := lw_at lw_m8 46 rfl
theorem q1801 : (Jvm.Cond.instanceMethod ({ cls := "SkipSchool", name := "free", desc := "(II)I" } : Jvm.MethodName)) ∈ lw_all := lw_g (lw_at lw_m8 51 rfl) rfl
theorem q1802 : (Jvm.Cond.selects "SkipSchool" ({ cls := "SkipSchool", name := "free", desc := "(II)I" } : Jvm.MethodName) ({ cls := "SkipSchool", name := "free", desc := "(II)I" } : Jvm.MethodName)) ∈ lw_all := lw_g (lw_at lw_m8 52 rfl) rfl
theorem q1803 : (Jvm.Cond.code ({ cls := "SkipSchool", name := "free", desc := "(II)I" } : Jvm.MethodName) prog_1_method_21_code (3 : Nat) (Option.some Jvm.ClassFile.FieldType.int)) ∈ lw_all := lw_g (lw_at lw_m8 53 rfl) rfl
theorem q1804 : (Jvm.Cond.stringRef "SkipSchool" (149 : Nat) "free") ∈ lw_tbl := lw_at lw_m8 54 rfl
theorem q1809 : (Jvm.Cond.instanceMethod ({ cls := "SkipSchool", name := "booked", desc := "(II)I" } : Jvm.MethodName)) ∈ lw_all := lw_g (lw_at lw_m8 59 rfl) rfl
theorem q1810 : (Jvm.Cond.selects "SkipSchool" ({ cls := "SkipSchool", name := "booked", desc := "(II)I" } : Jvm.MethodName) ({ cls := "SkipSchool", name := "booked", desc := "(II)I" } : Jvm.MethodName)) ∈ lw_all := lw_g (lw_at lw_m8 60 rfl) rfl
theorem q1811 : (Jvm.Cond.code ({ cls := "SkipSchool", name := "booked", desc := "(II)I" } : Jvm.MethodName) prog_1_method_22_code (4 : Nat) (Option.some Jvm.ClassFile.FieldType.int)) ∈ lw_all := lw_g (lw_at lw_m8 61 rfl) rfl
theorem q1812 : (Jvm.Cond.methodLink "SkipSchool" (151 : Nat) ({ cls := "SkipSchool$School", name := "river", desc := "(I)LSkipSchool$River;" } : Jvm.MethodName)) ∈ lw_all := lw_g (lw_at lw_m8 62 rfl) rfl
theorem q1813 : (Jvm.Cond.methodLink "SkipSchool" (154 : Nat) ({ cls := "SkipSchool", name := "checkAhead", desc := "(I)V" } : Jvm.MethodName)) ∈ lw_all := lw_g (lw_at lw_m8 63 rfl) rfl
theorem q1814 : (Jvm.Cond.methodLink "SkipSchool" (158 : Nat) ({ cls := "SkipSchool$River", name := "booked", desc := "(I)I" } : Jvm.MethodName)) ∈ lw_all := lw_g (lw_at lw_m8 64 rfl) rfl
theorem q1820 : (Jvm.Cond.instanceMethod ({ cls := "SkipSchool", name := "nextFree", desc := "(II)I" } : Jvm.MethodName)) ∈ lw_all := lw_g (lw_at lw_m8 70 rfl) rfl
theorem q1821 : (Jvm.Cond.selects "SkipSchool" ({ cls := "SkipSchool", name := "nextFree", desc := "(II)I" } : Jvm.MethodName) ({ cls := "SkipSchool", name := "nextFree", desc := "(II)I" } : Jvm.MethodName)) ∈ lw_all := lw_g (lw_at lw_m8 71 rfl) rfl
theorem q1822 : (Jvm.Cond.code ({ cls := "SkipSchool", name := "nextFree", desc := "(II)I" } : Jvm.MethodName) prog_1_method_23_code (5 : Nat) (Option.some Jvm.ClassFile.FieldType.int)) ∈ lw_all := lw_g (lw_at lw_m8 72 rfl) rfl
theorem q1823 : (Jvm.Cond.constantLong "SkipSchool" (163 : Nat) (30 : Int64)) ∈ lw_all := lw_g (lw_at lw_m8 73 rfl) rfl
theorem q1824 : (Jvm.Cond.methodLink "SkipSchool" (165 : Nat) ({ cls := "SkipSchool$River", name := "nextFree", desc := "(I)I" } : Jvm.MethodName)) ∈ lw_all := lw_g (lw_at lw_m8 74 rfl) rfl
theorem q1832 : (Jvm.Cond.methodLink "SkipSchool" (168 : Nat) ({ cls := "SkipSchool", name := "checkElement", desc := "(Z)V" } : Jvm.MethodName)) ∈ lw_all := lw_g (lw_at lw_m8 82 rfl) rfl
theorem q1833 : (Jvm.Cond.static ({ cls := "SkipSchool", name := "checkElement", desc := "(Z)V" } : Jvm.MethodName)) ∈ lw_all := lw_g (lw_at lw_m8 83 rfl) rfl
theorem q1834 : (Jvm.Cond.code ({ cls := "SkipSchool", name := "checkElement", desc := "(Z)V" } : Jvm.MethodName) prog_1_method_5_code (1 : Nat) (Option.none : Option Jvm.ClassFile.FieldType)) ∈ lw_all := lw_g (lw_at lw_m8 84 rfl) rfl
theorem q1835 : (Jvm.Cond.classLink "SkipSchool" (13 : Nat) "java/util/NoSuchElementException") ∈ lw_all := lw_g (lw_at lw_m8 85 rfl) rfl
theorem q1836 : (Jvm.Cond.methodLink "SkipSchool" (15 : Nat) ({ cls := "java/util/NoSuchElementException", name := "<init>", desc := "()V" } : Jvm.MethodName)) ∈ lw_all := lw_g (lw_at lw_m8 86 rfl) rfl
theorem q1841 : (Jvm.Cond.instanceMethod ({ cls := "SkipSchool", name := "teach", desc := "(I)I" } : Jvm.MethodName)) ∈ lw_all := lw_g (lw_at lw_m8 91 rfl) rfl
theorem q1842 : (Jvm.Cond.selects "SkipSchool" ({ cls := "SkipSchool", name := "teach", desc := "(I)I" } : Jvm.MethodName) ({ cls := "SkipSchool", name := "teach", desc := "(I)I" } : Jvm.MethodName)) ∈ lw_all := lw_g (lw_at lw_m8 92 rfl) rfl
theorem q1843 : (Jvm.Cond.code ({ cls := "SkipSchool", name := "teach", desc := "(I)I" } : Jvm.MethodName) prog_1_method_24_code (2 : Nat) (Option.some Jvm.ClassFile.FieldType.int)) ∈ lw_all := lw_g (lw_at lw_m8 93 rfl) rfl
theorem q1844 : (Jvm.Cond.stringRef "SkipSchool" (171 : Nat) "teach") ∈ lw_tbl := lw_at lw_m8 94 rfl
theorem q1849 : (Jvm.Cond.instanceMethod ({ cls := "SkipSchool", name := "trial", desc := "(IIII)I" } : Jvm.MethodName)) ∈ lw_all := lw_g (lw_at lw_m8 99 rfl) rfl
theorem q1850 : (Jvm.Cond.selects "SkipSchool" ({ cls := "SkipSchool", name := "trial", desc := "(IIII)I" } : Jvm.MethodName) ({ cls := "SkipSchool", name := "trial", desc := "(IIII)I" } : Jvm.MethodName)) ∈ lw_all := lw_g (lw_at lw_m8 100 rfl) rfl
theorem q1851 : (Jvm.Cond.code ({ cls := "SkipSchool", name := "trial", desc := "(IIII)I" } : Jvm.MethodName) prog_1_method_25_code (5 : Nat) (Option.some Jvm.ClassFile.FieldType.int)) ∈ lw_all := lw_g (lw_at lw_m8 101 rfl) rfl
theorem q1852 : (Jvm.Cond.stringRef "SkipSchool" (173 : Nat) "try") ∈ lw_tbl := lw_at lw_m8 102 rfl
theorem q1857 : (Jvm.Cond.instanceMethod ({ cls := "SkipSchool", name := "skim", desc := "(IIII)I" } : Jvm.MethodName)) ∈ lw_all := lw_g (lw_at lw_m8 107 rfl) rfl
theorem q1858 : (Jvm.Cond.selects "SkipSchool" ({ cls := "SkipSchool", name := "skim", desc := "(IIII)I" } : Jvm.MethodName) ({ cls := "SkipSchool", name := "skim", desc := "(IIII)I" } : Jvm.MethodName)) ∈ lw_all := lw_g (lw_at lw_m8 108 rfl) rfl
theorem q1859 : (Jvm.Cond.code ({ cls := "SkipSchool", name := "skim", desc := "(IIII)I" } : Jvm.MethodName) prog_1_method_26_code (5 : Nat) (Option.some Jvm.ClassFile.FieldType.int)) ∈ lw_all := lw_g (lw_at lw_m8 109 rfl) rfl
theorem q1860 : (Jvm.Cond.stringRef "SkipSchool" (175 : Nat) "throw") ∈ lw_tbl := lw_at lw_m8 110 rfl
theorem q1865 : (Jvm.Cond.instanceMethod ({ cls := "SkipSchool", name := "fetch", desc := "(I)I" } : Jvm.MethodName)) ∈ lw_all := lw_g (lw_at lw_m8 115 rfl) rfl
theorem q1866 : (Jvm.Cond.selects "SkipSchool" ({ cls := "SkipSchool", name := "fetch", desc := "(I)I" } : Jvm.MethodName) ({ cls := "SkipSchool", name := "fetch", desc := "(I)I" } : Jvm.MethodName)) ∈ lw_all := lw_g (lw_at lw_m8 116 rfl) rfl
theorem q1867 : (Jvm.Cond.code ({ cls := "SkipSchool", name := "fetch", desc := "(I)I" } : Jvm.MethodName) prog_1_method_27_code (2 : Nat) (Option.some Jvm.ClassFile.FieldType.int)) ∈ lw_all := lw_g (lw_at lw_m8 117 rfl) rfl
theorem q1868 : (Jvm.Cond.stringRef "SkipSchool" (177 : Nat) "fetch") ∈ lw_tbl := lw_at lw_m8 118 rfl
theorem q1873 : (Jvm.Cond.instanceMethod ({ cls := "SkipSchool", name := "skips", desc := "(IIIIZ)I" } : Jvm.MethodName)) ∈ lw_all := lw_g (lw_at lw_m8 123 rfl) rfl
theorem q1874 : (Jvm.Cond.selects "SkipSchool" ({ cls := "SkipSchool", name := "skips", desc := "(IIIIZ)I" } : Jvm.MethodName) ({ cls := "SkipSchool", name := "skips", desc := "(IIIIZ)I" } : Jvm.MethodName)) ∈ lw_all := lw_g (lw_at lw_m8 124 rfl) rfl
theorem q1875 : (Jvm.Cond.code ({ cls := "SkipSchool", name := "skips", desc := "(IIIIZ)I" } : Jvm.MethodName) prog_1_method_29_code (7 : Nat) (Option.some Jvm.ClassFile.FieldType.int)) ∈ lw_all := lw_g (lw_at lw_m8 125 rfl) rfl
theorem q1876 : (Jvm.Cond.methodLink "SkipSchool" (181 : Nat) ({ cls := "SkipSchool$School", name := "thrown", desc := "(IIII)LSkipSchool$Throw;" } : Jvm.MethodName)) ∈ lw_all := lw_g (lw_at lw_m8 126 rfl) rfl
theorem q1877 : (Jvm.Cond.methodLink "SkipSchool" (185 : Nat) ({ cls := "SkipSchool$Throw", name := "skipsAgain", desc := "()I" } : Jvm.MethodName)) ∈ lw_all := lw_g (lw_at lw_m8 127 rfl) rfl
theorem q1878 : (Jvm.Cond.methodLink "SkipSchool" (190 : Nat) ({ cls := "SkipSchool$Throw", name := "skips", desc := "()I" } : Jvm.MethodName)) ∈ lw_all := lw_g (lw_at lw_m8 128 rfl) rfl
theorem q1883 : (Jvm.Cond.instanceMethod ({ cls := "SkipSchool", name := "way", desc := "(IIIIZ)I" } : Jvm.MethodName)) ∈ lw_all := lw_g (lw_at lw_m8 133 rfl) rfl
theorem q1884 : (Jvm.Cond.selects "SkipSchool" ({ cls := "SkipSchool", name := "way", desc := "(IIIIZ)I" } : Jvm.MethodName) ({ cls := "SkipSchool", name := "way", desc := "(IIIIZ)I" } : Jvm.MethodName)) ∈ lw_all := lw_g (lw_at lw_m8 134 rfl) rfl
theorem q1885 : (Jvm.Cond.code ({ cls := "SkipSchool", name := "way", desc := "(IIIIZ)I" } : Jvm.MethodName) prog_1_method_30_code (7 : Nat) (Option.some Jvm.ClassFile.FieldType.int)) ∈ lw_all := lw_g (lw_at lw_m8 135 rfl) rfl
theorem q1886 : (Jvm.Cond.methodLink "SkipSchool" (193 : Nat) ({ cls := "SkipSchool$Throw", name := "wayAgain", desc := "()I" } : Jvm.MethodName)) ∈ lw_all := lw_g (lw_at lw_m8 136 rfl) rfl
theorem q1887 : (Jvm.Cond.methodLink "SkipSchool" (196 : Nat) ({ cls := "SkipSchool$Throw", name := "way", desc := "()I" } : Jvm.MethodName)) ∈ lw_all := lw_g (lw_at lw_m8 137 rfl) rfl
theorem q1892 : (Jvm.Cond.instanceMethod ({ cls := "SkipSchool", name := "bestAngle", desc := "(III)I" } : Jvm.MethodName)) ∈ lw_all := lw_g (lw_at lw_m8 142 rfl) rfl
theorem q1893 : (Jvm.Cond.selects "SkipSchool" ({ cls := "SkipSchool", name := "bestAngle", desc := "(III)I" } : Jvm.MethodName) ({ cls := "SkipSchool", name := "bestAngle", desc := "(III)I" } : Jvm.MethodName)) ∈ lw_all := lw_g (lw_at lw_m8 143 rfl) rfl
theorem q1894 : (Jvm.Cond.code ({ cls := "SkipSchool", name := "bestAngle", desc := "(III)I" } : Jvm.MethodName) prog_1_method_31_code (5 : Nat) (Option.some Jvm.ClassFile.FieldType.int)) ∈ lw_all := lw_g (lw_at lw_m8 144 rfl) rfl
theorem q1895 : (Jvm.Cond.methodLink "SkipSchool" (199 : Nat) ({ cls := "SkipSchool$School", name := "bestAngle", desc := "(III)I" } : Jvm.MethodName)) ∈ lw_all := lw_g (lw_at lw_m8 145 rfl) rfl
theorem q1903 : (Jvm.Cond.instanceMethod ({ cls := "SkipSchool", name := "leastSpeed", desc := "(III)I" } : Jvm.MethodName)) ∈ lw_all := lw_g (lw_at lw_m8 153 rfl) rfl
theorem q1904 : (Jvm.Cond.selects "SkipSchool" ({ cls := "SkipSchool", name := "leastSpeed", desc := "(III)I" } : Jvm.MethodName) ({ cls := "SkipSchool", name := "leastSpeed", desc := "(III)I" } : Jvm.MethodName)) ∈ lw_all := lw_g (lw_at lw_m8 154 rfl) rfl
theorem q1905 : (Jvm.Cond.code ({ cls := "SkipSchool", name := "leastSpeed", desc := "(III)I" } : Jvm.MethodName) prog_1_method_32_code (6 : Nat) (Option.some Jvm.ClassFile.FieldType.int)) ∈ lw_all := lw_g (lw_at lw_m8 155 rfl) rfl
theorem q1906 : (Jvm.Cond.methodLink "SkipSchool" (203 : Nat) ({ cls := "SkipSchool$School", name := "leastSpeed", desc := "(III)I" } : Jvm.MethodName)) ∈ lw_all := lw_g (lw_at lw_m8 156 rfl) rfl
theorem q1914 : (Jvm.Cond.instanceMethod ({ cls := "SkipSchool", name := "alumnus", desc := "(I)I" } : Jvm.MethodName)) ∈ lw_all := lw_g (lw_at lw_m8 164 rfl) rfl
theorem q1915 : (Jvm.Cond.selects "SkipSchool" ({ cls := "SkipSchool", name := "alumnus", desc := "(I)I" } : Jvm.MethodName) ({ cls := "SkipSchool", name := "alumnus", desc := "(I)I" } : Jvm.MethodName)) ∈ lw_all := lw_g (lw_at lw_m8 165 rfl) rfl
theorem q1916 : (Jvm.Cond.code ({ cls := "SkipSchool", name := "alumnus", desc := "(I)I" } : Jvm.MethodName) prog_1_method_33_code (2 : Nat) (Option.some Jvm.ClassFile.FieldType.int)) ∈ lw_all := lw_g (lw_at lw_m8 166 rfl) rfl
theorem q1917 : (Jvm.Cond.methodLink "SkipSchool" (210 : Nat) ({ cls := "java/util/LinkedList", name := "size", desc := "()I" } : Jvm.MethodName)) ∈ lw_all := lw_g (lw_at lw_m8 167 rfl) rfl
theorem q1918 : (Jvm.Cond.methodLink "SkipSchool" (213 : Nat) ({ cls := "java/util/LinkedList", name := "get", desc := "(I)Ljava/lang/Object;" } : Jvm.MethodName)) ∈ lw_all := lw_g (lw_at lw_m8 168 rfl) rfl
theorem q1919 : (Jvm.Cond.classLink "SkipSchool" (217 : Nat) "java/lang/Integer") ∈ lw_all := lw_g (lw_at lw_m8 169 rfl) rfl
theorem q1920 : (Jvm.Cond.methodLink "SkipSchool" (219 : Nat) ({ cls := "java/lang/Integer", name := "intValue", desc := "()I" } : Jvm.MethodName)) ∈ lw_all := lw_g (lw_at lw_m8 170 rfl) rfl
theorem q1925 : (Jvm.Cond.instanceMethod ({ cls := "SkipSchool", name := "sankOn", desc := "(I)I" } : Jvm.MethodName)) ∈ lw_all := lw_g (lw_at lw_m8 175 rfl) rfl
theorem q1926 : (Jvm.Cond.selects "SkipSchool" ({ cls := "SkipSchool", name := "sankOn", desc := "(I)I" } : Jvm.MethodName) ({ cls := "SkipSchool", name := "sankOn", desc := "(I)I" } : Jvm.MethodName)) ∈ lw_all := lw_g (lw_at lw_m8 176 rfl) rfl
theorem q1927 : (Jvm.Cond.code ({ cls := "SkipSchool", name := "sankOn", desc := "(I)I" } : Jvm.MethodName) prog_1_method_34_code (3 : Nat) (Option.some Jvm.ClassFile.FieldType.int)) ∈ lw_all := lw_g (lw_at lw_m8 177 rfl) rfl
theorem q1928 : (Jvm.Cond.methodLink "SkipSchool" (222 : Nat) ({ cls := "SkipSchool$Stone", name := "isSunk", desc := "()Z" } : Jvm.MethodName)) ∈ lw_all := lw_g (lw_at lw_m8 178 rfl) rfl
theorem q1933 : (Jvm.Cond.instanceMethod ({ cls := "SkipSchool", name := "ranked", desc := "(II)I" } : Jvm.MethodName)) ∈ lw_all := lw_g (lw_at lw_m8 183 rfl) rfl
theorem q1934 : (Jvm.Cond.selects "SkipSchool" ({ cls := "SkipSchool", name := "ranked", desc := "(II)I" } : Jvm.MethodName) ({ cls := "SkipSchool", name := "ranked", desc := "(II)I" } : Jvm.MethodName)) ∈ lw_all := lw_g (lw_at lw_m8 184 rfl) rfl
theorem q1935 : (Jvm.Cond.code ({ cls := "SkipSchool", name := "ranked", desc := "(II)I" } : Jvm.MethodName) prog_1_method_35_code (4 : Nat) (Option.some Jvm.ClassFile.FieldType.int)) ∈ lw_all := lw_g (lw_at lw_m8 185 rfl) rfl
theorem q1936 : (Jvm.Cond.constantLong "SkipSchool" (229 : Nat) (2 : Int64)) ∈ lw_all := lw_g (lw_at lw_m8 186 rfl) rfl
theorem q1937 : (Jvm.Cond.methodLink "SkipSchool" (231 : Nat) ({ cls := "SkipSchool$School", name := "ranked", desc := "(II)I" } : Jvm.MethodName)) ∈ lw_all := lw_g (lw_at lw_m8 187 rfl) rfl
theorem q1950 : (Jvm.Cond.instanceMethod ({ cls := "SkipSchool", name := "graded", desc := "(C)I" } : Jvm.MethodName)) ∈ lw_all := lw_g (lw_at lw_m8 200 rfl) rfl
theorem q1951 : (Jvm.Cond.selects "SkipSchool" ({ cls := "SkipSchool", name := "graded", desc := "(C)I" } : Jvm.MethodName) ({ cls := "SkipSchool", name := "graded", desc := "(C)I" } : Jvm.MethodName)) ∈ lw_all := lw_g (lw_at lw_m8 201 rfl) rfl
theorem q1952 : (Jvm.Cond.code ({ cls := "SkipSchool", name := "graded", desc := "(C)I" } : Jvm.MethodName) prog_1_method_36_code (2 : Nat) (Option.some Jvm.ClassFile.FieldType.int)) ∈ lw_all := lw_g (lw_at lw_m8 202 rfl) rfl
theorem q1953 : (Jvm.Cond.constantLong "SkipSchool" (234 : Nat) (97 : Int64)) ∈ lw_all := lw_g (lw_at lw_m8 203 rfl) rfl
theorem q1954 : (Jvm.Cond.constantLong "SkipSchool" (236 : Nat) (101 : Int64)) ∈ lw_all := lw_g (lw_at lw_m8 204 rfl) rfl
theorem q1955 : (Jvm.Cond.methodLink "SkipSchool" (238 : Nat) ({ cls := "SkipSchool$School", name := "graded", desc := "(C)I" } : Jvm.MethodName)) ∈ lw_all := lw_g (lw_at lw_m8 205 rfl) rfl
theorem q1964 : (Jvm.Cond.instanceMethod ({ cls := "SkipSchool", name := "line", desc := "(I)I" } : Jvm.MethodName)) ∈ lw_all := lw_g (lw_at lw_m8 214 rfl) rfl
theorem q1965 : (Jvm.Cond.selects "SkipSchool" ({ cls := "SkipSchool", name := "line", desc := "(I)I" } : Jvm.MethodName) ({ cls := "SkipSchool", name := "line", desc := "(I)I" } : Jvm.MethodName)) ∈ lw_all := lw_g (lw_at lw_m8 215 rfl) rfl
theorem q1966 : (Jvm.Cond.code ({ cls := "SkipSchool", name := "line", desc := "(I)I" } : Jvm.MethodName) prog_1_method_39_code (2 : Nat) (Option.some Jvm.ClassFile.FieldType.int)) ∈ lw_all := lw_g (lw_at lw_m8 216 rfl) rfl
theorem q1967 : (Jvm.Cond.methodLink "SkipSchool" (250 : Nat) ({ cls := "SkipSchool$Stone", name := "told", desc := "()Ljava/lang/String;" } : Jvm.MethodName)) ∈ lw_all := lw_g (lw_at lw_m8 217 rfl) rfl
theorem q1984 : (Jvm.Cond.methodLink "SkipSchool" (254 : Nat) ({ cls := "SkipSchool", name := "tell", desc := "(Ljava/lang/String;)I" } : Jvm.MethodName)) ∈ lw_all := lw_g (lw_at lw_m8 234 rfl) rfl
theorem q1985 : (Jvm.Cond.privateMethod ({ cls := "SkipSchool", name := "tell", desc := "(Ljava/lang/String;)I" } : Jvm.MethodName)) ∈ lw_tbl := lw_at lw_m8 235 rfl
theorem q1986 : (Jvm.Cond.instanceMethod ({ cls := "SkipSchool", name := "tell", desc := "(Ljava/lang/String;)I" } : Jvm.MethodName)) ∈ lw_all := lw_g (lw_at lw_m8 236 rfl) rfl
theorem q1987 : (Jvm.Cond.code ({ cls := "SkipSchool", name := "tell", desc := "(Ljava/lang/String;)I" } : Jvm.MethodName) prog_1_method_38_code (2 : Nat) (Option.some Jvm.ClassFile.FieldType.int)) ∈ lw_all := lw_g (lw_at lw_m8 237 rfl) rfl
theorem q1988 : (Jvm.Cond.methodLink "SkipSchool" (245 : Nat) ({ cls := "java/lang/String", name := "length", desc := "()I" } : Jvm.MethodName)) ∈ lw_all := lw_g (lw_at lw_m8 238 rfl) rfl
theorem q1993 : (Jvm.Cond.instanceMethod ({ cls := "SkipSchool", name := "riverLine", desc := "(I)I" } : Jvm.MethodName)) ∈ lw_all := lw_g (lw_at lw_m9 3 rfl) rfl
theorem q1994 : (Jvm.Cond.selects "SkipSchool" ({ cls := "SkipSchool", name := "riverLine", desc := "(I)I" } : Jvm.MethodName) ({ cls := "SkipSchool", name := "riverLine", desc := "(I)I" } : Jvm.MethodName)) ∈ lw_all := lw_g (lw_at lw_m9 4 rfl) rfl
theorem q1995 : (Jvm.Cond.code ({ cls := "SkipSchool", name := "riverLine", desc := "(I)I" } : Jvm.MethodName) prog_1_method_40_code (2 : Nat) (Option.some Jvm.ClassFile.FieldType.int)) ∈ lw_all := lw_g (lw_at lw_m9 5 rfl) rfl
theorem q1996 : (Jvm.Cond.methodLink "SkipSchool" (258 : Nat) ({ cls := "SkipSchool$River", name := "told", desc := "()Ljava/lang/String;" } : Jvm.MethodName)) ∈ lw_all := lw_g (lw_at lw_m9 6 rfl) rfl
theorem q2027 : (Jvm.Cond.instanceMethod ({ cls := "SkipSchool", name := "character", desc := "(I)C" } : Jvm.MethodName)) ∈ lw_all := lw_g (lw_at lw_m9 37 rfl) rfl
theorem q2028 : (Jvm.Cond.selects "SkipSchool" ({ cls := "SkipSchool", name := "character", desc := "(I)C" } : Jvm.MethodName) ({ cls := "SkipSchool", name := "character", desc := "(I)C" } : Jvm.MethodName)) ∈ lw_all := lw_g (lw_at lw_m9 38 rfl) rfl
theorem q2029 : (Jvm.Cond.code ({ cls := "SkipSchool", name := "character", desc := "(I)C" } : Jvm.MethodName) prog_1_method_41_code (2 : Nat) (Option.some Jvm.ClassFile.FieldType.char)) ∈ lw_all := lw_g (lw_at lw_m9 39 rfl) rfl
theorem q2030 : (Jvm.Cond.methodLink "SkipSchool" (259 : Nat) ({ cls := "SkipSchool", name := "checkIndex", desc := "(Z)V" } : Jvm.MethodName)) ∈ lw_all := lw_g (lw_at lw_m9 40 rfl) rfl
theorem q2031 : (Jvm.Cond.methodLink "SkipSchool" (262 : Nat) ({ cls := "java/lang/String", name := "charAt", desc := "(I)C" } : Jvm.MethodName)) ∈ lw_all := lw_g (lw_at lw_m9 41 rfl) rfl
theorem q2047 : (Jvm.Cond.instanceMethod ({ cls := "SkipSchool", name := "refusal", desc := "(Z)I" } : Jvm.MethodName)) ∈ lw_all := lw_g (lw_at lw_m9 57 rfl) rfl
theorem q2048 : (Jvm.Cond.selects "SkipSchool" ({ cls := "SkipSchool", name := "refusal", desc := "(Z)I" } : Jvm.MethodName) ({ cls := "SkipSchool", name := "refusal", desc := "(Z)I" } : Jvm.MethodName)) ∈ lw_all := lw_g (lw_at lw_m9 58 rfl) rfl
theorem q2049 : (Jvm.Cond.code ({ cls := "SkipSchool", name := "refusal", desc := "(Z)I" } : Jvm.MethodName) prog_1_method_42_code (2 : Nat) (Option.some Jvm.ClassFile.FieldType.int)) ∈ lw_all := lw_g (lw_at lw_m9 59 rfl) rfl
theorem q2050 : (Jvm.Cond.methodLink "SkipSchool" (266 : Nat) ({ cls := "SkipSchool", name := "checkState", desc := "(Z)V" } : Jvm.MethodName)) ∈ lw_all := lw_g (lw_at lw_m9 60 rfl) rfl
theorem q2051 : (Jvm.Cond.static ({ cls := "SkipSchool", name := "checkState", desc := "(Z)V" } : Jvm.MethodName)) ∈ lw_all := lw_g (lw_at lw_m9 61 rfl) rfl
theorem q2052 : (Jvm.Cond.code ({ cls := "SkipSchool", name := "checkState", desc := "(Z)V" } : Jvm.MethodName) prog_1_method_4_code (1 : Nat) (Option.none : Option Jvm.ClassFile.FieldType)) ∈ lw_all := lw_g (lw_at lw_m9 62 rfl) rfl
theorem q2053 : (Jvm.Cond.classLink "SkipSchool" (10 : Nat) "java/lang/IllegalStateException") ∈ lw_all := lw_g (lw_at lw_m9 63 rfl) rfl
theorem q2054 : (Jvm.Cond.methodLink "SkipSchool" (12 : Nat) ({ cls := "java/lang/IllegalStateException", name := "<init>", desc := "()V" } : Jvm.MethodName)) ∈ lw_all := lw_g (lw_at lw_m9 64 rfl) rfl
theorem q2062 : (Jvm.Cond.instanceMethod ({ cls := "SkipSchool", name := "account", desc := "(I)I" } : Jvm.MethodName)) ∈ lw_all := lw_g (lw_at lw_m9 72 rfl) rfl
theorem q2063 : (Jvm.Cond.selects "SkipSchool" ({ cls := "SkipSchool", name := "account", desc := "(I)I" } : Jvm.MethodName) ({ cls := "SkipSchool", name := "account", desc := "(I)I" } : Jvm.MethodName)) ∈ lw_all := lw_g (lw_at lw_m9 73 rfl) rfl
theorem q2064 : (Jvm.Cond.code ({ cls := "SkipSchool", name := "account", desc := "(I)I" } : Jvm.MethodName) prog_1_method_43_code (3 : Nat) (Option.some Jvm.ClassFile.FieldType.int)) ∈ lw_all := lw_g (lw_at lw_m9 74 rfl) rfl
theorem q2065 : (Jvm.Cond.methodLink "SkipSchool" (281 : Nat) ({ cls := "SkipSchool$School", name := "away", desc := "()I" } : Jvm.MethodName)) ∈ lw_all := lw_g (lw_at lw_m9 75 rfl) rfl
theorem q2066 : (Jvm.Cond.methodLink "SkipSchool" (284 : Nat) ({ cls := "SkipSchool$School", name := "bookings", desc := "()I" } : Jvm.MethodName)) ∈ lw_all := lw_g (lw_at lw_m9 76 rfl) rfl
theorem q2070 : (Jvm.Cond.methodLink "SkipSchool" (301 : Nat) ({ cls := "java/lang/StringBuilder", name := "length", desc := "()I" } : Jvm.MethodName)) ∈ lw_all := lw_g (lw_at lw_m9 80 rfl) rfl
theorem q2089 : (Jvm.Cond.instanceMethod ({ cls := "SkipSchool", name := "meanSkill", desc := "()D" } : Jvm.MethodName)) ∈ lw_all := lw_g (lw_at lw_m9 99 rfl) rfl
theorem q2090 : (Jvm.Cond.selects "SkipSchool" ({ cls := "SkipSchool", name := "meanSkill", desc := "()D" } : Jvm.MethodName) ({ cls := "SkipSchool", name := "meanSkill", desc := "()D" } : Jvm.MethodName)) ∈ lw_all := lw_g (lw_at lw_m9 100 rfl) rfl
theorem q2091 : (Jvm.Cond.code ({ cls := "SkipSchool", name := "meanSkill", desc := "()D" } : Jvm.MethodName) prog_1_method_44_code (2 : Nat) (Option.some Jvm.ClassFile.FieldType.double)) ∈ lw_all := lw_g (lw_at lw_m9 101 rfl) rfl
theorem q2092 : (Jvm.Cond.methodLink "SkipSchool" (302 : Nat) ({ cls := "SkipSchool", name := "checkNumbers", desc := "(Z)V" } : Jvm.MethodName)) ∈ lw_all := lw_g (lw_at lw_m9 102 rfl) rfl
theorem q2093 : (Jvm.Cond.static ({ cls := "SkipSchool", name := "checkNumbers", desc := "(Z)V" } : Jvm.MethodName)) ∈ lw_all := lw_g (lw_at lw_m9 103 rfl) rfl
theorem q2094 : (Jvm.Cond.code ({ cls := "SkipSchool", name := "checkNumbers", desc := "(Z)V" } : Jvm.MethodName) prog_1_method_6_code (1 : Nat) (Option.none : Option Jvm.ClassFile.FieldType)) ∈ lw_all := lw_g (lw_at lw_m9 104 rfl) rfl
theorem q2095 : (Jvm.Cond.classLink "SkipSchool" (16 : Nat) "java/lang/ArithmeticException") ∈ lw_all := lw_g (lw_at lw_m9 105 rfl) rfl
theorem q2096 : (Jvm.Cond.methodLink "SkipSchool" (18 : Nat) ({ cls := "java/lang/ArithmeticException", name := "<init>", desc := "()V" } : Jvm.MethodName)) ∈ lw_all := lw_g (lw_at lw_m9 106 rfl) rfl
theorem q2100 : (Jvm.Cond.methodLink "SkipSchool" (305 : Nat) ({ cls := "SkipSchool$School", name := "skills", desc := "()I" } : Jvm.MethodName)) ∈ lw_all := lw_g (lw_at lw_m9 110 rfl) rfl
theorem q2108 : (Jvm.Cond.instanceMethod ({ cls := "SkipSchool", name := "crossShare", desc := "()F" } : Jvm.MethodName)) ∈ lw_all := lw_g (lw_at lw_m9 118 rfl) rfl
theorem q2109 : (Jvm.Cond.selects "SkipSchool" ({ cls := "SkipSchool", name := "crossShare", desc := "()F" } : Jvm.MethodName) ({ cls := "SkipSchool", name := "crossShare", desc := "()F" } : Jvm.MethodName)) ∈ lw_all := lw_g (lw_at lw_m9 119 rfl) rfl
theorem q2110 : (Jvm.Cond.code ({ cls := "SkipSchool", name := "crossShare", desc := "()F" } : Jvm.MethodName) prog_1_method_45_code (1 : Nat) (Option.some Jvm.ClassFile.FieldType.float)) ∈ lw_all := lw_g (lw_at lw_m9 120 rfl) rfl
theorem q2115 : (Jvm.Cond.instanceMethod ({ cls := "SkipSchool", name := "append", desc := "(I)I" } : Jvm.MethodName)) ∈ lw_all := lw_g (lw_at lw_m9 125 rfl) rfl
theorem q2116 : (Jvm.Cond.selects "SkipSchool" ({ cls := "SkipSchool", name := "append", desc := "(I)I" } : Jvm.MethodName) ({ cls := "SkipSchool", name := "append", desc := "(I)I" } : Jvm.MethodName)) ∈ lw_all := lw_g (lw_at lw_m9 126 rfl) rfl
theorem q2117 : (Jvm.Cond.code ({ cls := "SkipSchool", name := "append", desc := "(I)I" } : Jvm.MethodName) prog_1_method_46_code (5 : Nat) (Option.some Jvm.ClassFile.FieldType.int)) ∈ lw_all := lw_g (lw_at lw_m9 127 rfl) rfl
theorem q2118 : (Jvm.Cond.constantLong "SkipSchool" (308 : Nat) (32 : Int64)) ∈ lw_all := lw_g (lw_at lw_m9 128 rfl) rfl
theorem q2119 : (Jvm.Cond.constantLong "SkipSchool" (310 : Nat) (126 : Int64)) ∈ lw_all := lw_g (lw_at lw_m9 129 rfl) rfl
theorem q2120 : (Jvm.Cond.methodLink "SkipSchool" (312 : Nat) ({ cls := "java/lang/StringBuilder", name := "append", desc := "(C)Ljava/lang/StringBuilder;" } : Jvm.MethodName)) ∈ lw_all := lw_g (lw_at lw_m9 130 rfl) rfl
theorem q2125 : (Jvm.Cond.instanceMethod ({ cls := "SkipSchool", name := "read", desc := "()I" } : Jvm.MethodName)) ∈ lw_all := lw_g (lw_at lw_m9 135 rfl) rfl
theorem q2126 : (Jvm.Cond.selects "SkipSchool" ({ cls := "SkipSchool", name := "read", desc := "()I" } : Jvm.MethodName) ({ cls := "SkipSchool", name := "read", desc := "()I" } : Jvm.MethodName)) ∈ lw_all := lw_g (lw_at lw_m9 136 rfl) rfl
theorem q2127 : (Jvm.Cond.codeWith ({ cls := "SkipSchool", name := "read", desc := "()I" } : Jvm.MethodName) prog_1_method_48_code (7 : Nat) (Option.some Jvm.ClassFile.FieldType.int) [((15 : Nat), (57 : Nat), (60 : Nat), (94 : Nat)), ((15 : Nat), (57 : Nat), (81 : Nat), (1 : Nat)), ((15 : Nat), (57 : Nat), (81 : Nat), (7 : Nat))]) ∈ lw_all := lw_g (lw_at lw_m9 137 rfl) rfl
theorem q2128 : (Jvm.Cond.methodLink "SkipSchool" (331 : Nat) ({ cls := "SkipSchool", name := "takeOrders", desc := "()Ljava/util/ArrayList;" } : Jvm.MethodName)) ∈ lw_all := lw_g (lw_at lw_m9 138 rfl) rfl
theorem q2129 : (Jvm.Cond.privateMethod ({ cls := "SkipSchool", name := "takeOrders", desc := "()Ljava/util/ArrayList;" } : Jvm.MethodName)) ∈ lw_tbl := lw_at lw_m9 139 rfl
theorem q2130 : (Jvm.Cond.instanceMethod ({ cls := "SkipSchool", name := "takeOrders", desc := "()Ljava/util/ArrayList;" } : Jvm.MethodName)) ∈ lw_all := lw_g (lw_at lw_m9 140 rfl) rfl
theorem q2131 : (Jvm.Cond.codeWith ({ cls := "SkipSchool", name := "takeOrders", desc := "()Ljava/util/ArrayList;" } : Jvm.MethodName) prog_1_method_47_code (3 : Nat) (Option.some (Jvm.ClassFile.FieldType.object "java/util/ArrayList")) [((23 : Nat), (27 : Nat), (28 : Nat), (325 : Nat))]) ∈ lw_all := lw_g (lw_at lw_m9 141 rfl) rfl
theorem q2132 : (Jvm.Cond.classLink "SkipSchool" (325 : Nat) "SkipSchool$SyntaxException") ∈ lw_all := lw_g (lw_at lw_m9 142 rfl) rfl
theorem q2133 : (Jvm.Cond.classLink "SkipSchool" (316 : Nat) "SkipSchool$Parser") ∈ lw_all := lw_g (lw_at lw_m9 143 rfl) rfl
theorem q2135 : (Jvm.Cond.methodLink "SkipSchool" (318 : Nat) ({ cls := "SkipSchool$Parser", name := "<init>", desc := "(Ljava/lang/CharSequence;)V" } : Jvm.MethodName)) ∈ lw_all := lw_g (lw_at lw_m9 145 rfl) rfl
theorem q2146 : (Jvm.Cond.methodLink "SkipSchool" (321 : Nat) ({ cls := "SkipSchool$Parser", name := "orders", desc := "()Ljava/util/ArrayList;" } : Jvm.MethodName)) ∈ lw_all := lw_g (lw_at lw_m9 156 rfl) rfl
theorem q2223 : (Jvm.Cond.fieldLinkNest "SkipSchool" (346 : Nat) "SkipSchool$SyntaxException" "position" "I" "SkipSchool") ∈ lw_tbl := lw_at lw_m9 233 rfl
theorem q2262 : (Jvm.Cond.methodLink "SkipSchool" (334 : Nat) ({ cls := "java/util/ArrayList", name := "iterator", desc := "()Ljava/util/Iterator;" } : Jvm.MethodName)) ∈ lw_all := lw_g (lw_at lw_m10 32 rfl) rfl
theorem q2263 : (Jvm.Cond.interfaceEntry "SkipSchool" (338 : Nat)) ∈ lw_tbl := lw_at lw_m10 33 rfl
theorem q2264 : (Jvm.Cond.methodLink "SkipSchool" (338 : Nat) ({ cls := "java/util/Iterator", name := "hasNext", desc := "()Z" } : Jvm.MethodName)) ∈ lw_all := lw_g (lw_at lw_m10 34 rfl) rfl
theorem q2265 : (Jvm.Cond.interfaceEntry "SkipSchool" (343 : Nat)) ∈ lw_tbl := lw_at lw_m10 35 rfl
theorem q2266 : (Jvm.Cond.methodLink "SkipSchool" (343 : Nat) ({ cls := "java/util/Iterator", name := "next", desc := "()Ljava/lang/Object;" } : Jvm.MethodName)) ∈ lw_all := lw_g (lw_at lw_m10 36 rfl) rfl
theorem q2271 : (Jvm.Cond.instanceMethod ({ cls := "SkipSchool", name := "errorPosition", desc := "()I" } : Jvm.MethodName)) ∈ lw_all := lw_g (lw_at lw_m10 41 rfl) rfl
theorem q2272 : (Jvm.Cond.selects "SkipSchool" ({ cls := "SkipSchool", name := "errorPosition", desc := "()I" } : Jvm.MethodName) ({ cls := "SkipSchool", name := "errorPosition", desc := "()I" } : Jvm.MethodName)) ∈ lw_all := lw_g (lw_at lw_m10 42 rfl) rfl
theorem q2273 : (Jvm.Cond.code ({ cls := "SkipSchool", name := "errorPosition", desc := "()I" } : Jvm.MethodName) prog_1_method_49_code (1 : Nat) (Option.some Jvm.ClassFile.FieldType.int)) ∈ lw_all := lw_g (lw_at lw_m10 43 rfl) rfl
theorem q2278 : (Jvm.Cond.instanceMethod ({ cls := "SkipSchool", name := "refusedItem", desc := "()I" } : Jvm.MethodName)) ∈ lw_all := lw_g (lw_at lw_m10 48 rfl) rfl
theorem q2279 : (Jvm.Cond.selects "SkipSchool" ({ cls := "SkipSchool", name := "refusedItem", desc := "()I" } : Jvm.MethodName) ({ cls := "SkipSchool", name := "refusedItem", desc := "()I" } : Jvm.MethodName)) ∈ lw_all := lw_g (lw_at lw_m10 49 rfl) rfl
theorem q2280 : (Jvm.Cond.code ({ cls := "SkipSchool", name := "refusedItem", desc := "()I" } : Jvm.MethodName) prog_1_method_50_code (1 : Nat) (Option.some Jvm.ClassFile.FieldType.int)) ∈ lw_all := lw_g (lw_at lw_m10 50 rfl) rfl
theorem q2285 : (Jvm.Cond.instanceMethod ({ cls := "SkipSchool", name := "undo", desc := "()I" } : Jvm.MethodName)) ∈ lw_all := lw_g (lw_at lw_m10 55 rfl) rfl
theorem q2286 : (Jvm.Cond.selects "SkipSchool" ({ cls := "SkipSchool", name := "undo", desc := "()I" } : Jvm.MethodName) ({ cls := "SkipSchool", name := "undo", desc := "()I" } : Jvm.MethodName)) ∈ lw_all := lw_g (lw_at lw_m10 56 rfl) rfl
theorem q2287 : (Jvm.Cond.code ({ cls := "SkipSchool", name := "undo", desc := "()I" } : Jvm.MethodName) prog_1_method_51_code (1 : Nat) (Option.some Jvm.ClassFile.FieldType.int)) ∈ lw_all := lw_g (lw_at lw_m10 57 rfl) rfl
theorem q2288 : (Jvm.Cond.methodLink "SkipSchool" (349 : Nat) ({ cls := "java/util/ArrayDeque", name := "isEmpty", desc := "()Z" } : Jvm.MethodName)) ∈ lw_all := lw_g (lw_at lw_m10 58 rfl) rfl
theorem q2292 : (Jvm.Cond.methodLink "SkipSchool" (352 : Nat) ({ cls := "java/util/ArrayDeque", name := "removeLast", desc := "()Ljava/lang/Object;" } : Jvm.MethodName)) ∈ lw_all := lw_g (lw_at lw_m10 62 rfl) rfl
theorem q2307 : (Jvm.Cond.instanceMethod ({ cls := "SkipSchool", name := "restore", desc := "()I" } : Jvm.MethodName)) ∈ lw_all := lw_g (lw_at lw_m10 77 rfl) rfl
theorem q2308 : (Jvm.Cond.selects "SkipSchool" ({ cls := "SkipSchool", name := "restore", desc := "()I" } : Jvm.MethodName) ({ cls := "SkipSchool", name := "restore", desc := "()I" } : Jvm.MethodName)) ∈ lw_all := lw_g (lw_at lw_m10 78 rfl) rfl
theorem q2309 : (Jvm.Cond.code ({ cls := "SkipSchool", name := "restore", desc := "()I" } : Jvm.MethodName) prog_1_method_53_code (1 : Nat) (Option.some Jvm.ClassFile.FieldType.int)) ∈ lw_all := lw_g (lw_at lw_m10 79 rfl) rfl
theorem q2735 : (Jvm.Cond.castable "SkipSchool" "java/lang/Object") ∈ lw_tbl := lw_at lw_m12 25 rfl
theorem in_X1 : ∀ w ∈ wsX10, w ∈ lw_all := lw_in wsX10 [283, 285, 287, 289, 291, 293, 295, 297] (by decide +kernel) (by decide +kernel)

/-! SkipSchool$School -/
set_option maxRecDepth 100000
def RX2 : String := "SkipSchool$School"
def TX2 : u_T := fun k => match k with
  | 0 => ("SkipSchool$School", "stones", "Ljava/util/ArrayList;", true)
  | 1 => ("SkipSchool$School", "rivers", "Ljava/util/ArrayList;", true)
  | 2 => ("SkipSchool$School", "alumni", "Ljava/util/LinkedList;", true)
  | 3 => ("SkipSchool$School", "today", "I", false)
  | 4 => ("SkipSchool$School", "lessons", "I", false)
  | 5 => ("SkipSchool$School", "trials", "I", false)
  | 6 => ("SkipSchool$School", "throwsSoFar", "I", false)
  | 7 => ("SkipSchool$School", "crossed", "I", false)
  | _ => ("SkipSchool$School", "skips", "I", false)
def tyX2 : Nat → FieldType := fun k => match k with
  | 0 => .object "java/util/ArrayList"
  | 1 => .object "java/util/ArrayList"
  | 2 => .object "java/util/LinkedList"
  | 3 => .int
  | 4 => .int
  | 5 => .int
  | 6 => .int
  | 7 => .int
  | _ => .int
abbrev wsX20 : List Cond := u_ws RX2 TX2 9
theorem nmX2 : ∀ a, a < 9 → ∀ b, b < 9 → a ≠ b → (TX2 a).2.1 ≠ (TX2 b).2.1 := by decide +kernel
theorem tyX2_ok : ∀ k, k < 9 → parseFieldDescriptor (TX2 k).2.2.1 = some (tyX2 k) := by decide +kernel
abbrev cX2_init : ByteArray := prog_6_method_1_code
def yX2_init : MethodName := ⟨RX2, "<init>", "()V"⟩
def dkwX2_init_1 : List UInt8 := [181, 0, 18, 42, 187, 0, 21, 89, 183, 0, 23, 181, 0, 24, 177]
abbrev dktX2_init_1 : List UInt8 := dkwX2_init_1 ++ []
def dkwX2_init_0 : List UInt8 := [42, 183, 0, 3, 42, 187, 0, 9, 89, 183, 0, 11, 181, 0, 12, 42, 187, 0, 9, 89, 183, 0, 11]
abbrev dktX2_init_0 : List UInt8 := dkwX2_init_0 ++ dktX2_init_1
theorem dksX2_init_0 : cX2_init.data.toList.drop 0 = dktX2_init_0 := by decide +kernel
theorem dksX2_init_1 : cX2_init.data.toList.drop 23 = dktX2_init_1 := dk_seg dksX2_init_0 23 rfl rfl
theorem dX2_init_0 : decode cX2_init 0 = .ok (.aload_n 0, 1) := dk_42 (dk_at dksX2_init_0 0 rfl rfl)
theorem dX2_init_1 : decode cX2_init 1 = .ok (.invokespecial 3, 3) := dk_183 0 3 (dk_at dksX2_init_0 1 rfl rfl)
theorem dX2_init_4 : decode cX2_init 4 = .ok (.aload_n 0, 1) := dk_42 (dk_at dksX2_init_0 4 rfl rfl)
theorem dX2_init_5 : decode cX2_init 5 = .ok (.new 9, 3) := dk_187 0 9 (dk_at dksX2_init_0 5 rfl rfl)
theorem dX2_init_8 : decode cX2_init 8 = .ok (.dup, 1) := dk_89 (dk_at dksX2_init_0 8 rfl rfl)
theorem dX2_init_9 : decode cX2_init 9 = .ok (.invokespecial 11, 3) := dk_183 0 11 (dk_at dksX2_init_0 9 rfl rfl)
theorem dX2_init_12 : decode cX2_init 12 = .ok (.putfield 12, 3) := dk_181 0 12 (dk_at dksX2_init_0 12 rfl rfl)
theorem dX2_init_15 : decode cX2_init 15 = .ok (.aload_n 0, 1) := dk_42 (dk_at dksX2_init_0 15 rfl rfl)
theorem dX2_init_16 : decode cX2_init 16 = .ok (.new 9, 3) := dk_187 0 9 (dk_at dksX2_init_0 16 rfl rfl)
theorem dX2_init_19 : decode cX2_init 19 = .ok (.dup, 1) := dk_89 (dk_at dksX2_init_0 19 rfl rfl)
theorem dX2_init_20 : decode cX2_init 20 = .ok (.invokespecial 11, 3) := dk_183 0 11 (dk_at dksX2_init_0 20 rfl rfl)
theorem dX2_init_23 : decode cX2_init 23 = .ok (.putfield 18, 3) := dk_181 0 18 (dk_at dksX2_init_1 0 rfl rfl)
theorem dX2_init_26 : decode cX2_init 26 = .ok (.aload_n 0, 1) := dk_42 (dk_at dksX2_init_1 3 rfl rfl)
theorem dX2_init_27 : decode cX2_init 27 = .ok (.new 21, 3) := dk_187 0 21 (dk_at dksX2_init_1 4 rfl rfl)
theorem dX2_init_30 : decode cX2_init 30 = .ok (.dup, 1) := dk_89 (dk_at dksX2_init_1 7 rfl rfl)
theorem dX2_init_31 : decode cX2_init 31 = .ok (.invokespecial 23, 3) := dk_183 0 23 (dk_at dksX2_init_1 8 rfl rfl)
theorem dX2_init_34 : decode cX2_init 34 = .ok (.putfield 24, 3) := dk_181 0 24 (dk_at dksX2_init_1 11 rfl rfl)
theorem dX2_init_37 : decode cX2_init 37 = .ok (.return_, 1) := dk_177 (dk_at dksX2_init_1 14 rfl rfl)
abbrev cX2_copy : ByteArray := prog_6_method_2_code
def yX2_copy : MethodName := ⟨RX2, "copy", "()LSkipSchool$School;"⟩
def dkwX2_copy_6 : List UInt8 := [42, 180, 0, 75, 181, 0, 75, 43, 42, 180, 0, 78, 181, 0, 78, 43, 176]
abbrev dktX2_copy_6 : List UInt8 := dkwX2_copy_6 ++ []
def dkwX2_copy_5 : List UInt8 := [42, 180, 0, 66, 181, 0, 66, 43, 42, 180, 0, 69, 181, 0, 69, 43, 42, 180, 0, 72, 181, 0, 72, 43]
abbrev dktX2_copy_5 : List UInt8 := dkwX2_copy_5 ++ dktX2_copy_6
def dkwX2_copy_4 : List UInt8 := [167, 255, 224, 43, 180, 0, 24, 42, 180, 0, 24, 182, 0, 58, 61, 43, 42, 180, 0, 62, 181, 0, 62, 43]
abbrev dktX2_copy_4 : List UInt8 := dkwX2_copy_4 ++ dktX2_copy_5
def dkwX2_copy_3 : List UInt8 := [185, 0, 39, 1, 0, 192, 0, 53, 78, 43, 180, 0, 18, 45, 182, 0, 55, 182, 0, 49, 54, 4]
abbrev dktX2_copy_3 : List UInt8 := dkwX2_copy_3 ++ dktX2_copy_4
def dkwX2_copy_2 : List UInt8 := [54, 4, 167, 255, 224, 42, 180, 0, 18, 182, 0, 29, 77, 44, 185, 0, 33, 1, 0, 153, 0, 29, 44]
abbrev dktX2_copy_2 : List UInt8 := dkwX2_copy_2 ++ dktX2_copy_3
def dkwX2_copy_1 : List UInt8 := [153, 0, 29, 44, 185, 0, 39, 1, 0, 192, 0, 43, 78, 43, 180, 0, 12, 45, 182, 0, 45, 182, 0, 49]
abbrev dktX2_copy_1 : List UInt8 := dkwX2_copy_1 ++ dktX2_copy_2
def dkwX2_copy_0 : List UInt8 := [187, 0, 13, 89, 183, 0, 28, 76, 42, 180, 0, 12, 182, 0, 29, 77, 44, 185, 0, 33, 1, 0]
abbrev dktX2_copy_0 : List UInt8 := dkwX2_copy_0 ++ dktX2_copy_1
theorem dksX2_copy_0 : cX2_copy.data.toList.drop 0 = dktX2_copy_0 := by decide +kernel
theorem dksX2_copy_1 : cX2_copy.data.toList.drop 22 = dktX2_copy_1 := dk_seg dksX2_copy_0 22 rfl rfl
theorem dksX2_copy_2 : cX2_copy.data.toList.drop 46 = dktX2_copy_2 := dk_seg dksX2_copy_1 24 rfl rfl
theorem dksX2_copy_3 : cX2_copy.data.toList.drop 69 = dktX2_copy_3 := dk_seg dksX2_copy_2 23 rfl rfl
theorem dksX2_copy_4 : cX2_copy.data.toList.drop 91 = dktX2_copy_4 := dk_seg dksX2_copy_3 22 rfl rfl
theorem dksX2_copy_5 : cX2_copy.data.toList.drop 115 = dktX2_copy_5 := dk_seg dksX2_copy_4 24 rfl rfl
theorem dksX2_copy_6 : cX2_copy.data.toList.drop 139 = dktX2_copy_6 := dk_seg dksX2_copy_5 24 rfl rfl
theorem dX2_copy_0 : decode cX2_copy 0 = .ok (.new 13, 3) := dk_187 0 13 (dk_at dksX2_copy_0 0 rfl rfl)
theorem dX2_copy_3 : decode cX2_copy 3 = .ok (.dup, 1) := dk_89 (dk_at dksX2_copy_0 3 rfl rfl)
theorem dX2_copy_4 : decode cX2_copy 4 = .ok (.invokespecial 28, 3) := dk_183 0 28 (dk_at dksX2_copy_0 4 rfl rfl)
theorem dX2_copy_7 : decode cX2_copy 7 = .ok (.astore_n 1, 1) := dk_76 (dk_at dksX2_copy_0 7 rfl rfl)
theorem dX2_copy_8 : decode cX2_copy 8 = .ok (.aload_n 0, 1) := dk_42 (dk_at dksX2_copy_0 8 rfl rfl)
theorem dX2_copy_9 : decode cX2_copy 9 = .ok (.getfield 12, 3) := dk_180 0 12 (dk_at dksX2_copy_0 9 rfl rfl)
theorem dX2_copy_12 : decode cX2_copy 12 = .ok (.invokevirtual 29, 3) := dk_182 0 29 (dk_at dksX2_copy_0 12 rfl rfl)
theorem dX2_copy_15 : decode cX2_copy 15 = .ok (.astore_n 2, 1) := dk_77 (dk_at dksX2_copy_0 15 rfl rfl)
theorem dX2_copy_16 : decode cX2_copy 16 = .ok (.aload_n 2, 1) := dk_44 (dk_at dksX2_copy_0 16 rfl rfl)
theorem dX2_copy_17 : decode cX2_copy 17 = .ok (.invokeinterface 33 1, 5) := by decide +kernel
theorem dX2_copy_22 : decode cX2_copy 22 = .ok (.ifCond .eq 29, 3) := dk_153 0 29 (dk_at dksX2_copy_1 0 rfl rfl)
theorem dX2_copy_25 : decode cX2_copy 25 = .ok (.aload_n 2, 1) := dk_44 (dk_at dksX2_copy_1 3 rfl rfl)
theorem dX2_copy_26 : decode cX2_copy 26 = .ok (.invokeinterface 39 1, 5) := by decide +kernel
theorem dX2_copy_31 : decode cX2_copy 31 = .ok (.checkcast 43, 3) := dk_192 0 43 (dk_at dksX2_copy_1 9 rfl rfl)
theorem dX2_copy_34 : decode cX2_copy 34 = .ok (.astore_n 3, 1) := dk_78 (dk_at dksX2_copy_1 12 rfl rfl)
theorem dX2_copy_35 : decode cX2_copy 35 = .ok (.aload_n 1, 1) := dk_43 (dk_at dksX2_copy_1 13 rfl rfl)
theorem dX2_copy_36 : decode cX2_copy 36 = .ok (.getfield 12, 3) := dk_180 0 12 (dk_at dksX2_copy_1 14 rfl rfl)
theorem dX2_copy_39 : decode cX2_copy 39 = .ok (.aload_n 3, 1) := dk_45 (dk_at dksX2_copy_1 17 rfl rfl)
theorem dX2_copy_40 : decode cX2_copy 40 = .ok (.invokevirtual 45, 3) := dk_182 0 45 (dk_at dksX2_copy_1 18 rfl rfl)
theorem dX2_copy_43 : decode cX2_copy 43 = .ok (.invokevirtual 49, 3) := dk_182 0 49 (dk_at dksX2_copy_1 21 rfl rfl)
theorem dX2_copy_46 : decode cX2_copy 46 = .ok (.istore 4, 2) := dk_54 4 (dk_at dksX2_copy_2 0 rfl rfl)
theorem dX2_copy_48 : decode cX2_copy 48 = .ok (.goto (-32), 3) := dk_167 255 224 (dk_at dksX2_copy_2 2 rfl rfl)
theorem dX2_copy_51 : decode cX2_copy 51 = .ok (.aload_n 0, 1) := dk_42 (dk_at dksX2_copy_2 5 rfl rfl)
theorem dX2_copy_52 : decode cX2_copy 52 = .ok (.getfield 18, 3) := dk_180 0 18 (dk_at dksX2_copy_2 6 rfl rfl)
theorem dX2_copy_55 : decode cX2_copy 55 = .ok (.invokevirtual 29, 3) := dk_182 0 29 (dk_at dksX2_copy_2 9 rfl rfl)
theorem dX2_copy_58 : decode cX2_copy 58 = .ok (.astore_n 2, 1) := dk_77 (dk_at dksX2_copy_2 12 rfl rfl)
theorem dX2_copy_59 : decode cX2_copy 59 = .ok (.aload_n 2, 1) := dk_44 (dk_at dksX2_copy_2 13 rfl rfl)
theorem dX2_copy_60 : decode cX2_copy 60 = .ok (.invokeinterface 33 1, 5) := by decide +kernel
theorem dX2_copy_65 : decode cX2_copy 65 = .ok (.ifCond .eq 29, 3) := dk_153 0 29 (dk_at dksX2_copy_2 19 rfl rfl)
theorem dX2_copy_68 : decode cX2_copy 68 = .ok (.aload_n 2, 1) := dk_44 (dk_at dksX2_copy_2 22 rfl rfl)
theorem dX2_copy_69 : decode cX2_copy 69 = .ok (.invokeinterface 39 1, 5) := by decide +kernel
theorem dX2_copy_74 : decode cX2_copy 74 = .ok (.checkcast 53, 3) := dk_192 0 53 (dk_at dksX2_copy_3 5 rfl rfl)
theorem dX2_copy_77 : decode cX2_copy 77 = .ok (.astore_n 3, 1) := dk_78 (dk_at dksX2_copy_3 8 rfl rfl)
theorem dX2_copy_78 : decode cX2_copy 78 = .ok (.aload_n 1, 1) := dk_43 (dk_at dksX2_copy_3 9 rfl rfl)
theorem dX2_copy_79 : decode cX2_copy 79 = .ok (.getfield 18, 3) := dk_180 0 18 (dk_at dksX2_copy_3 10 rfl rfl)
theorem dX2_copy_82 : decode cX2_copy 82 = .ok (.aload_n 3, 1) := dk_45 (dk_at dksX2_copy_3 13 rfl rfl)
theorem dX2_copy_83 : decode cX2_copy 83 = .ok (.invokevirtual 55, 3) := dk_182 0 55 (dk_at dksX2_copy_3 14 rfl rfl)
theorem dX2_copy_86 : decode cX2_copy 86 = .ok (.invokevirtual 49, 3) := dk_182 0 49 (dk_at dksX2_copy_3 17 rfl rfl)
theorem dX2_copy_89 : decode cX2_copy 89 = .ok (.istore 4, 2) := dk_54 4 (dk_at dksX2_copy_3 20 rfl rfl)
theorem dX2_copy_91 : decode cX2_copy 91 = .ok (.goto (-32), 3) := dk_167 255 224 (dk_at dksX2_copy_4 0 rfl rfl)
theorem dX2_copy_94 : decode cX2_copy 94 = .ok (.aload_n 1, 1) := dk_43 (dk_at dksX2_copy_4 3 rfl rfl)
theorem dX2_copy_95 : decode cX2_copy 95 = .ok (.getfield 24, 3) := dk_180 0 24 (dk_at dksX2_copy_4 4 rfl rfl)
theorem dX2_copy_98 : decode cX2_copy 98 = .ok (.aload_n 0, 1) := dk_42 (dk_at dksX2_copy_4 7 rfl rfl)
theorem dX2_copy_99 : decode cX2_copy 99 = .ok (.getfield 24, 3) := dk_180 0 24 (dk_at dksX2_copy_4 8 rfl rfl)
theorem dX2_copy_102 : decode cX2_copy 102 = .ok (.invokevirtual 58, 3) := dk_182 0 58 (dk_at dksX2_copy_4 11 rfl rfl)
theorem dX2_copy_105 : decode cX2_copy 105 = .ok (.istore_n 2, 1) := dk_61 (dk_at dksX2_copy_4 14 rfl rfl)
theorem dX2_copy_106 : decode cX2_copy 106 = .ok (.aload_n 1, 1) := dk_43 (dk_at dksX2_copy_4 15 rfl rfl)
theorem dX2_copy_107 : decode cX2_copy 107 = .ok (.aload_n 0, 1) := dk_42 (dk_at dksX2_copy_4 16 rfl rfl)
theorem dX2_copy_108 : decode cX2_copy 108 = .ok (.getfield 62, 3) := dk_180 0 62 (dk_at dksX2_copy_4 17 rfl rfl)
theorem dX2_copy_111 : decode cX2_copy 111 = .ok (.putfield 62, 3) := dk_181 0 62 (dk_at dksX2_copy_4 20 rfl rfl)
theorem dX2_copy_114 : decode cX2_copy 114 = .ok (.aload_n 1, 1) := dk_43 (dk_at dksX2_copy_4 23 rfl rfl)
theorem dX2_copy_115 : decode cX2_copy 115 = .ok (.aload_n 0, 1) := dk_42 (dk_at dksX2_copy_5 0 rfl rfl)
theorem dX2_copy_116 : decode cX2_copy 116 = .ok (.getfield 66, 3) := dk_180 0 66 (dk_at dksX2_copy_5 1 rfl rfl)
theorem dX2_copy_119 : decode cX2_copy 119 = .ok (.putfield 66, 3) := dk_181 0 66 (dk_at dksX2_copy_5 4 rfl rfl)
theorem dX2_copy_122 : decode cX2_copy 122 = .ok (.aload_n 1, 1) := dk_43 (dk_at dksX2_copy_5 7 rfl rfl)
theorem dX2_copy_123 : decode cX2_copy 123 = .ok (.aload_n 0, 1) := dk_42 (dk_at dksX2_copy_5 8 rfl rfl)
theorem dX2_copy_124 : decode cX2_copy 124 = .ok (.getfield 69, 3) := dk_180 0 69 (dk_at dksX2_copy_5 9 rfl rfl)
theorem dX2_copy_127 : decode cX2_copy 127 = .ok (.putfield 69, 3) := dk_181 0 69 (dk_at dksX2_copy_5 12 rfl rfl)
theorem dX2_copy_130 : decode cX2_copy 130 = .ok (.aload_n 1, 1) := dk_43 (dk_at dksX2_copy_5 15 rfl rfl)
theorem dX2_copy_131 : decode cX2_copy 131 = .ok (.aload_n 0, 1) := dk_42 (dk_at dksX2_copy_5 16 rfl rfl)
theorem dX2_copy_132 : decode cX2_copy 132 = .ok (.getfield 72, 3) := dk_180 0 72 (dk_at dksX2_copy_5 17 rfl rfl)
theorem dX2_copy_135 : decode cX2_copy 135 = .ok (.putfield 72, 3) := dk_181 0 72 (dk_at dksX2_copy_5 20 rfl rfl)
theorem dX2_copy_138 : decode cX2_copy 138 = .ok (.aload_n 1, 1) := dk_43 (dk_at dksX2_copy_5 23 rfl rfl)
theorem dX2_copy_139 : decode cX2_copy 139 = .ok (.aload_n 0, 1) := dk_42 (dk_at dksX2_copy_6 0 rfl rfl)
theorem dX2_copy_140 : decode cX2_copy 140 = .ok (.getfield 75, 3) := dk_180 0 75 (dk_at dksX2_copy_6 1 rfl rfl)
theorem dX2_copy_143 : decode cX2_copy 143 = .ok (.putfield 75, 3) := dk_181 0 75 (dk_at dksX2_copy_6 4 rfl rfl)
theorem dX2_copy_146 : decode cX2_copy 146 = .ok (.aload_n 1, 1) := dk_43 (dk_at dksX2_copy_6 7 rfl rfl)
theorem dX2_copy_147 : decode cX2_copy 147 = .ok (.aload_n 0, 1) := dk_42 (dk_at dksX2_copy_6 8 rfl rfl)
theorem dX2_copy_148 : decode cX2_copy 148 = .ok (.getfield 78, 3) := dk_180 0 78 (dk_at dksX2_copy_6 9 rfl rfl)
theorem dX2_copy_151 : decode cX2_copy 151 = .ok (.putfield 78, 3) := dk_181 0 78 (dk_at dksX2_copy_6 12 rfl rfl)
theorem dX2_copy_154 : decode cX2_copy 154 = .ok (.aload_n 1, 1) := dk_43 (dk_at dksX2_copy_6 15 rfl rfl)
theorem dX2_copy_155 : decode cX2_copy 155 = .ok (.areturn, 1) := dk_176 (dk_at dksX2_copy_6 16 rfl rfl)
abbrev cX2_comeStone : ByteArray := prog_6_method_5_code
def yX2_comeStone : MethodName := ⟨RX2, "comeStone", "(II)I"⟩
def dkwX2_comeStone_3 : List UInt8 := [42, 180, 0, 12, 182, 0, 81, 4, 100, 172]
abbrev dktX2_comeStone_3 : List UInt8 := dkwX2_comeStone_3 ++ []
def dkwX2_comeStone_2 : List UInt8 := [3, 4, 16, 10, 184, 0, 102, 42, 180, 0, 12, 187, 0, 43, 89, 27, 28, 183, 0, 108, 182, 0, 49, 62]
abbrev dktX2_comeStone_2 : List UInt8 := dkwX2_comeStone_2 ++ dktX2_comeStone_3
def dkwX2_comeStone_1 : List UInt8 := [4, 167, 0, 4, 3, 184, 0, 99, 42, 180, 0, 12, 182, 0, 81, 16, 10, 162, 0, 7, 4, 167, 0, 4]
abbrev dktX2_comeStone_1 : List UInt8 := dkwX2_comeStone_1 ++ dktX2_comeStone_2
def dkwX2_comeStone_0 : List UInt8 := [27, 133, 9, 20, 0, 97, 184, 0, 85, 153, 0, 19, 28, 133, 10, 20, 0, 97, 184, 0, 85, 153, 0, 7]
abbrev dktX2_comeStone_0 : List UInt8 := dkwX2_comeStone_0 ++ dktX2_comeStone_1
theorem dksX2_comeStone_0 : cX2_comeStone.data.toList.drop 0 = dktX2_comeStone_0 := by decide +kernel
theorem dksX2_comeStone_1 : cX2_comeStone.data.toList.drop 24 = dktX2_comeStone_1 := dk_seg dksX2_comeStone_0 24 rfl rfl
theorem dksX2_comeStone_2 : cX2_comeStone.data.toList.drop 48 = dktX2_comeStone_2 := dk_seg dksX2_comeStone_1 24 rfl rfl
theorem dksX2_comeStone_3 : cX2_comeStone.data.toList.drop 72 = dktX2_comeStone_3 := dk_seg dksX2_comeStone_2 24 rfl rfl
theorem dX2_comeStone_0 : decode cX2_comeStone 0 = .ok (.iload_n 1, 1) := dk_27 (dk_at dksX2_comeStone_0 0 rfl rfl)
theorem dX2_comeStone_1 : decode cX2_comeStone 1 = .ok (.i2l, 1) := dk_133 (dk_at dksX2_comeStone_0 1 rfl rfl)
theorem dX2_comeStone_2 : decode cX2_comeStone 2 = .ok (.lconst 0, 1) := dk_9 (dk_at dksX2_comeStone_0 2 rfl rfl)
theorem dX2_comeStone_3 : decode cX2_comeStone 3 = .ok (.ldc2_w 97, 3) := dk_20 0 97 (dk_at dksX2_comeStone_0 3 rfl rfl)
theorem dX2_comeStone_6 : decode cX2_comeStone 6 = .ok (.invokestatic 85, 3) := dk_184 0 85 (dk_at dksX2_comeStone_0 6 rfl rfl)
theorem dX2_comeStone_9 : decode cX2_comeStone 9 = .ok (.ifCond .eq 19, 3) := dk_153 0 19 (dk_at dksX2_comeStone_0 9 rfl rfl)
theorem dX2_comeStone_12 : decode cX2_comeStone 12 = .ok (.iload_n 2, 1) := dk_28 (dk_at dksX2_comeStone_0 12 rfl rfl)
theorem dX2_comeStone_13 : decode cX2_comeStone 13 = .ok (.i2l, 1) := dk_133 (dk_at dksX2_comeStone_0 13 rfl rfl)
theorem dX2_comeStone_14 : decode cX2_comeStone 14 = .ok (.lconst 1, 1) := dk_10 (dk_at dksX2_comeStone_0 14 rfl rfl)
theorem dX2_comeStone_15 : decode cX2_comeStone 15 = .ok (.ldc2_w 97, 3) := dk_20 0 97 (dk_at dksX2_comeStone_0 15 rfl rfl)
theorem dX2_comeStone_18 : decode cX2_comeStone 18 = .ok (.invokestatic 85, 3) := dk_184 0 85 (dk_at dksX2_comeStone_0 18 rfl rfl)
theorem dX2_comeStone_21 : decode cX2_comeStone 21 = .ok (.ifCond .eq 7, 3) := dk_153 0 7 (dk_at dksX2_comeStone_0 21 rfl rfl)
theorem dX2_comeStone_24 : decode cX2_comeStone 24 = .ok (.iconst 1, 1) := dk_4 (dk_at dksX2_comeStone_1 0 rfl rfl)
theorem dX2_comeStone_25 : decode cX2_comeStone 25 = .ok (.goto 4, 3) := dk_167 0 4 (dk_at dksX2_comeStone_1 1 rfl rfl)
theorem dX2_comeStone_28 : decode cX2_comeStone 28 = .ok (.iconst 0, 1) := dk_3 (dk_at dksX2_comeStone_1 4 rfl rfl)
theorem dX2_comeStone_29 : decode cX2_comeStone 29 = .ok (.invokestatic 99, 3) := dk_184 0 99 (dk_at dksX2_comeStone_1 5 rfl rfl)
theorem dX2_comeStone_32 : decode cX2_comeStone 32 = .ok (.aload_n 0, 1) := dk_42 (dk_at dksX2_comeStone_1 8 rfl rfl)
theorem dX2_comeStone_33 : decode cX2_comeStone 33 = .ok (.getfield 12, 3) := dk_180 0 12 (dk_at dksX2_comeStone_1 9 rfl rfl)
theorem dX2_comeStone_36 : decode cX2_comeStone 36 = .ok (.invokevirtual 81, 3) := dk_182 0 81 (dk_at dksX2_comeStone_1 12 rfl rfl)
theorem dX2_comeStone_39 : decode cX2_comeStone 39 = .ok (.bipush 10, 2) := dk_16 10 (dk_at dksX2_comeStone_1 15 rfl rfl)
theorem dX2_comeStone_41 : decode cX2_comeStone 41 = .ok (.if_icmp .ge 7, 3) := dk_162 0 7 (dk_at dksX2_comeStone_1 17 rfl rfl)
theorem dX2_comeStone_44 : decode cX2_comeStone 44 = .ok (.iconst 1, 1) := dk_4 (dk_at dksX2_comeStone_1 20 rfl rfl)
theorem dX2_comeStone_45 : decode cX2_comeStone 45 = .ok (.goto 4, 3) := dk_167 0 4 (dk_at dksX2_comeStone_1 21 rfl rfl)
theorem dX2_comeStone_48 : decode cX2_comeStone 48 = .ok (.iconst 0, 1) := dk_3 (dk_at dksX2_comeStone_2 0 rfl rfl)
theorem dX2_comeStone_49 : decode cX2_comeStone 49 = .ok (.iconst 1, 1) := dk_4 (dk_at dksX2_comeStone_2 1 rfl rfl)
theorem dX2_comeStone_50 : decode cX2_comeStone 50 = .ok (.bipush 10, 2) := dk_16 10 (dk_at dksX2_comeStone_2 2 rfl rfl)
theorem dX2_comeStone_52 : decode cX2_comeStone 52 = .ok (.invokestatic 102, 3) := dk_184 0 102 (dk_at dksX2_comeStone_2 4 rfl rfl)
theorem dX2_comeStone_55 : decode cX2_comeStone 55 = .ok (.aload_n 0, 1) := dk_42 (dk_at dksX2_comeStone_2 7 rfl rfl)
theorem dX2_comeStone_56 : decode cX2_comeStone 56 = .ok (.getfield 12, 3) := dk_180 0 12 (dk_at dksX2_comeStone_2 8 rfl rfl)
theorem dX2_comeStone_59 : decode cX2_comeStone 59 = .ok (.new 43, 3) := dk_187 0 43 (dk_at dksX2_comeStone_2 11 rfl rfl)
theorem dX2_comeStone_62 : decode cX2_comeStone 62 = .ok (.dup, 1) := dk_89 (dk_at dksX2_comeStone_2 14 rfl rfl)
theorem dX2_comeStone_63 : decode cX2_comeStone 63 = .ok (.iload_n 1, 1) := dk_27 (dk_at dksX2_comeStone_2 15 rfl rfl)
theorem dX2_comeStone_64 : decode cX2_comeStone 64 = .ok (.iload_n 2, 1) := dk_28 (dk_at dksX2_comeStone_2 16 rfl rfl)
theorem dX2_comeStone_65 : decode cX2_comeStone 65 = .ok (.invokespecial 108, 3) := dk_183 0 108 (dk_at dksX2_comeStone_2 17 rfl rfl)
theorem dX2_comeStone_68 : decode cX2_comeStone 68 = .ok (.invokevirtual 49, 3) := dk_182 0 49 (dk_at dksX2_comeStone_2 20 rfl rfl)
theorem dX2_comeStone_71 : decode cX2_comeStone 71 = .ok (.istore_n 3, 1) := dk_62 (dk_at dksX2_comeStone_2 23 rfl rfl)
theorem dX2_comeStone_72 : decode cX2_comeStone 72 = .ok (.aload_n 0, 1) := dk_42 (dk_at dksX2_comeStone_3 0 rfl rfl)
theorem dX2_comeStone_73 : decode cX2_comeStone 73 = .ok (.getfield 12, 3) := dk_180 0 12 (dk_at dksX2_comeStone_3 1 rfl rfl)
theorem dX2_comeStone_76 : decode cX2_comeStone 76 = .ok (.invokevirtual 81, 3) := dk_182 0 81 (dk_at dksX2_comeStone_3 4 rfl rfl)
theorem dX2_comeStone_79 : decode cX2_comeStone 79 = .ok (.iconst 1, 1) := dk_4 (dk_at dksX2_comeStone_3 7 rfl rfl)
theorem dX2_comeStone_80 : decode cX2_comeStone 80 = .ok (.isub, 1) := dk_100 (dk_at dksX2_comeStone_3 8 rfl rfl)
theorem dX2_comeStone_81 : decode cX2_comeStone 81 = .ok (.ireturn, 1) := dk_172 (dk_at dksX2_comeStone_3 9 rfl rfl)
abbrev cX2_comeRiver : ByteArray := prog_6_method_6_code
def yX2_comeRiver : MethodName := ⟨RX2, "comeRiver", "(II)I"⟩
def dkwX2_comeRiver_3 : List UInt8 := [182, 0, 49, 62, 42, 180, 0, 18, 182, 0, 81, 4, 100, 172]
abbrev dktX2_comeRiver_3 : List UInt8 := dkwX2_comeRiver_3 ++ []
def dkwX2_comeRiver_2 : List UInt8 := [167, 0, 4, 3, 4, 7, 184, 0, 102, 42, 180, 0, 18, 187, 0, 53, 89, 27, 28, 183, 0, 115]
abbrev dktX2_comeRiver_2 : List UInt8 := dkwX2_comeRiver_2 ++ dktX2_comeRiver_3
def dkwX2_comeRiver_1 : List UInt8 := [153, 0, 7, 4, 167, 0, 4, 3, 184, 0, 99, 42, 180, 0, 18, 182, 0, 81, 7, 162, 0, 7, 4]
abbrev dktX2_comeRiver_1 : List UInt8 := dkwX2_comeRiver_1 ++ dktX2_comeRiver_2
def dkwX2_comeRiver_0 : List UInt8 := [27, 133, 20, 0, 111, 20, 0, 113, 184, 0, 85, 153, 0, 19, 28, 133, 9, 20, 0, 97, 184, 0, 85]
abbrev dktX2_comeRiver_0 : List UInt8 := dkwX2_comeRiver_0 ++ dktX2_comeRiver_1
theorem dksX2_comeRiver_0 : cX2_comeRiver.data.toList.drop 0 = dktX2_comeRiver_0 := by decide +kernel
theorem dksX2_comeRiver_1 : cX2_comeRiver.data.toList.drop 23 = dktX2_comeRiver_1 := dk_seg dksX2_comeRiver_0 23 rfl rfl
theorem dksX2_comeRiver_2 : cX2_comeRiver.data.toList.drop 46 = dktX2_comeRiver_2 := dk_seg dksX2_comeRiver_1 23 rfl rfl
theorem dksX2_comeRiver_3 : cX2_comeRiver.data.toList.drop 68 = dktX2_comeRiver_3 := dk_seg dksX2_comeRiver_2 22 rfl rfl
theorem dX2_comeRiver_0 : decode cX2_comeRiver 0 = .ok (.iload_n 1, 1) := dk_27 (dk_at dksX2_comeRiver_0 0 rfl rfl)
theorem dX2_comeRiver_1 : decode cX2_comeRiver 1 = .ok (.i2l, 1) := dk_133 (dk_at dksX2_comeRiver_0 1 rfl rfl)
theorem dX2_comeRiver_2 : decode cX2_comeRiver 2 = .ok (.ldc2_w 111, 3) := dk_20 0 111 (dk_at dksX2_comeRiver_0 2 rfl rfl)
theorem dX2_comeRiver_5 : decode cX2_comeRiver 5 = .ok (.ldc2_w 113, 3) := dk_20 0 113 (dk_at dksX2_comeRiver_0 5 rfl rfl)
theorem dX2_comeRiver_8 : decode cX2_comeRiver 8 = .ok (.invokestatic 85, 3) := dk_184 0 85 (dk_at dksX2_comeRiver_0 8 rfl rfl)
theorem dX2_comeRiver_11 : decode cX2_comeRiver 11 = .ok (.ifCond .eq 19, 3) := dk_153 0 19 (dk_at dksX2_comeRiver_0 11 rfl rfl)
theorem dX2_comeRiver_14 : decode cX2_comeRiver 14 = .ok (.iload_n 2, 1) := dk_28 (dk_at dksX2_comeRiver_0 14 rfl rfl)
theorem dX2_comeRiver_15 : decode cX2_comeRiver 15 = .ok (.i2l, 1) := dk_133 (dk_at dksX2_comeRiver_0 15 rfl rfl)
theorem dX2_comeRiver_16 : decode cX2_comeRiver 16 = .ok (.lconst 0, 1) := dk_9 (dk_at dksX2_comeRiver_0 16 rfl rfl)
theorem dX2_comeRiver_17 : decode cX2_comeRiver 17 = .ok (.ldc2_w 97, 3) := dk_20 0 97 (dk_at dksX2_comeRiver_0 17 rfl rfl)
theorem dX2_comeRiver_20 : decode cX2_comeRiver 20 = .ok (.invokestatic 85, 3) := dk_184 0 85 (dk_at dksX2_comeRiver_0 20 rfl rfl)
theorem dX2_comeRiver_23 : decode cX2_comeRiver 23 = .ok (.ifCond .eq 7, 3) := dk_153 0 7 (dk_at dksX2_comeRiver_1 0 rfl rfl)
theorem dX2_comeRiver_26 : decode cX2_comeRiver 26 = .ok (.iconst 1, 1) := dk_4 (dk_at dksX2_comeRiver_1 3 rfl rfl)
theorem dX2_comeRiver_27 : decode cX2_comeRiver 27 = .ok (.goto 4, 3) := dk_167 0 4 (dk_at dksX2_comeRiver_1 4 rfl rfl)
theorem dX2_comeRiver_30 : decode cX2_comeRiver 30 = .ok (.iconst 0, 1) := dk_3 (dk_at dksX2_comeRiver_1 7 rfl rfl)
theorem dX2_comeRiver_31 : decode cX2_comeRiver 31 = .ok (.invokestatic 99, 3) := dk_184 0 99 (dk_at dksX2_comeRiver_1 8 rfl rfl)
theorem dX2_comeRiver_34 : decode cX2_comeRiver 34 = .ok (.aload_n 0, 1) := dk_42 (dk_at dksX2_comeRiver_1 11 rfl rfl)
theorem dX2_comeRiver_35 : decode cX2_comeRiver 35 = .ok (.getfield 18, 3) := dk_180 0 18 (dk_at dksX2_comeRiver_1 12 rfl rfl)
theorem dX2_comeRiver_38 : decode cX2_comeRiver 38 = .ok (.invokevirtual 81, 3) := dk_182 0 81 (dk_at dksX2_comeRiver_1 15 rfl rfl)
theorem dX2_comeRiver_41 : decode cX2_comeRiver 41 = .ok (.iconst 4, 1) := dk_7 (dk_at dksX2_comeRiver_1 18 rfl rfl)
theorem dX2_comeRiver_42 : decode cX2_comeRiver 42 = .ok (.if_icmp .ge 7, 3) := dk_162 0 7 (dk_at dksX2_comeRiver_1 19 rfl rfl)
theorem dX2_comeRiver_45 : decode cX2_comeRiver 45 = .ok (.iconst 1, 1) := dk_4 (dk_at dksX2_comeRiver_1 22 rfl rfl)
theorem dX2_comeRiver_46 : decode cX2_comeRiver 46 = .ok (.goto 4, 3) := dk_167 0 4 (dk_at dksX2_comeRiver_2 0 rfl rfl)
theorem dX2_comeRiver_49 : decode cX2_comeRiver 49 = .ok (.iconst 0, 1) := dk_3 (dk_at dksX2_comeRiver_2 3 rfl rfl)
theorem dX2_comeRiver_50 : decode cX2_comeRiver 50 = .ok (.iconst 1, 1) := dk_4 (dk_at dksX2_comeRiver_2 4 rfl rfl)
theorem dX2_comeRiver_51 : decode cX2_comeRiver 51 = .ok (.iconst 4, 1) := dk_7 (dk_at dksX2_comeRiver_2 5 rfl rfl)
theorem dX2_comeRiver_52 : decode cX2_comeRiver 52 = .ok (.invokestatic 102, 3) := dk_184 0 102 (dk_at dksX2_comeRiver_2 6 rfl rfl)
theorem dX2_comeRiver_55 : decode cX2_comeRiver 55 = .ok (.aload_n 0, 1) := dk_42 (dk_at dksX2_comeRiver_2 9 rfl rfl)
theorem dX2_comeRiver_56 : decode cX2_comeRiver 56 = .ok (.getfield 18, 3) := dk_180 0 18 (dk_at dksX2_comeRiver_2 10 rfl rfl)
theorem dX2_comeRiver_59 : decode cX2_comeRiver 59 = .ok (.new 53, 3) := dk_187 0 53 (dk_at dksX2_comeRiver_2 13 rfl rfl)
theorem dX2_comeRiver_62 : decode cX2_comeRiver 62 = .ok (.dup, 1) := dk_89 (dk_at dksX2_comeRiver_2 16 rfl rfl)
theorem dX2_comeRiver_63 : decode cX2_comeRiver 63 = .ok (.iload_n 1, 1) := dk_27 (dk_at dksX2_comeRiver_2 17 rfl rfl)
theorem dX2_comeRiver_64 : decode cX2_comeRiver 64 = .ok (.iload_n 2, 1) := dk_28 (dk_at dksX2_comeRiver_2 18 rfl rfl)
theorem dX2_comeRiver_65 : decode cX2_comeRiver 65 = .ok (.invokespecial 115, 3) := dk_183 0 115 (dk_at dksX2_comeRiver_2 19 rfl rfl)
theorem dX2_comeRiver_68 : decode cX2_comeRiver 68 = .ok (.invokevirtual 49, 3) := dk_182 0 49 (dk_at dksX2_comeRiver_3 0 rfl rfl)
theorem dX2_comeRiver_71 : decode cX2_comeRiver 71 = .ok (.istore_n 3, 1) := dk_62 (dk_at dksX2_comeRiver_3 3 rfl rfl)
theorem dX2_comeRiver_72 : decode cX2_comeRiver 72 = .ok (.aload_n 0, 1) := dk_42 (dk_at dksX2_comeRiver_3 4 rfl rfl)
theorem dX2_comeRiver_73 : decode cX2_comeRiver 73 = .ok (.getfield 18, 3) := dk_180 0 18 (dk_at dksX2_comeRiver_3 5 rfl rfl)
theorem dX2_comeRiver_76 : decode cX2_comeRiver 76 = .ok (.invokevirtual 81, 3) := dk_182 0 81 (dk_at dksX2_comeRiver_3 8 rfl rfl)
theorem dX2_comeRiver_79 : decode cX2_comeRiver 79 = .ok (.iconst 1, 1) := dk_4 (dk_at dksX2_comeRiver_3 11 rfl rfl)
theorem dX2_comeRiver_80 : decode cX2_comeRiver 80 = .ok (.isub, 1) := dk_100 (dk_at dksX2_comeRiver_3 12 rfl rfl)
theorem dX2_comeRiver_81 : decode cX2_comeRiver 81 = .ok (.ireturn, 1) := dk_172 (dk_at dksX2_comeRiver_3 13 rfl rfl)
abbrev cX2_tellCalm : ByteArray := prog_6_method_7_code
def yX2_tellCalm : MethodName := ⟨RX2, "tellCalm", "(II)I"⟩
def dkwX2_tellCalm_2 : List UInt8 := [172]
abbrev dktX2_tellCalm_2 : List UInt8 := dkwX2_tellCalm_2 ++ []
def dkwX2_tellCalm_1 : List UInt8 := [21, 4, 28, 159, 0, 7, 4, 167, 0, 4, 3, 16, 7, 28, 184, 0, 102, 45, 28, 181, 0, 120, 21, 4]
abbrev dktX2_tellCalm_1 : List UInt8 := dkwX2_tellCalm_1 ++ dktX2_tellCalm_2
def dkwX2_tellCalm_0 : List UInt8 := [42, 27, 182, 0, 116, 78, 28, 133, 9, 20, 0, 97, 184, 0, 85, 184, 0, 99, 45, 180, 0, 120, 54, 4]
abbrev dktX2_tellCalm_0 : List UInt8 := dkwX2_tellCalm_0 ++ dktX2_tellCalm_1
theorem dksX2_tellCalm_0 : cX2_tellCalm.data.toList.drop 0 = dktX2_tellCalm_0 := by decide +kernel
theorem dksX2_tellCalm_1 : cX2_tellCalm.data.toList.drop 24 = dktX2_tellCalm_1 := dk_seg dksX2_tellCalm_0 24 rfl rfl
theorem dksX2_tellCalm_2 : cX2_tellCalm.data.toList.drop 48 = dktX2_tellCalm_2 := dk_seg dksX2_tellCalm_1 24 rfl rfl
theorem dX2_tellCalm_0 : decode cX2_tellCalm 0 = .ok (.aload_n 0, 1) := dk_42 (dk_at dksX2_tellCalm_0 0 rfl rfl)
theorem dX2_tellCalm_1 : decode cX2_tellCalm 1 = .ok (.iload_n 1, 1) := dk_27 (dk_at dksX2_tellCalm_0 1 rfl rfl)
theorem dX2_tellCalm_2 : decode cX2_tellCalm 2 = .ok (.invokevirtual 116, 3) := dk_182 0 116 (dk_at dksX2_tellCalm_0 2 rfl rfl)
theorem dX2_tellCalm_5 : decode cX2_tellCalm 5 = .ok (.astore_n 3, 1) := dk_78 (dk_at dksX2_tellCalm_0 5 rfl rfl)
theorem dX2_tellCalm_6 : decode cX2_tellCalm 6 = .ok (.iload_n 2, 1) := dk_28 (dk_at dksX2_tellCalm_0 6 rfl rfl)
theorem dX2_tellCalm_7 : decode cX2_tellCalm 7 = .ok (.i2l, 1) := dk_133 (dk_at dksX2_tellCalm_0 7 rfl rfl)
theorem dX2_tellCalm_8 : decode cX2_tellCalm 8 = .ok (.lconst 0, 1) := dk_9 (dk_at dksX2_tellCalm_0 8 rfl rfl)
theorem dX2_tellCalm_9 : decode cX2_tellCalm 9 = .ok (.ldc2_w 97, 3) := dk_20 0 97 (dk_at dksX2_tellCalm_0 9 rfl rfl)
theorem dX2_tellCalm_12 : decode cX2_tellCalm 12 = .ok (.invokestatic 85, 3) := dk_184 0 85 (dk_at dksX2_tellCalm_0 12 rfl rfl)
theorem dX2_tellCalm_15 : decode cX2_tellCalm 15 = .ok (.invokestatic 99, 3) := dk_184 0 99 (dk_at dksX2_tellCalm_0 15 rfl rfl)
theorem dX2_tellCalm_18 : decode cX2_tellCalm 18 = .ok (.aload_n 3, 1) := dk_45 (dk_at dksX2_tellCalm_0 18 rfl rfl)
theorem dX2_tellCalm_19 : decode cX2_tellCalm 19 = .ok (.getfield 120, 3) := dk_180 0 120 (dk_at dksX2_tellCalm_0 19 rfl rfl)
theorem dX2_tellCalm_22 : decode cX2_tellCalm 22 = .ok (.istore 4, 2) := dk_54 4 (dk_at dksX2_tellCalm_0 22 rfl rfl)
theorem dX2_tellCalm_24 : decode cX2_tellCalm 24 = .ok (.iload 4, 2) := dk_21 4 (dk_at dksX2_tellCalm_1 0 rfl rfl)
theorem dX2_tellCalm_26 : decode cX2_tellCalm 26 = .ok (.iload_n 2, 1) := dk_28 (dk_at dksX2_tellCalm_1 2 rfl rfl)
theorem dX2_tellCalm_27 : decode cX2_tellCalm 27 = .ok (.if_icmp .eq 7, 3) := dk_159 0 7 (dk_at dksX2_tellCalm_1 3 rfl rfl)
theorem dX2_tellCalm_30 : decode cX2_tellCalm 30 = .ok (.iconst 1, 1) := dk_4 (dk_at dksX2_tellCalm_1 6 rfl rfl)
theorem dX2_tellCalm_31 : decode cX2_tellCalm 31 = .ok (.goto 4, 3) := dk_167 0 4 (dk_at dksX2_tellCalm_1 7 rfl rfl)
theorem dX2_tellCalm_34 : decode cX2_tellCalm 34 = .ok (.iconst 0, 1) := dk_3 (dk_at dksX2_tellCalm_1 10 rfl rfl)
theorem dX2_tellCalm_35 : decode cX2_tellCalm 35 = .ok (.bipush 7, 2) := dk_16 7 (dk_at dksX2_tellCalm_1 11 rfl rfl)
theorem dX2_tellCalm_37 : decode cX2_tellCalm 37 = .ok (.iload_n 2, 1) := dk_28 (dk_at dksX2_tellCalm_1 13 rfl rfl)
theorem dX2_tellCalm_38 : decode cX2_tellCalm 38 = .ok (.invokestatic 102, 3) := dk_184 0 102 (dk_at dksX2_tellCalm_1 14 rfl rfl)
theorem dX2_tellCalm_41 : decode cX2_tellCalm 41 = .ok (.aload_n 3, 1) := dk_45 (dk_at dksX2_tellCalm_1 17 rfl rfl)
theorem dX2_tellCalm_42 : decode cX2_tellCalm 42 = .ok (.iload_n 2, 1) := dk_28 (dk_at dksX2_tellCalm_1 18 rfl rfl)
theorem dX2_tellCalm_43 : decode cX2_tellCalm 43 = .ok (.putfield 120, 3) := dk_181 0 120 (dk_at dksX2_tellCalm_1 19 rfl rfl)
theorem dX2_tellCalm_46 : decode cX2_tellCalm 46 = .ok (.iload 4, 2) := dk_21 4 (dk_at dksX2_tellCalm_1 22 rfl rfl)
theorem dX2_tellCalm_48 : decode cX2_tellCalm 48 = .ok (.ireturn, 1) := dk_172 (dk_at dksX2_tellCalm_2 0 rfl rfl)
abbrev cX2_river : ByteArray := prog_6_method_4_code
def yX2_river : MethodName := ⟨RX2, "river", "(I)LSkipSchool$River;"⟩
def dkwX2_river_1 : List UInt8 := [182, 0, 93, 192, 0, 53, 176]
abbrev dktX2_river_1 : List UInt8 := dkwX2_river_1 ++ []
def dkwX2_river_0 : List UInt8 := [27, 133, 9, 42, 180, 0, 18, 182, 0, 81, 4, 100, 133, 184, 0, 85, 184, 0, 89, 42, 180, 0, 18, 27]
abbrev dktX2_river_0 : List UInt8 := dkwX2_river_0 ++ dktX2_river_1
theorem dksX2_river_0 : cX2_river.data.toList.drop 0 = dktX2_river_0 := by decide +kernel
theorem dksX2_river_1 : cX2_river.data.toList.drop 24 = dktX2_river_1 := dk_seg dksX2_river_0 24 rfl rfl
theorem dX2_river_0 : decode cX2_river 0 = .ok (.iload_n 1, 1) := dk_27 (dk_at dksX2_river_0 0 rfl rfl)
theorem dX2_river_1 : decode cX2_river 1 = .ok (.i2l, 1) := dk_133 (dk_at dksX2_river_0 1 rfl rfl)
theorem dX2_river_2 : decode cX2_river 2 = .ok (.lconst 0, 1) := dk_9 (dk_at dksX2_river_0 2 rfl rfl)
theorem dX2_river_3 : decode cX2_river 3 = .ok (.aload_n 0, 1) := dk_42 (dk_at dksX2_river_0 3 rfl rfl)
theorem dX2_river_4 : decode cX2_river 4 = .ok (.getfield 18, 3) := dk_180 0 18 (dk_at dksX2_river_0 4 rfl rfl)
theorem dX2_river_7 : decode cX2_river 7 = .ok (.invokevirtual 81, 3) := dk_182 0 81 (dk_at dksX2_river_0 7 rfl rfl)
theorem dX2_river_10 : decode cX2_river 10 = .ok (.iconst 1, 1) := dk_4 (dk_at dksX2_river_0 10 rfl rfl)
theorem dX2_river_11 : decode cX2_river 11 = .ok (.isub, 1) := dk_100 (dk_at dksX2_river_0 11 rfl rfl)
theorem dX2_river_12 : decode cX2_river 12 = .ok (.i2l, 1) := dk_133 (dk_at dksX2_river_0 12 rfl rfl)
theorem dX2_river_13 : decode cX2_river 13 = .ok (.invokestatic 85, 3) := dk_184 0 85 (dk_at dksX2_river_0 13 rfl rfl)
theorem dX2_river_16 : decode cX2_river 16 = .ok (.invokestatic 89, 3) := dk_184 0 89 (dk_at dksX2_river_0 16 rfl rfl)
theorem dX2_river_19 : decode cX2_river 19 = .ok (.aload_n 0, 1) := dk_42 (dk_at dksX2_river_0 19 rfl rfl)
theorem dX2_river_20 : decode cX2_river 20 = .ok (.getfield 18, 3) := dk_180 0 18 (dk_at dksX2_river_0 20 rfl rfl)
theorem dX2_river_23 : decode cX2_river 23 = .ok (.iload_n 1, 1) := dk_27 (dk_at dksX2_river_0 23 rfl rfl)
theorem dX2_river_24 : decode cX2_river 24 = .ok (.invokevirtual 93, 3) := dk_182 0 93 (dk_at dksX2_river_1 0 rfl rfl)
theorem dX2_river_27 : decode cX2_river 27 = .ok (.checkcast 53, 3) := dk_192 0 53 (dk_at dksX2_river_1 3 rfl rfl)
theorem dX2_river_30 : decode cX2_river 30 = .ok (.areturn, 1) := dk_176 (dk_at dksX2_river_1 6 rfl rfl)
abbrev cX2_book : ByteArray := prog_6_method_9_code
def yX2_book : MethodName := ⟨RX2, "book", "(III)I"⟩
def dkwX2_book_3 : List UInt8 := [182, 0, 160, 172]
abbrev dktX2_book_3 : List UInt8 := dkwX2_book_3 ++ []
def dkwX2_book_2 : List UInt8 := [184, 0, 102, 25, 5, 180, 0, 141, 29, 182, 0, 154, 25, 5, 180, 0, 157, 29, 27, 79, 25, 5]
abbrev dktX2_book_2 : List UInt8 := dkwX2_book_2 ++ dktX2_book_3
def dkwX2_book_1 : List UInt8 := [25, 5, 180, 0, 141, 29, 182, 0, 145, 154, 0, 7, 4, 167, 0, 4, 3, 5, 25, 5, 29, 182, 0, 150]
abbrev dktX2_book_1 : List UInt8 := dkwX2_book_1 ++ dktX2_book_2
def dkwX2_book_0 : List UInt8 := [42, 27, 182, 0, 129, 58, 4, 42, 28, 182, 0, 116, 58, 5, 29, 184, 0, 133, 25, 4, 184, 0, 137]
abbrev dktX2_book_0 : List UInt8 := dkwX2_book_0 ++ dktX2_book_1
theorem dksX2_book_0 : cX2_book.data.toList.drop 0 = dktX2_book_0 := by decide +kernel
theorem dksX2_book_1 : cX2_book.data.toList.drop 23 = dktX2_book_1 := dk_seg dksX2_book_0 23 rfl rfl
theorem dksX2_book_2 : cX2_book.data.toList.drop 47 = dktX2_book_2 := dk_seg dksX2_book_1 24 rfl rfl
theorem dksX2_book_3 : cX2_book.data.toList.drop 69 = dktX2_book_3 := dk_seg dksX2_book_2 22 rfl rfl
theorem dX2_book_0 : decode cX2_book 0 = .ok (.aload_n 0, 1) := dk_42 (dk_at dksX2_book_0 0 rfl rfl)
theorem dX2_book_1 : decode cX2_book 1 = .ok (.iload_n 1, 1) := dk_27 (dk_at dksX2_book_0 1 rfl rfl)
theorem dX2_book_2 : decode cX2_book 2 = .ok (.invokevirtual 129, 3) := dk_182 0 129 (dk_at dksX2_book_0 2 rfl rfl)
theorem dX2_book_5 : decode cX2_book 5 = .ok (.astore 4, 2) := dk_58 4 (dk_at dksX2_book_0 5 rfl rfl)
theorem dX2_book_7 : decode cX2_book 7 = .ok (.aload_n 0, 1) := dk_42 (dk_at dksX2_book_0 7 rfl rfl)
theorem dX2_book_8 : decode cX2_book 8 = .ok (.iload_n 2, 1) := dk_28 (dk_at dksX2_book_0 8 rfl rfl)
theorem dX2_book_9 : decode cX2_book 9 = .ok (.invokevirtual 116, 3) := dk_182 0 116 (dk_at dksX2_book_0 9 rfl rfl)
theorem dX2_book_12 : decode cX2_book 12 = .ok (.astore 5, 2) := dk_58 5 (dk_at dksX2_book_0 12 rfl rfl)
theorem dX2_book_14 : decode cX2_book 14 = .ok (.iload_n 3, 1) := dk_29 (dk_at dksX2_book_0 14 rfl rfl)
theorem dX2_book_15 : decode cX2_book 15 = .ok (.invokestatic 133, 3) := dk_184 0 133 (dk_at dksX2_book_0 15 rfl rfl)
theorem dX2_book_18 : decode cX2_book 18 = .ok (.aload 4, 2) := dk_25 4 (dk_at dksX2_book_0 18 rfl rfl)
theorem dX2_book_20 : decode cX2_book 20 = .ok (.invokestatic 137, 3) := dk_184 0 137 (dk_at dksX2_book_0 20 rfl rfl)
theorem dX2_book_23 : decode cX2_book 23 = .ok (.aload 5, 2) := dk_25 5 (dk_at dksX2_book_1 0 rfl rfl)
theorem dX2_book_25 : decode cX2_book 25 = .ok (.getfield 141, 3) := dk_180 0 141 (dk_at dksX2_book_1 2 rfl rfl)
theorem dX2_book_28 : decode cX2_book 28 = .ok (.iload_n 3, 1) := dk_29 (dk_at dksX2_book_1 5 rfl rfl)
theorem dX2_book_29 : decode cX2_book 29 = .ok (.invokevirtual 145, 3) := dk_182 0 145 (dk_at dksX2_book_1 6 rfl rfl)
theorem dX2_book_32 : decode cX2_book 32 = .ok (.ifCond .ne 7, 3) := dk_154 0 7 (dk_at dksX2_book_1 9 rfl rfl)
theorem dX2_book_35 : decode cX2_book 35 = .ok (.iconst 1, 1) := dk_4 (dk_at dksX2_book_1 12 rfl rfl)
theorem dX2_book_36 : decode cX2_book 36 = .ok (.goto 4, 3) := dk_167 0 4 (dk_at dksX2_book_1 13 rfl rfl)
theorem dX2_book_39 : decode cX2_book 39 = .ok (.iconst 0, 1) := dk_3 (dk_at dksX2_book_1 16 rfl rfl)
theorem dX2_book_40 : decode cX2_book 40 = .ok (.iconst 2, 1) := dk_5 (dk_at dksX2_book_1 17 rfl rfl)
theorem dX2_book_41 : decode cX2_book 41 = .ok (.aload 5, 2) := dk_25 5 (dk_at dksX2_book_1 18 rfl rfl)
theorem dX2_book_43 : decode cX2_book 43 = .ok (.iload_n 3, 1) := dk_29 (dk_at dksX2_book_1 20 rfl rfl)
theorem dX2_book_44 : decode cX2_book 44 = .ok (.invokevirtual 150, 3) := dk_182 0 150 (dk_at dksX2_book_1 21 rfl rfl)
theorem dX2_book_47 : decode cX2_book 47 = .ok (.invokestatic 102, 3) := dk_184 0 102 (dk_at dksX2_book_2 0 rfl rfl)
theorem dX2_book_50 : decode cX2_book 50 = .ok (.aload 5, 2) := dk_25 5 (dk_at dksX2_book_2 3 rfl rfl)
theorem dX2_book_52 : decode cX2_book 52 = .ok (.getfield 141, 3) := dk_180 0 141 (dk_at dksX2_book_2 5 rfl rfl)
theorem dX2_book_55 : decode cX2_book 55 = .ok (.iload_n 3, 1) := dk_29 (dk_at dksX2_book_2 8 rfl rfl)
theorem dX2_book_56 : decode cX2_book 56 = .ok (.invokevirtual 154, 3) := dk_182 0 154 (dk_at dksX2_book_2 9 rfl rfl)
theorem dX2_book_59 : decode cX2_book 59 = .ok (.aload 5, 2) := dk_25 5 (dk_at dksX2_book_2 12 rfl rfl)
theorem dX2_book_61 : decode cX2_book 61 = .ok (.getfield 157, 3) := dk_180 0 157 (dk_at dksX2_book_2 14 rfl rfl)
theorem dX2_book_64 : decode cX2_book 64 = .ok (.iload_n 3, 1) := dk_29 (dk_at dksX2_book_2 17 rfl rfl)
theorem dX2_book_65 : decode cX2_book 65 = .ok (.iload_n 1, 1) := dk_27 (dk_at dksX2_book_2 18 rfl rfl)
theorem dX2_book_66 : decode cX2_book 66 = .ok (.iastore, 1) := dk_79 (dk_at dksX2_book_2 19 rfl rfl)
theorem dX2_book_67 : decode cX2_book 67 = .ok (.aload 5, 2) := dk_25 5 (dk_at dksX2_book_2 20 rfl rfl)
theorem dX2_book_69 : decode cX2_book 69 = .ok (.invokevirtual 160, 3) := dk_182 0 160 (dk_at dksX2_book_3 0 rfl rfl)
theorem dX2_book_72 : decode cX2_book 72 = .ok (.ireturn, 1) := dk_172 (dk_at dksX2_book_3 3 rfl rfl)
abbrev cX2_stone : ByteArray := prog_6_method_3_code
def yX2_stone : MethodName := ⟨RX2, "stone", "(I)LSkipSchool$Stone;"⟩
def dkwX2_stone_1 : List UInt8 := [182, 0, 93, 192, 0, 43, 176]
abbrev dktX2_stone_1 : List UInt8 := dkwX2_stone_1 ++ []
def dkwX2_stone_0 : List UInt8 := [27, 133, 9, 42, 180, 0, 12, 182, 0, 81, 4, 100, 133, 184, 0, 85, 184, 0, 89, 42, 180, 0, 12, 27]
abbrev dktX2_stone_0 : List UInt8 := dkwX2_stone_0 ++ dktX2_stone_1
theorem dksX2_stone_0 : cX2_stone.data.toList.drop 0 = dktX2_stone_0 := by decide +kernel
theorem dksX2_stone_1 : cX2_stone.data.toList.drop 24 = dktX2_stone_1 := dk_seg dksX2_stone_0 24 rfl rfl
theorem dX2_stone_0 : decode cX2_stone 0 = .ok (.iload_n 1, 1) := dk_27 (dk_at dksX2_stone_0 0 rfl rfl)
theorem dX2_stone_1 : decode cX2_stone 1 = .ok (.i2l, 1) := dk_133 (dk_at dksX2_stone_0 1 rfl rfl)
theorem dX2_stone_2 : decode cX2_stone 2 = .ok (.lconst 0, 1) := dk_9 (dk_at dksX2_stone_0 2 rfl rfl)
theorem dX2_stone_3 : decode cX2_stone 3 = .ok (.aload_n 0, 1) := dk_42 (dk_at dksX2_stone_0 3 rfl rfl)
theorem dX2_stone_4 : decode cX2_stone 4 = .ok (.getfield 12, 3) := dk_180 0 12 (dk_at dksX2_stone_0 4 rfl rfl)
theorem dX2_stone_7 : decode cX2_stone 7 = .ok (.invokevirtual 81, 3) := dk_182 0 81 (dk_at dksX2_stone_0 7 rfl rfl)
theorem dX2_stone_10 : decode cX2_stone 10 = .ok (.iconst 1, 1) := dk_4 (dk_at dksX2_stone_0 10 rfl rfl)
theorem dX2_stone_11 : decode cX2_stone 11 = .ok (.isub, 1) := dk_100 (dk_at dksX2_stone_0 11 rfl rfl)
theorem dX2_stone_12 : decode cX2_stone 12 = .ok (.i2l, 1) := dk_133 (dk_at dksX2_stone_0 12 rfl rfl)
theorem dX2_stone_13 : decode cX2_stone 13 = .ok (.invokestatic 85, 3) := dk_184 0 85 (dk_at dksX2_stone_0 13 rfl rfl)
theorem dX2_stone_16 : decode cX2_stone 16 = .ok (.invokestatic 89, 3) := dk_184 0 89 (dk_at dksX2_stone_0 16 rfl rfl)
theorem dX2_stone_19 : decode cX2_stone 19 = .ok (.aload_n 0, 1) := dk_42 (dk_at dksX2_stone_0 19 rfl rfl)
theorem dX2_stone_20 : decode cX2_stone 20 = .ok (.getfield 12, 3) := dk_180 0 12 (dk_at dksX2_stone_0 20 rfl rfl)
theorem dX2_stone_23 : decode cX2_stone 23 = .ok (.iload_n 1, 1) := dk_27 (dk_at dksX2_stone_0 23 rfl rfl)
theorem dX2_stone_24 : decode cX2_stone 24 = .ok (.invokevirtual 93, 3) := dk_182 0 93 (dk_at dksX2_stone_1 0 rfl rfl)
theorem dX2_stone_27 : decode cX2_stone 27 = .ok (.checkcast 43, 3) := dk_192 0 43 (dk_at dksX2_stone_1 3 rfl rfl)
theorem dX2_stone_30 : decode cX2_stone 30 = .ok (.areturn, 1) := dk_176 (dk_at dksX2_stone_1 6 rfl rfl)
abbrev cX2_checkSwims : ByteArray := prog_6_method_8_code
def yX2_checkSwims : MethodName := ⟨RX2, "checkSwims", "(LSkipSchool$Stone;)V"⟩
def dkwX2_checkSwims_0 : List UInt8 := [42, 182, 0, 123, 154, 0, 7, 4, 167, 0, 4, 3, 7, 42, 180, 0, 126, 184, 0, 102, 177]
abbrev dktX2_checkSwims_0 : List UInt8 := dkwX2_checkSwims_0 ++ []
theorem dksX2_checkSwims_0 : cX2_checkSwims.data.toList.drop 0 = dktX2_checkSwims_0 := by decide +kernel
theorem dX2_checkSwims_0 : decode cX2_checkSwims 0 = .ok (.aload_n 0, 1) := dk_42 (dk_at dksX2_checkSwims_0 0 rfl rfl)
theorem dX2_checkSwims_1 : decode cX2_checkSwims 1 = .ok (.invokevirtual 123, 3) := dk_182 0 123 (dk_at dksX2_checkSwims_0 1 rfl rfl)
theorem dX2_checkSwims_4 : decode cX2_checkSwims 4 = .ok (.ifCond .ne 7, 3) := dk_154 0 7 (dk_at dksX2_checkSwims_0 4 rfl rfl)
theorem dX2_checkSwims_7 : decode cX2_checkSwims 7 = .ok (.iconst 1, 1) := dk_4 (dk_at dksX2_checkSwims_0 7 rfl rfl)
theorem dX2_checkSwims_8 : decode cX2_checkSwims 8 = .ok (.goto 4, 3) := dk_167 0 4 (dk_at dksX2_checkSwims_0 8 rfl rfl)
theorem dX2_checkSwims_11 : decode cX2_checkSwims 11 = .ok (.iconst 0, 1) := dk_3 (dk_at dksX2_checkSwims_0 11 rfl rfl)
theorem dX2_checkSwims_12 : decode cX2_checkSwims 12 = .ok (.iconst 4, 1) := dk_7 (dk_at dksX2_checkSwims_0 12 rfl rfl)
theorem dX2_checkSwims_13 : decode cX2_checkSwims 13 = .ok (.aload_n 0, 1) := dk_42 (dk_at dksX2_checkSwims_0 13 rfl rfl)
theorem dX2_checkSwims_14 : decode cX2_checkSwims 14 = .ok (.getfield 126, 3) := dk_180 0 126 (dk_at dksX2_checkSwims_0 14 rfl rfl)
theorem dX2_checkSwims_17 : decode cX2_checkSwims 17 = .ok (.invokestatic 102, 3) := dk_184 0 102 (dk_at dksX2_checkSwims_0 17 rfl rfl)
theorem dX2_checkSwims_20 : decode cX2_checkSwims 20 = .ok (.return_, 1) := dk_177 (dk_at dksX2_checkSwims_0 20 rfl rfl)
abbrev cX2_free : ByteArray := prog_6_method_10_code
def yX2_free : MethodName := ⟨RX2, "free", "(II)I"⟩
def dkwX2_free_1 : List UInt8 := [184, 0, 102, 45, 28, 182, 0, 150, 54, 4, 45, 180, 0, 141, 28, 182, 0, 163, 21, 4, 172]
abbrev dktX2_free_1 : List UInt8 := dkwX2_free_1 ++ []
def dkwX2_free_0 : List UInt8 := [42, 27, 182, 0, 116, 78, 28, 184, 0, 133, 45, 180, 0, 141, 28, 182, 0, 145, 16, 10, 45, 182, 0, 160]
abbrev dktX2_free_0 : List UInt8 := dkwX2_free_0 ++ dktX2_free_1
theorem dksX2_free_0 : cX2_free.data.toList.drop 0 = dktX2_free_0 := by decide +kernel
theorem dksX2_free_1 : cX2_free.data.toList.drop 24 = dktX2_free_1 := dk_seg dksX2_free_0 24 rfl rfl
theorem dX2_free_0 : decode cX2_free 0 = .ok (.aload_n 0, 1) := dk_42 (dk_at dksX2_free_0 0 rfl rfl)
theorem dX2_free_1 : decode cX2_free 1 = .ok (.iload_n 1, 1) := dk_27 (dk_at dksX2_free_0 1 rfl rfl)
theorem dX2_free_2 : decode cX2_free 2 = .ok (.invokevirtual 116, 3) := dk_182 0 116 (dk_at dksX2_free_0 2 rfl rfl)
theorem dX2_free_5 : decode cX2_free 5 = .ok (.astore_n 3, 1) := dk_78 (dk_at dksX2_free_0 5 rfl rfl)
theorem dX2_free_6 : decode cX2_free 6 = .ok (.iload_n 2, 1) := dk_28 (dk_at dksX2_free_0 6 rfl rfl)
theorem dX2_free_7 : decode cX2_free 7 = .ok (.invokestatic 133, 3) := dk_184 0 133 (dk_at dksX2_free_0 7 rfl rfl)
theorem dX2_free_10 : decode cX2_free 10 = .ok (.aload_n 3, 1) := dk_45 (dk_at dksX2_free_0 10 rfl rfl)
theorem dX2_free_11 : decode cX2_free 11 = .ok (.getfield 141, 3) := dk_180 0 141 (dk_at dksX2_free_0 11 rfl rfl)
theorem dX2_free_14 : decode cX2_free 14 = .ok (.iload_n 2, 1) := dk_28 (dk_at dksX2_free_0 14 rfl rfl)
theorem dX2_free_15 : decode cX2_free 15 = .ok (.invokevirtual 145, 3) := dk_182 0 145 (dk_at dksX2_free_0 15 rfl rfl)
theorem dX2_free_18 : decode cX2_free 18 = .ok (.bipush 10, 2) := dk_16 10 (dk_at dksX2_free_0 18 rfl rfl)
theorem dX2_free_20 : decode cX2_free 20 = .ok (.aload_n 3, 1) := dk_45 (dk_at dksX2_free_0 20 rfl rfl)
theorem dX2_free_21 : decode cX2_free 21 = .ok (.invokevirtual 160, 3) := dk_182 0 160 (dk_at dksX2_free_0 21 rfl rfl)
theorem dX2_free_24 : decode cX2_free 24 = .ok (.invokestatic 102, 3) := dk_184 0 102 (dk_at dksX2_free_1 0 rfl rfl)
theorem dX2_free_27 : decode cX2_free 27 = .ok (.aload_n 3, 1) := dk_45 (dk_at dksX2_free_1 3 rfl rfl)
theorem dX2_free_28 : decode cX2_free 28 = .ok (.iload_n 2, 1) := dk_28 (dk_at dksX2_free_1 4 rfl rfl)
theorem dX2_free_29 : decode cX2_free 29 = .ok (.invokevirtual 150, 3) := dk_182 0 150 (dk_at dksX2_free_1 5 rfl rfl)
theorem dX2_free_32 : decode cX2_free 32 = .ok (.istore 4, 2) := dk_54 4 (dk_at dksX2_free_1 8 rfl rfl)
theorem dX2_free_34 : decode cX2_free 34 = .ok (.aload_n 3, 1) := dk_45 (dk_at dksX2_free_1 10 rfl rfl)
theorem dX2_free_35 : decode cX2_free 35 = .ok (.getfield 141, 3) := dk_180 0 141 (dk_at dksX2_free_1 11 rfl rfl)
theorem dX2_free_38 : decode cX2_free 38 = .ok (.iload_n 2, 1) := dk_28 (dk_at dksX2_free_1 14 rfl rfl)
theorem dX2_free_39 : decode cX2_free 39 = .ok (.invokevirtual 163, 3) := dk_182 0 163 (dk_at dksX2_free_1 15 rfl rfl)
theorem dX2_free_42 : decode cX2_free 42 = .ok (.iload 4, 2) := dk_21 4 (dk_at dksX2_free_1 18 rfl rfl)
theorem dX2_free_44 : decode cX2_free 44 = .ok (.ireturn, 1) := dk_172 (dk_at dksX2_free_1 20 rfl rfl)
abbrev cX2_teach : ByteArray := prog_6_method_13_code
def yX2_teach : MethodName := ⟨RX2, "teach", "(I)I"⟩
def dkwX2_teach_3 : List UInt8 := [180, 0, 66, 4, 96, 181, 0, 66, 44, 180, 0, 173, 172]
abbrev dktX2_teach_3 : List UInt8 := dkwX2_teach_3 ++ []
def dkwX2_teach_2 : List UInt8 := [16, 99, 184, 0, 102, 44, 4, 44, 180, 0, 176, 5, 108, 96, 182, 0, 179, 44, 4, 181, 0, 169, 42, 89]
abbrev dktX2_teach_2 : List UInt8 := dkwX2_teach_2 ++ dktX2_teach_3
def dkwX2_teach_1 : List UInt8 := [42, 180, 0, 62, 184, 0, 102, 44, 180, 0, 173, 16, 99, 162, 0, 7, 4, 167, 0, 4, 3, 16, 9]
abbrev dktX2_teach_1 : List UInt8 := dkwX2_teach_1 ++ dktX2_teach_2
def dkwX2_teach_0 : List UInt8 := [42, 27, 182, 0, 129, 77, 44, 184, 0, 137, 44, 180, 0, 169, 154, 0, 7, 4, 167, 0, 4, 3, 16, 8]
abbrev dktX2_teach_0 : List UInt8 := dkwX2_teach_0 ++ dktX2_teach_1
theorem dksX2_teach_0 : cX2_teach.data.toList.drop 0 = dktX2_teach_0 := by decide +kernel
theorem dksX2_teach_1 : cX2_teach.data.toList.drop 24 = dktX2_teach_1 := dk_seg dksX2_teach_0 24 rfl rfl
theorem dksX2_teach_2 : cX2_teach.data.toList.drop 47 = dktX2_teach_2 := dk_seg dksX2_teach_1 23 rfl rfl
theorem dksX2_teach_3 : cX2_teach.data.toList.drop 71 = dktX2_teach_3 := dk_seg dksX2_teach_2 24 rfl rfl
theorem dX2_teach_0 : decode cX2_teach 0 = .ok (.aload_n 0, 1) := dk_42 (dk_at dksX2_teach_0 0 rfl rfl)
theorem dX2_teach_1 : decode cX2_teach 1 = .ok (.iload_n 1, 1) := dk_27 (dk_at dksX2_teach_0 1 rfl rfl)
theorem dX2_teach_2 : decode cX2_teach 2 = .ok (.invokevirtual 129, 3) := dk_182 0 129 (dk_at dksX2_teach_0 2 rfl rfl)
theorem dX2_teach_5 : decode cX2_teach 5 = .ok (.astore_n 2, 1) := dk_77 (dk_at dksX2_teach_0 5 rfl rfl)
theorem dX2_teach_6 : decode cX2_teach 6 = .ok (.aload_n 2, 1) := dk_44 (dk_at dksX2_teach_0 6 rfl rfl)
theorem dX2_teach_7 : decode cX2_teach 7 = .ok (.invokestatic 137, 3) := dk_184 0 137 (dk_at dksX2_teach_0 7 rfl rfl)
theorem dX2_teach_10 : decode cX2_teach 10 = .ok (.aload_n 2, 1) := dk_44 (dk_at dksX2_teach_0 10 rfl rfl)
theorem dX2_teach_11 : decode cX2_teach 11 = .ok (.getfield 169, 3) := dk_180 0 169 (dk_at dksX2_teach_0 11 rfl rfl)
theorem dX2_teach_14 : decode cX2_teach 14 = .ok (.ifCond .ne 7, 3) := dk_154 0 7 (dk_at dksX2_teach_0 14 rfl rfl)
theorem dX2_teach_17 : decode cX2_teach 17 = .ok (.iconst 1, 1) := dk_4 (dk_at dksX2_teach_0 17 rfl rfl)
theorem dX2_teach_18 : decode cX2_teach 18 = .ok (.goto 4, 3) := dk_167 0 4 (dk_at dksX2_teach_0 18 rfl rfl)
theorem dX2_teach_21 : decode cX2_teach 21 = .ok (.iconst 0, 1) := dk_3 (dk_at dksX2_teach_0 21 rfl rfl)
theorem dX2_teach_22 : decode cX2_teach 22 = .ok (.bipush 8, 2) := dk_16 8 (dk_at dksX2_teach_0 22 rfl rfl)
theorem dX2_teach_24 : decode cX2_teach 24 = .ok (.aload_n 0, 1) := dk_42 (dk_at dksX2_teach_1 0 rfl rfl)
theorem dX2_teach_25 : decode cX2_teach 25 = .ok (.getfield 62, 3) := dk_180 0 62 (dk_at dksX2_teach_1 1 rfl rfl)
theorem dX2_teach_28 : decode cX2_teach 28 = .ok (.invokestatic 102, 3) := dk_184 0 102 (dk_at dksX2_teach_1 4 rfl rfl)
theorem dX2_teach_31 : decode cX2_teach 31 = .ok (.aload_n 2, 1) := dk_44 (dk_at dksX2_teach_1 7 rfl rfl)
theorem dX2_teach_32 : decode cX2_teach 32 = .ok (.getfield 173, 3) := dk_180 0 173 (dk_at dksX2_teach_1 8 rfl rfl)
theorem dX2_teach_35 : decode cX2_teach 35 = .ok (.bipush 99, 2) := dk_16 99 (dk_at dksX2_teach_1 11 rfl rfl)
theorem dX2_teach_37 : decode cX2_teach 37 = .ok (.if_icmp .ge 7, 3) := dk_162 0 7 (dk_at dksX2_teach_1 13 rfl rfl)
theorem dX2_teach_40 : decode cX2_teach 40 = .ok (.iconst 1, 1) := dk_4 (dk_at dksX2_teach_1 16 rfl rfl)
theorem dX2_teach_41 : decode cX2_teach 41 = .ok (.goto 4, 3) := dk_167 0 4 (dk_at dksX2_teach_1 17 rfl rfl)
theorem dX2_teach_44 : decode cX2_teach 44 = .ok (.iconst 0, 1) := dk_3 (dk_at dksX2_teach_1 20 rfl rfl)
theorem dX2_teach_45 : decode cX2_teach 45 = .ok (.bipush 9, 2) := dk_16 9 (dk_at dksX2_teach_1 21 rfl rfl)
theorem dX2_teach_47 : decode cX2_teach 47 = .ok (.bipush 99, 2) := dk_16 99 (dk_at dksX2_teach_2 0 rfl rfl)
theorem dX2_teach_49 : decode cX2_teach 49 = .ok (.invokestatic 102, 3) := dk_184 0 102 (dk_at dksX2_teach_2 2 rfl rfl)
theorem dX2_teach_52 : decode cX2_teach 52 = .ok (.aload_n 2, 1) := dk_44 (dk_at dksX2_teach_2 5 rfl rfl)
theorem dX2_teach_53 : decode cX2_teach 53 = .ok (.iconst 1, 1) := dk_4 (dk_at dksX2_teach_2 6 rfl rfl)
theorem dX2_teach_54 : decode cX2_teach 54 = .ok (.aload_n 2, 1) := dk_44 (dk_at dksX2_teach_2 7 rfl rfl)
theorem dX2_teach_55 : decode cX2_teach 55 = .ok (.getfield 176, 3) := dk_180 0 176 (dk_at dksX2_teach_2 8 rfl rfl)
theorem dX2_teach_58 : decode cX2_teach 58 = .ok (.iconst 2, 1) := dk_5 (dk_at dksX2_teach_2 11 rfl rfl)
theorem dX2_teach_59 : decode cX2_teach 59 = .ok (.idiv, 1) := dk_108 (dk_at dksX2_teach_2 12 rfl rfl)
theorem dX2_teach_60 : decode cX2_teach 60 = .ok (.iadd, 1) := dk_96 (dk_at dksX2_teach_2 13 rfl rfl)
theorem dX2_teach_61 : decode cX2_teach 61 = .ok (.invokevirtual 179, 3) := dk_182 0 179 (dk_at dksX2_teach_2 14 rfl rfl)
theorem dX2_teach_64 : decode cX2_teach 64 = .ok (.aload_n 2, 1) := dk_44 (dk_at dksX2_teach_2 17 rfl rfl)
theorem dX2_teach_65 : decode cX2_teach 65 = .ok (.iconst 1, 1) := dk_4 (dk_at dksX2_teach_2 18 rfl rfl)
theorem dX2_teach_66 : decode cX2_teach 66 = .ok (.putfield 169, 3) := dk_181 0 169 (dk_at dksX2_teach_2 19 rfl rfl)
theorem dX2_teach_69 : decode cX2_teach 69 = .ok (.aload_n 0, 1) := dk_42 (dk_at dksX2_teach_2 22 rfl rfl)
theorem dX2_teach_70 : decode cX2_teach 70 = .ok (.dup, 1) := dk_89 (dk_at dksX2_teach_2 23 rfl rfl)
theorem dX2_teach_71 : decode cX2_teach 71 = .ok (.getfield 66, 3) := dk_180 0 66 (dk_at dksX2_teach_3 0 rfl rfl)
theorem dX2_teach_74 : decode cX2_teach 74 = .ok (.iconst 1, 1) := dk_4 (dk_at dksX2_teach_3 3 rfl rfl)
theorem dX2_teach_75 : decode cX2_teach 75 = .ok (.iadd, 1) := dk_96 (dk_at dksX2_teach_3 4 rfl rfl)
theorem dX2_teach_76 : decode cX2_teach 76 = .ok (.putfield 66, 3) := dk_181 0 66 (dk_at dksX2_teach_3 5 rfl rfl)
theorem dX2_teach_79 : decode cX2_teach 79 = .ok (.aload_n 2, 1) := dk_44 (dk_at dksX2_teach_3 8 rfl rfl)
theorem dX2_teach_80 : decode cX2_teach 80 = .ok (.getfield 173, 3) := dk_180 0 173 (dk_at dksX2_teach_3 9 rfl rfl)
theorem dX2_teach_83 : decode cX2_teach 83 = .ok (.ireturn, 1) := dk_172 (dk_at dksX2_teach_3 12 rfl rfl)
abbrev cX2_trial : ByteArray := prog_6_method_15_code
def yX2_trial : MethodName := ⟨RX2, "trial", "(IIII)I"⟩
def dkwX2_trial_4 : List UInt8 := [4, 96, 181, 0, 69, 21, 5, 172]
abbrev dktX2_trial_4 : List UInt8 := dkwX2_trial_4 ++ []
def dkwX2_trial_3 : List UInt8 := [180, 0, 205, 164, 0, 16, 25, 6, 29, 181, 0, 202, 25, 6, 21, 5, 181, 0, 205, 42, 89, 180, 0, 69]
abbrev dktX2_trial_3 : List UInt8 := dkwX2_trial_3 ++ dktX2_trial_4
def dkwX2_trial_2 : List UInt8 := [184, 0, 102, 25, 6, 4, 181, 0, 199, 25, 6, 180, 0, 202, 2, 159, 0, 13, 21, 5, 25, 6]
abbrev dktX2_trial_2 : List UInt8 := dkwX2_trial_2 ++ dktX2_trial_3
def dkwX2_trial_1 : List UInt8 := [184, 0, 137, 25, 6, 180, 0, 199, 154, 0, 7, 4, 167, 0, 4, 3, 16, 8, 42, 180, 0, 62]
abbrev dktX2_trial_1 : List UInt8 := dkwX2_trial_1 ++ dktX2_trial_2
def dkwX2_trial_0 : List UInt8 := [42, 27, 28, 29, 21, 4, 182, 0, 192, 182, 0, 195, 54, 5, 42, 27, 182, 0, 129, 58, 6, 25, 6]
abbrev dktX2_trial_0 : List UInt8 := dkwX2_trial_0 ++ dktX2_trial_1
theorem dksX2_trial_0 : cX2_trial.data.toList.drop 0 = dktX2_trial_0 := by decide +kernel
theorem dksX2_trial_1 : cX2_trial.data.toList.drop 23 = dktX2_trial_1 := dk_seg dksX2_trial_0 23 rfl rfl
theorem dksX2_trial_2 : cX2_trial.data.toList.drop 45 = dktX2_trial_2 := dk_seg dksX2_trial_1 22 rfl rfl
theorem dksX2_trial_3 : cX2_trial.data.toList.drop 67 = dktX2_trial_3 := dk_seg dksX2_trial_2 22 rfl rfl
theorem dksX2_trial_4 : cX2_trial.data.toList.drop 91 = dktX2_trial_4 := dk_seg dksX2_trial_3 24 rfl rfl
theorem dX2_trial_0 : decode cX2_trial 0 = .ok (.aload_n 0, 1) := dk_42 (dk_at dksX2_trial_0 0 rfl rfl)
theorem dX2_trial_1 : decode cX2_trial 1 = .ok (.iload_n 1, 1) := dk_27 (dk_at dksX2_trial_0 1 rfl rfl)
theorem dX2_trial_2 : decode cX2_trial 2 = .ok (.iload_n 2, 1) := dk_28 (dk_at dksX2_trial_0 2 rfl rfl)
theorem dX2_trial_3 : decode cX2_trial 3 = .ok (.iload_n 3, 1) := dk_29 (dk_at dksX2_trial_0 3 rfl rfl)
theorem dX2_trial_4 : decode cX2_trial 4 = .ok (.iload 4, 2) := dk_21 4 (dk_at dksX2_trial_0 4 rfl rfl)
theorem dX2_trial_6 : decode cX2_trial 6 = .ok (.invokevirtual 192, 3) := dk_182 0 192 (dk_at dksX2_trial_0 6 rfl rfl)
theorem dX2_trial_9 : decode cX2_trial 9 = .ok (.invokevirtual 195, 3) := dk_182 0 195 (dk_at dksX2_trial_0 9 rfl rfl)
theorem dX2_trial_12 : decode cX2_trial 12 = .ok (.istore 5, 2) := dk_54 5 (dk_at dksX2_trial_0 12 rfl rfl)
theorem dX2_trial_14 : decode cX2_trial 14 = .ok (.aload_n 0, 1) := dk_42 (dk_at dksX2_trial_0 14 rfl rfl)
theorem dX2_trial_15 : decode cX2_trial 15 = .ok (.iload_n 1, 1) := dk_27 (dk_at dksX2_trial_0 15 rfl rfl)
theorem dX2_trial_16 : decode cX2_trial 16 = .ok (.invokevirtual 129, 3) := dk_182 0 129 (dk_at dksX2_trial_0 16 rfl rfl)
theorem dX2_trial_19 : decode cX2_trial 19 = .ok (.astore 6, 2) := dk_58 6 (dk_at dksX2_trial_0 19 rfl rfl)
theorem dX2_trial_21 : decode cX2_trial 21 = .ok (.aload 6, 2) := dk_25 6 (dk_at dksX2_trial_0 21 rfl rfl)
theorem dX2_trial_23 : decode cX2_trial 23 = .ok (.invokestatic 137, 3) := dk_184 0 137 (dk_at dksX2_trial_1 0 rfl rfl)
theorem dX2_trial_26 : decode cX2_trial 26 = .ok (.aload 6, 2) := dk_25 6 (dk_at dksX2_trial_1 3 rfl rfl)
theorem dX2_trial_28 : decode cX2_trial 28 = .ok (.getfield 199, 3) := dk_180 0 199 (dk_at dksX2_trial_1 5 rfl rfl)
theorem dX2_trial_31 : decode cX2_trial 31 = .ok (.ifCond .ne 7, 3) := dk_154 0 7 (dk_at dksX2_trial_1 8 rfl rfl)
theorem dX2_trial_34 : decode cX2_trial 34 = .ok (.iconst 1, 1) := dk_4 (dk_at dksX2_trial_1 11 rfl rfl)
theorem dX2_trial_35 : decode cX2_trial 35 = .ok (.goto 4, 3) := dk_167 0 4 (dk_at dksX2_trial_1 12 rfl rfl)
theorem dX2_trial_38 : decode cX2_trial 38 = .ok (.iconst 0, 1) := dk_3 (dk_at dksX2_trial_1 15 rfl rfl)
theorem dX2_trial_39 : decode cX2_trial 39 = .ok (.bipush 8, 2) := dk_16 8 (dk_at dksX2_trial_1 16 rfl rfl)
theorem dX2_trial_41 : decode cX2_trial 41 = .ok (.aload_n 0, 1) := dk_42 (dk_at dksX2_trial_1 18 rfl rfl)
theorem dX2_trial_42 : decode cX2_trial 42 = .ok (.getfield 62, 3) := dk_180 0 62 (dk_at dksX2_trial_1 19 rfl rfl)
theorem dX2_trial_45 : decode cX2_trial 45 = .ok (.invokestatic 102, 3) := dk_184 0 102 (dk_at dksX2_trial_2 0 rfl rfl)
theorem dX2_trial_48 : decode cX2_trial 48 = .ok (.aload 6, 2) := dk_25 6 (dk_at dksX2_trial_2 3 rfl rfl)
theorem dX2_trial_50 : decode cX2_trial 50 = .ok (.iconst 1, 1) := dk_4 (dk_at dksX2_trial_2 5 rfl rfl)
theorem dX2_trial_51 : decode cX2_trial 51 = .ok (.putfield 199, 3) := dk_181 0 199 (dk_at dksX2_trial_2 6 rfl rfl)
theorem dX2_trial_54 : decode cX2_trial 54 = .ok (.aload 6, 2) := dk_25 6 (dk_at dksX2_trial_2 9 rfl rfl)
theorem dX2_trial_56 : decode cX2_trial 56 = .ok (.getfield 202, 3) := dk_180 0 202 (dk_at dksX2_trial_2 11 rfl rfl)
theorem dX2_trial_59 : decode cX2_trial 59 = .ok (.iconst (-1), 1) := dk_2 (dk_at dksX2_trial_2 14 rfl rfl)
theorem dX2_trial_60 : decode cX2_trial 60 = .ok (.if_icmp .eq 13, 3) := dk_159 0 13 (dk_at dksX2_trial_2 15 rfl rfl)
theorem dX2_trial_63 : decode cX2_trial 63 = .ok (.iload 5, 2) := dk_21 5 (dk_at dksX2_trial_2 18 rfl rfl)
theorem dX2_trial_65 : decode cX2_trial 65 = .ok (.aload 6, 2) := dk_25 6 (dk_at dksX2_trial_2 20 rfl rfl)
theorem dX2_trial_67 : decode cX2_trial 67 = .ok (.getfield 205, 3) := dk_180 0 205 (dk_at dksX2_trial_3 0 rfl rfl)
theorem dX2_trial_70 : decode cX2_trial 70 = .ok (.if_icmp .le 16, 3) := dk_164 0 16 (dk_at dksX2_trial_3 3 rfl rfl)
theorem dX2_trial_73 : decode cX2_trial 73 = .ok (.aload 6, 2) := dk_25 6 (dk_at dksX2_trial_3 6 rfl rfl)
theorem dX2_trial_75 : decode cX2_trial 75 = .ok (.iload_n 3, 1) := dk_29 (dk_at dksX2_trial_3 8 rfl rfl)
theorem dX2_trial_76 : decode cX2_trial 76 = .ok (.putfield 202, 3) := dk_181 0 202 (dk_at dksX2_trial_3 9 rfl rfl)
theorem dX2_trial_79 : decode cX2_trial 79 = .ok (.aload 6, 2) := dk_25 6 (dk_at dksX2_trial_3 12 rfl rfl)
theorem dX2_trial_81 : decode cX2_trial 81 = .ok (.iload 5, 2) := dk_21 5 (dk_at dksX2_trial_3 14 rfl rfl)
theorem dX2_trial_83 : decode cX2_trial 83 = .ok (.putfield 205, 3) := dk_181 0 205 (dk_at dksX2_trial_3 16 rfl rfl)
theorem dX2_trial_86 : decode cX2_trial 86 = .ok (.aload_n 0, 1) := dk_42 (dk_at dksX2_trial_3 19 rfl rfl)
theorem dX2_trial_87 : decode cX2_trial 87 = .ok (.dup, 1) := dk_89 (dk_at dksX2_trial_3 20 rfl rfl)
theorem dX2_trial_88 : decode cX2_trial 88 = .ok (.getfield 69, 3) := dk_180 0 69 (dk_at dksX2_trial_3 21 rfl rfl)
theorem dX2_trial_91 : decode cX2_trial 91 = .ok (.iconst 1, 1) := dk_4 (dk_at dksX2_trial_4 0 rfl rfl)
theorem dX2_trial_92 : decode cX2_trial 92 = .ok (.iadd, 1) := dk_96 (dk_at dksX2_trial_4 1 rfl rfl)
theorem dX2_trial_93 : decode cX2_trial 93 = .ok (.putfield 69, 3) := dk_181 0 69 (dk_at dksX2_trial_4 2 rfl rfl)
theorem dX2_trial_96 : decode cX2_trial 96 = .ok (.iload 5, 2) := dk_21 5 (dk_at dksX2_trial_4 5 rfl rfl)
theorem dX2_trial_98 : decode cX2_trial 98 = .ok (.ireturn, 1) := dk_172 (dk_at dksX2_trial_4 7 rfl rfl)
abbrev cX2_thrown : ByteArray := prog_6_method_14_code
def yX2_thrown : MethodName := ⟨RX2, "thrown", "(IIII)LSkipSchool$Throw;"⟩
def dkwX2_thrown_1 : List UInt8 := [25, 5, 25, 6, 29, 21, 4, 182, 0, 188, 176]
abbrev dktX2_thrown_1 : List UInt8 := dkwX2_thrown_1 ++ []
def dkwX2_thrown_0 : List UInt8 := [42, 27, 182, 0, 129, 58, 5, 42, 28, 182, 0, 116, 58, 6, 29, 184, 0, 182, 21, 4, 184, 0, 185]
abbrev dktX2_thrown_0 : List UInt8 := dkwX2_thrown_0 ++ dktX2_thrown_1
theorem dksX2_thrown_0 : cX2_thrown.data.toList.drop 0 = dktX2_thrown_0 := by decide +kernel
theorem dksX2_thrown_1 : cX2_thrown.data.toList.drop 23 = dktX2_thrown_1 := dk_seg dksX2_thrown_0 23 rfl rfl
theorem dX2_thrown_0 : decode cX2_thrown 0 = .ok (.aload_n 0, 1) := dk_42 (dk_at dksX2_thrown_0 0 rfl rfl)
theorem dX2_thrown_1 : decode cX2_thrown 1 = .ok (.iload_n 1, 1) := dk_27 (dk_at dksX2_thrown_0 1 rfl rfl)
theorem dX2_thrown_2 : decode cX2_thrown 2 = .ok (.invokevirtual 129, 3) := dk_182 0 129 (dk_at dksX2_thrown_0 2 rfl rfl)
theorem dX2_thrown_5 : decode cX2_thrown 5 = .ok (.astore 5, 2) := dk_58 5 (dk_at dksX2_thrown_0 5 rfl rfl)
theorem dX2_thrown_7 : decode cX2_thrown 7 = .ok (.aload_n 0, 1) := dk_42 (dk_at dksX2_thrown_0 7 rfl rfl)
theorem dX2_thrown_8 : decode cX2_thrown 8 = .ok (.iload_n 2, 1) := dk_28 (dk_at dksX2_thrown_0 8 rfl rfl)
theorem dX2_thrown_9 : decode cX2_thrown 9 = .ok (.invokevirtual 116, 3) := dk_182 0 116 (dk_at dksX2_thrown_0 9 rfl rfl)
theorem dX2_thrown_12 : decode cX2_thrown 12 = .ok (.astore 6, 2) := dk_58 6 (dk_at dksX2_thrown_0 12 rfl rfl)
theorem dX2_thrown_14 : decode cX2_thrown 14 = .ok (.iload_n 3, 1) := dk_29 (dk_at dksX2_thrown_0 14 rfl rfl)
theorem dX2_thrown_15 : decode cX2_thrown 15 = .ok (.invokestatic 182, 3) := dk_184 0 182 (dk_at dksX2_thrown_0 15 rfl rfl)
theorem dX2_thrown_18 : decode cX2_thrown 18 = .ok (.iload 4, 2) := dk_21 4 (dk_at dksX2_thrown_0 18 rfl rfl)
theorem dX2_thrown_20 : decode cX2_thrown 20 = .ok (.invokestatic 185, 3) := dk_184 0 185 (dk_at dksX2_thrown_0 20 rfl rfl)
theorem dX2_thrown_23 : decode cX2_thrown 23 = .ok (.aload 5, 2) := dk_25 5 (dk_at dksX2_thrown_1 0 rfl rfl)
theorem dX2_thrown_25 : decode cX2_thrown 25 = .ok (.aload 6, 2) := dk_25 6 (dk_at dksX2_thrown_1 2 rfl rfl)
theorem dX2_thrown_27 : decode cX2_thrown 27 = .ok (.iload_n 3, 1) := dk_29 (dk_at dksX2_thrown_1 4 rfl rfl)
theorem dX2_thrown_28 : decode cX2_thrown 28 = .ok (.iload 4, 2) := dk_21 4 (dk_at dksX2_thrown_1 5 rfl rfl)
theorem dX2_thrown_30 : decode cX2_thrown 30 = .ok (.invokevirtual 188, 3) := dk_182 0 188 (dk_at dksX2_thrown_1 7 rfl rfl)
theorem dX2_thrown_33 : decode cX2_thrown 33 = .ok (.areturn, 1) := dk_176 (dk_at dksX2_thrown_1 10 rfl rfl)
abbrev cX2_skim : ByteArray := prog_6_method_16_code
def yX2_skim : MethodName := ⟨RX2, "skim", "(IIII)I"⟩
def dkwX2_skim_9 : List UInt8 := [181, 0, 228, 42, 180, 0, 24, 27, 184, 0, 231, 182, 0, 237, 21, 8, 116, 172]
abbrev dktX2_skim_9 : List UInt8 := dkwX2_skim_9 ++ []
def dkwX2_skim_8 : List UInt8 := [25, 6, 16, 254, 181, 0, 211, 25, 6, 42, 180, 0, 62, 181, 0, 126, 25, 7, 89, 180, 0, 228, 4, 96]
abbrev dktX2_skim_8 : List UInt8 := dkwX2_skim_8 ++ dktX2_skim_9
def dkwX2_skim_7 : List UInt8 := [181, 0, 211, 25, 6, 21, 8, 182, 0, 179, 42, 89, 180, 0, 75, 4, 96, 181, 0, 75, 21, 8, 172]
abbrev dktX2_skim_7 : List UInt8 := dkwX2_skim_7 ++ dktX2_skim_8
def dkwX2_skim_6 : List UInt8 := [21, 8, 96, 181, 0, 78, 25, 7, 27, 21, 8, 182, 0, 225, 21, 9, 153, 0, 29, 25, 6, 28]
abbrev dktX2_skim_6 : List UInt8 := dkwX2_skim_6 ++ dktX2_skim_7
def dkwX2_skim_5 : List UInt8 := [180, 0, 222, 21, 8, 96, 181, 0, 222, 42, 89, 180, 0, 72, 4, 96, 181, 0, 72, 42, 89, 180, 0, 78]
abbrev dktX2_skim_5 : List UInt8 := dkwX2_skim_5 ++ dktX2_skim_6
def dkwX2_skim_4 : List UInt8 := [161, 0, 7, 4, 167, 0, 4, 3, 54, 9, 25, 6, 89, 180, 0, 220, 4, 96, 181, 0, 220, 25, 6, 89]
abbrev dktX2_skim_4 : List UInt8 := dkwX2_skim_4 ++ dktX2_skim_5
def dkwX2_skim_3 : List UInt8 := [3, 182, 0, 150, 184, 0, 102, 25, 5, 182, 0, 195, 54, 8, 25, 5, 182, 0, 214, 25, 7, 180, 0, 217]
abbrev dktX2_skim_3 : List UInt8 := dkwX2_skim_3 ++ dktX2_skim_4
def dkwX2_skim_2 : List UInt8 := [180, 0, 211, 184, 0, 102, 25, 7, 3, 182, 0, 150, 27, 160, 0, 7, 4, 167, 0, 4, 3, 6, 25, 7]
abbrev dktX2_skim_2 : List UInt8 := dkwX2_skim_2 ++ dktX2_skim_3
def dkwX2_skim_1 : List UInt8 := [58, 7, 25, 6, 184, 0, 137, 25, 6, 182, 0, 208, 154, 0, 7, 4, 167, 0, 4, 3, 8, 25, 6]
abbrev dktX2_skim_1 : List UInt8 := dkwX2_skim_1 ++ dktX2_skim_2
def dkwX2_skim_0 : List UInt8 := [42, 27, 28, 29, 21, 4, 182, 0, 192, 58, 5, 42, 27, 182, 0, 129, 58, 6, 42, 28, 182, 0, 116]
abbrev dktX2_skim_0 : List UInt8 := dkwX2_skim_0 ++ dktX2_skim_1
theorem dksX2_skim_0 : cX2_skim.data.toList.drop 0 = dktX2_skim_0 := by decide +kernel
theorem dksX2_skim_1 : cX2_skim.data.toList.drop 23 = dktX2_skim_1 := dk_seg dksX2_skim_0 23 rfl rfl
theorem dksX2_skim_2 : cX2_skim.data.toList.drop 46 = dktX2_skim_2 := dk_seg dksX2_skim_1 23 rfl rfl
theorem dksX2_skim_3 : cX2_skim.data.toList.drop 70 = dktX2_skim_3 := dk_seg dksX2_skim_2 24 rfl rfl
theorem dksX2_skim_4 : cX2_skim.data.toList.drop 94 = dktX2_skim_4 := dk_seg dksX2_skim_3 24 rfl rfl
theorem dksX2_skim_5 : cX2_skim.data.toList.drop 118 = dktX2_skim_5 := dk_seg dksX2_skim_4 24 rfl rfl
theorem dksX2_skim_6 : cX2_skim.data.toList.drop 142 = dktX2_skim_6 := dk_seg dksX2_skim_5 24 rfl rfl
theorem dksX2_skim_7 : cX2_skim.data.toList.drop 164 = dktX2_skim_7 := dk_seg dksX2_skim_6 22 rfl rfl
theorem dksX2_skim_8 : cX2_skim.data.toList.drop 187 = dktX2_skim_8 := dk_seg dksX2_skim_7 23 rfl rfl
theorem dksX2_skim_9 : cX2_skim.data.toList.drop 211 = dktX2_skim_9 := dk_seg dksX2_skim_8 24 rfl rfl
theorem dX2_skim_0 : decode cX2_skim 0 = .ok (.aload_n 0, 1) := dk_42 (dk_at dksX2_skim_0 0 rfl rfl)
theorem dX2_skim_1 : decode cX2_skim 1 = .ok (.iload_n 1, 1) := dk_27 (dk_at dksX2_skim_0 1 rfl rfl)
theorem dX2_skim_2 : decode cX2_skim 2 = .ok (.iload_n 2, 1) := dk_28 (dk_at dksX2_skim_0 2 rfl rfl)
theorem dX2_skim_3 : decode cX2_skim 3 = .ok (.iload_n 3, 1) := dk_29 (dk_at dksX2_skim_0 3 rfl rfl)
theorem dX2_skim_4 : decode cX2_skim 4 = .ok (.iload 4, 2) := dk_21 4 (dk_at dksX2_skim_0 4 rfl rfl)
theorem dX2_skim_6 : decode cX2_skim 6 = .ok (.invokevirtual 192, 3) := dk_182 0 192 (dk_at dksX2_skim_0 6 rfl rfl)
theorem dX2_skim_9 : decode cX2_skim 9 = .ok (.astore 5, 2) := dk_58 5 (dk_at dksX2_skim_0 9 rfl rfl)
theorem dX2_skim_11 : decode cX2_skim 11 = .ok (.aload_n 0, 1) := dk_42 (dk_at dksX2_skim_0 11 rfl rfl)
theorem dX2_skim_12 : decode cX2_skim 12 = .ok (.iload_n 1, 1) := dk_27 (dk_at dksX2_skim_0 12 rfl rfl)
theorem dX2_skim_13 : decode cX2_skim 13 = .ok (.invokevirtual 129, 3) := dk_182 0 129 (dk_at dksX2_skim_0 13 rfl rfl)
theorem dX2_skim_16 : decode cX2_skim 16 = .ok (.astore 6, 2) := dk_58 6 (dk_at dksX2_skim_0 16 rfl rfl)
theorem dX2_skim_18 : decode cX2_skim 18 = .ok (.aload_n 0, 1) := dk_42 (dk_at dksX2_skim_0 18 rfl rfl)
theorem dX2_skim_19 : decode cX2_skim 19 = .ok (.iload_n 2, 1) := dk_28 (dk_at dksX2_skim_0 19 rfl rfl)
theorem dX2_skim_20 : decode cX2_skim 20 = .ok (.invokevirtual 116, 3) := dk_182 0 116 (dk_at dksX2_skim_0 20 rfl rfl)
theorem dX2_skim_23 : decode cX2_skim 23 = .ok (.astore 7, 2) := dk_58 7 (dk_at dksX2_skim_1 0 rfl rfl)
theorem dX2_skim_25 : decode cX2_skim 25 = .ok (.aload 6, 2) := dk_25 6 (dk_at dksX2_skim_1 2 rfl rfl)
theorem dX2_skim_27 : decode cX2_skim 27 = .ok (.invokestatic 137, 3) := dk_184 0 137 (dk_at dksX2_skim_1 4 rfl rfl)
theorem dX2_skim_30 : decode cX2_skim 30 = .ok (.aload 6, 2) := dk_25 6 (dk_at dksX2_skim_1 7 rfl rfl)
theorem dX2_skim_32 : decode cX2_skim 32 = .ok (.invokevirtual 208, 3) := dk_182 0 208 (dk_at dksX2_skim_1 9 rfl rfl)
theorem dX2_skim_35 : decode cX2_skim 35 = .ok (.ifCond .ne 7, 3) := dk_154 0 7 (dk_at dksX2_skim_1 12 rfl rfl)
theorem dX2_skim_38 : decode cX2_skim 38 = .ok (.iconst 1, 1) := dk_4 (dk_at dksX2_skim_1 15 rfl rfl)
theorem dX2_skim_39 : decode cX2_skim 39 = .ok (.goto 4, 3) := dk_167 0 4 (dk_at dksX2_skim_1 16 rfl rfl)
theorem dX2_skim_42 : decode cX2_skim 42 = .ok (.iconst 0, 1) := dk_3 (dk_at dksX2_skim_1 19 rfl rfl)
theorem dX2_skim_43 : decode cX2_skim 43 = .ok (.iconst 5, 1) := dk_8 (dk_at dksX2_skim_1 20 rfl rfl)
theorem dX2_skim_44 : decode cX2_skim 44 = .ok (.aload 6, 2) := dk_25 6 (dk_at dksX2_skim_1 21 rfl rfl)
theorem dX2_skim_46 : decode cX2_skim 46 = .ok (.getfield 211, 3) := dk_180 0 211 (dk_at dksX2_skim_2 0 rfl rfl)
theorem dX2_skim_49 : decode cX2_skim 49 = .ok (.invokestatic 102, 3) := dk_184 0 102 (dk_at dksX2_skim_2 3 rfl rfl)
theorem dX2_skim_52 : decode cX2_skim 52 = .ok (.aload 7, 2) := dk_25 7 (dk_at dksX2_skim_2 6 rfl rfl)
theorem dX2_skim_54 : decode cX2_skim 54 = .ok (.iconst 0, 1) := dk_3 (dk_at dksX2_skim_2 8 rfl rfl)
theorem dX2_skim_55 : decode cX2_skim 55 = .ok (.invokevirtual 150, 3) := dk_182 0 150 (dk_at dksX2_skim_2 9 rfl rfl)
theorem dX2_skim_58 : decode cX2_skim 58 = .ok (.iload_n 1, 1) := dk_27 (dk_at dksX2_skim_2 12 rfl rfl)
theorem dX2_skim_59 : decode cX2_skim 59 = .ok (.if_icmp .ne 7, 3) := dk_160 0 7 (dk_at dksX2_skim_2 13 rfl rfl)
theorem dX2_skim_62 : decode cX2_skim 62 = .ok (.iconst 1, 1) := dk_4 (dk_at dksX2_skim_2 16 rfl rfl)
theorem dX2_skim_63 : decode cX2_skim 63 = .ok (.goto 4, 3) := dk_167 0 4 (dk_at dksX2_skim_2 17 rfl rfl)
theorem dX2_skim_66 : decode cX2_skim 66 = .ok (.iconst 0, 1) := dk_3 (dk_at dksX2_skim_2 20 rfl rfl)
theorem dX2_skim_67 : decode cX2_skim 67 = .ok (.iconst 3, 1) := dk_6 (dk_at dksX2_skim_2 21 rfl rfl)
theorem dX2_skim_68 : decode cX2_skim 68 = .ok (.aload 7, 2) := dk_25 7 (dk_at dksX2_skim_2 22 rfl rfl)
theorem dX2_skim_70 : decode cX2_skim 70 = .ok (.iconst 0, 1) := dk_3 (dk_at dksX2_skim_3 0 rfl rfl)
theorem dX2_skim_71 : decode cX2_skim 71 = .ok (.invokevirtual 150, 3) := dk_182 0 150 (dk_at dksX2_skim_3 1 rfl rfl)
theorem dX2_skim_74 : decode cX2_skim 74 = .ok (.invokestatic 102, 3) := dk_184 0 102 (dk_at dksX2_skim_3 4 rfl rfl)
theorem dX2_skim_77 : decode cX2_skim 77 = .ok (.aload 5, 2) := dk_25 5 (dk_at dksX2_skim_3 7 rfl rfl)
theorem dX2_skim_79 : decode cX2_skim 79 = .ok (.invokevirtual 195, 3) := dk_182 0 195 (dk_at dksX2_skim_3 9 rfl rfl)
theorem dX2_skim_82 : decode cX2_skim 82 = .ok (.istore 8, 2) := dk_54 8 (dk_at dksX2_skim_3 12 rfl rfl)
theorem dX2_skim_84 : decode cX2_skim 84 = .ok (.aload 5, 2) := dk_25 5 (dk_at dksX2_skim_3 14 rfl rfl)
theorem dX2_skim_86 : decode cX2_skim 86 = .ok (.invokevirtual 214, 3) := dk_182 0 214 (dk_at dksX2_skim_3 16 rfl rfl)
theorem dX2_skim_89 : decode cX2_skim 89 = .ok (.aload 7, 2) := dk_25 7 (dk_at dksX2_skim_3 19 rfl rfl)
theorem dX2_skim_91 : decode cX2_skim 91 = .ok (.getfield 217, 3) := dk_180 0 217 (dk_at dksX2_skim_3 21 rfl rfl)
theorem dX2_skim_94 : decode cX2_skim 94 = .ok (.if_icmp .lt 7, 3) := dk_161 0 7 (dk_at dksX2_skim_4 0 rfl rfl)
theorem dX2_skim_97 : decode cX2_skim 97 = .ok (.iconst 1, 1) := dk_4 (dk_at dksX2_skim_4 3 rfl rfl)
theorem dX2_skim_98 : decode cX2_skim 98 = .ok (.goto 4, 3) := dk_167 0 4 (dk_at dksX2_skim_4 4 rfl rfl)
theorem dX2_skim_101 : decode cX2_skim 101 = .ok (.iconst 0, 1) := dk_3 (dk_at dksX2_skim_4 7 rfl rfl)
theorem dX2_skim_102 : decode cX2_skim 102 = .ok (.istore 9, 2) := dk_54 9 (dk_at dksX2_skim_4 8 rfl rfl)
theorem dX2_skim_104 : decode cX2_skim 104 = .ok (.aload 6, 2) := dk_25 6 (dk_at dksX2_skim_4 10 rfl rfl)
theorem dX2_skim_106 : decode cX2_skim 106 = .ok (.dup, 1) := dk_89 (dk_at dksX2_skim_4 12 rfl rfl)
theorem dX2_skim_107 : decode cX2_skim 107 = .ok (.getfield 220, 3) := dk_180 0 220 (dk_at dksX2_skim_4 13 rfl rfl)
theorem dX2_skim_110 : decode cX2_skim 110 = .ok (.iconst 1, 1) := dk_4 (dk_at dksX2_skim_4 16 rfl rfl)
theorem dX2_skim_111 : decode cX2_skim 111 = .ok (.iadd, 1) := dk_96 (dk_at dksX2_skim_4 17 rfl rfl)
theorem dX2_skim_112 : decode cX2_skim 112 = .ok (.putfield 220, 3) := dk_181 0 220 (dk_at dksX2_skim_4 18 rfl rfl)
theorem dX2_skim_115 : decode cX2_skim 115 = .ok (.aload 6, 2) := dk_25 6 (dk_at dksX2_skim_4 21 rfl rfl)
theorem dX2_skim_117 : decode cX2_skim 117 = .ok (.dup, 1) := dk_89 (dk_at dksX2_skim_4 23 rfl rfl)
theorem dX2_skim_118 : decode cX2_skim 118 = .ok (.getfield 222, 3) := dk_180 0 222 (dk_at dksX2_skim_5 0 rfl rfl)
theorem dX2_skim_121 : decode cX2_skim 121 = .ok (.iload 8, 2) := dk_21 8 (dk_at dksX2_skim_5 3 rfl rfl)
theorem dX2_skim_123 : decode cX2_skim 123 = .ok (.iadd, 1) := dk_96 (dk_at dksX2_skim_5 5 rfl rfl)
theorem dX2_skim_124 : decode cX2_skim 124 = .ok (.putfield 222, 3) := dk_181 0 222 (dk_at dksX2_skim_5 6 rfl rfl)
theorem dX2_skim_127 : decode cX2_skim 127 = .ok (.aload_n 0, 1) := dk_42 (dk_at dksX2_skim_5 9 rfl rfl)
theorem dX2_skim_128 : decode cX2_skim 128 = .ok (.dup, 1) := dk_89 (dk_at dksX2_skim_5 10 rfl rfl)
theorem dX2_skim_129 : decode cX2_skim 129 = .ok (.getfield 72, 3) := dk_180 0 72 (dk_at dksX2_skim_5 11 rfl rfl)
theorem dX2_skim_132 : decode cX2_skim 132 = .ok (.iconst 1, 1) := dk_4 (dk_at dksX2_skim_5 14 rfl rfl)
theorem dX2_skim_133 : decode cX2_skim 133 = .ok (.iadd, 1) := dk_96 (dk_at dksX2_skim_5 15 rfl rfl)
theorem dX2_skim_134 : decode cX2_skim 134 = .ok (.putfield 72, 3) := dk_181 0 72 (dk_at dksX2_skim_5 16 rfl rfl)
theorem dX2_skim_137 : decode cX2_skim 137 = .ok (.aload_n 0, 1) := dk_42 (dk_at dksX2_skim_5 19 rfl rfl)
theorem dX2_skim_138 : decode cX2_skim 138 = .ok (.dup, 1) := dk_89 (dk_at dksX2_skim_5 20 rfl rfl)
theorem dX2_skim_139 : decode cX2_skim 139 = .ok (.getfield 78, 3) := dk_180 0 78 (dk_at dksX2_skim_5 21 rfl rfl)
theorem dX2_skim_142 : decode cX2_skim 142 = .ok (.iload 8, 2) := dk_21 8 (dk_at dksX2_skim_6 0 rfl rfl)
theorem dX2_skim_144 : decode cX2_skim 144 = .ok (.iadd, 1) := dk_96 (dk_at dksX2_skim_6 2 rfl rfl)
theorem dX2_skim_145 : decode cX2_skim 145 = .ok (.putfield 78, 3) := dk_181 0 78 (dk_at dksX2_skim_6 3 rfl rfl)
theorem dX2_skim_148 : decode cX2_skim 148 = .ok (.aload 7, 2) := dk_25 7 (dk_at dksX2_skim_6 6 rfl rfl)
theorem dX2_skim_150 : decode cX2_skim 150 = .ok (.iload_n 1, 1) := dk_27 (dk_at dksX2_skim_6 8 rfl rfl)
theorem dX2_skim_151 : decode cX2_skim 151 = .ok (.iload 8, 2) := dk_21 8 (dk_at dksX2_skim_6 9 rfl rfl)
theorem dX2_skim_153 : decode cX2_skim 153 = .ok (.invokevirtual 225, 3) := dk_182 0 225 (dk_at dksX2_skim_6 11 rfl rfl)
theorem dX2_skim_156 : decode cX2_skim 156 = .ok (.iload 9, 2) := dk_21 9 (dk_at dksX2_skim_6 14 rfl rfl)
theorem dX2_skim_158 : decode cX2_skim 158 = .ok (.ifCond .eq 29, 3) := dk_153 0 29 (dk_at dksX2_skim_6 16 rfl rfl)
theorem dX2_skim_161 : decode cX2_skim 161 = .ok (.aload 6, 2) := dk_25 6 (dk_at dksX2_skim_6 19 rfl rfl)
theorem dX2_skim_163 : decode cX2_skim 163 = .ok (.iload_n 2, 1) := dk_28 (dk_at dksX2_skim_6 21 rfl rfl)
theorem dX2_skim_164 : decode cX2_skim 164 = .ok (.putfield 211, 3) := dk_181 0 211 (dk_at dksX2_skim_7 0 rfl rfl)
theorem dX2_skim_167 : decode cX2_skim 167 = .ok (.aload 6, 2) := dk_25 6 (dk_at dksX2_skim_7 3 rfl rfl)
theorem dX2_skim_169 : decode cX2_skim 169 = .ok (.iload 8, 2) := dk_21 8 (dk_at dksX2_skim_7 5 rfl rfl)
theorem dX2_skim_171 : decode cX2_skim 171 = .ok (.invokevirtual 179, 3) := dk_182 0 179 (dk_at dksX2_skim_7 7 rfl rfl)
theorem dX2_skim_174 : decode cX2_skim 174 = .ok (.aload_n 0, 1) := dk_42 (dk_at dksX2_skim_7 10 rfl rfl)
theorem dX2_skim_175 : decode cX2_skim 175 = .ok (.dup, 1) := dk_89 (dk_at dksX2_skim_7 11 rfl rfl)
theorem dX2_skim_176 : decode cX2_skim 176 = .ok (.getfield 75, 3) := dk_180 0 75 (dk_at dksX2_skim_7 12 rfl rfl)
theorem dX2_skim_179 : decode cX2_skim 179 = .ok (.iconst 1, 1) := dk_4 (dk_at dksX2_skim_7 15 rfl rfl)
theorem dX2_skim_180 : decode cX2_skim 180 = .ok (.iadd, 1) := dk_96 (dk_at dksX2_skim_7 16 rfl rfl)
theorem dX2_skim_181 : decode cX2_skim 181 = .ok (.putfield 75, 3) := dk_181 0 75 (dk_at dksX2_skim_7 17 rfl rfl)
theorem dX2_skim_184 : decode cX2_skim 184 = .ok (.iload 8, 2) := dk_21 8 (dk_at dksX2_skim_7 20 rfl rfl)
theorem dX2_skim_186 : decode cX2_skim 186 = .ok (.ireturn, 1) := dk_172 (dk_at dksX2_skim_7 22 rfl rfl)
theorem dX2_skim_187 : decode cX2_skim 187 = .ok (.aload 6, 2) := dk_25 6 (dk_at dksX2_skim_8 0 rfl rfl)
theorem dX2_skim_189 : decode cX2_skim 189 = .ok (.bipush (-2), 2) := dk_16 254 (dk_at dksX2_skim_8 2 rfl rfl)
theorem dX2_skim_191 : decode cX2_skim 191 = .ok (.putfield 211, 3) := dk_181 0 211 (dk_at dksX2_skim_8 4 rfl rfl)
theorem dX2_skim_194 : decode cX2_skim 194 = .ok (.aload 6, 2) := dk_25 6 (dk_at dksX2_skim_8 7 rfl rfl)
theorem dX2_skim_196 : decode cX2_skim 196 = .ok (.aload_n 0, 1) := dk_42 (dk_at dksX2_skim_8 9 rfl rfl)
theorem dX2_skim_197 : decode cX2_skim 197 = .ok (.getfield 62, 3) := dk_180 0 62 (dk_at dksX2_skim_8 10 rfl rfl)
theorem dX2_skim_200 : decode cX2_skim 200 = .ok (.putfield 126, 3) := dk_181 0 126 (dk_at dksX2_skim_8 13 rfl rfl)
theorem dX2_skim_203 : decode cX2_skim 203 = .ok (.aload 7, 2) := dk_25 7 (dk_at dksX2_skim_8 16 rfl rfl)
theorem dX2_skim_205 : decode cX2_skim 205 = .ok (.dup, 1) := dk_89 (dk_at dksX2_skim_8 18 rfl rfl)
theorem dX2_skim_206 : decode cX2_skim 206 = .ok (.getfield 228, 3) := dk_180 0 228 (dk_at dksX2_skim_8 19 rfl rfl)
theorem dX2_skim_209 : decode cX2_skim 209 = .ok (.iconst 1, 1) := dk_4 (dk_at dksX2_skim_8 22 rfl rfl)
theorem dX2_skim_210 : decode cX2_skim 210 = .ok (.iadd, 1) := dk_96 (dk_at dksX2_skim_8 23 rfl rfl)
theorem dX2_skim_211 : decode cX2_skim 211 = .ok (.putfield 228, 3) := dk_181 0 228 (dk_at dksX2_skim_9 0 rfl rfl)
theorem dX2_skim_214 : decode cX2_skim 214 = .ok (.aload_n 0, 1) := dk_42 (dk_at dksX2_skim_9 3 rfl rfl)
theorem dX2_skim_215 : decode cX2_skim 215 = .ok (.getfield 24, 3) := dk_180 0 24 (dk_at dksX2_skim_9 4 rfl rfl)
theorem dX2_skim_218 : decode cX2_skim 218 = .ok (.iload_n 1, 1) := dk_27 (dk_at dksX2_skim_9 7 rfl rfl)
theorem dX2_skim_219 : decode cX2_skim 219 = .ok (.invokestatic 231, 3) := dk_184 0 231 (dk_at dksX2_skim_9 8 rfl rfl)
theorem dX2_skim_222 : decode cX2_skim 222 = .ok (.invokevirtual 237, 3) := dk_182 0 237 (dk_at dksX2_skim_9 11 rfl rfl)
theorem dX2_skim_225 : decode cX2_skim 225 = .ok (.iload 8, 2) := dk_21 8 (dk_at dksX2_skim_9 14 rfl rfl)
theorem dX2_skim_227 : decode cX2_skim 227 = .ok (.ineg, 1) := dk_116 (dk_at dksX2_skim_9 16 rfl rfl)
theorem dX2_skim_228 : decode cX2_skim 228 = .ok (.ireturn, 1) := dk_172 (dk_at dksX2_skim_9 17 rfl rfl)
abbrev cX2_fetch : ByteArray := prog_6_method_18_code
def yX2_fetch : MethodName := ⟨RX2, "fetch", "(I)I"⟩
def dkwX2_fetch_1 : List UInt8 := [2, 181, 0, 211, 42, 182, 0, 241, 172]
abbrev dktX2_fetch_1 : List UInt8 := dkwX2_fetch_1 ++ []
def dkwX2_fetch_0 : List UInt8 := [42, 27, 182, 0, 129, 77, 44, 184, 0, 137, 44, 182, 0, 208, 16, 6, 42, 182, 0, 241, 184, 0, 102, 44]
abbrev dktX2_fetch_0 : List UInt8 := dkwX2_fetch_0 ++ dktX2_fetch_1
theorem dksX2_fetch_0 : cX2_fetch.data.toList.drop 0 = dktX2_fetch_0 := by decide +kernel
theorem dksX2_fetch_1 : cX2_fetch.data.toList.drop 24 = dktX2_fetch_1 := dk_seg dksX2_fetch_0 24 rfl rfl
theorem dX2_fetch_0 : decode cX2_fetch 0 = .ok (.aload_n 0, 1) := dk_42 (dk_at dksX2_fetch_0 0 rfl rfl)
theorem dX2_fetch_1 : decode cX2_fetch 1 = .ok (.iload_n 1, 1) := dk_27 (dk_at dksX2_fetch_0 1 rfl rfl)
theorem dX2_fetch_2 : decode cX2_fetch 2 = .ok (.invokevirtual 129, 3) := dk_182 0 129 (dk_at dksX2_fetch_0 2 rfl rfl)
theorem dX2_fetch_5 : decode cX2_fetch 5 = .ok (.astore_n 2, 1) := dk_77 (dk_at dksX2_fetch_0 5 rfl rfl)
theorem dX2_fetch_6 : decode cX2_fetch 6 = .ok (.aload_n 2, 1) := dk_44 (dk_at dksX2_fetch_0 6 rfl rfl)
theorem dX2_fetch_7 : decode cX2_fetch 7 = .ok (.invokestatic 137, 3) := dk_184 0 137 (dk_at dksX2_fetch_0 7 rfl rfl)
theorem dX2_fetch_10 : decode cX2_fetch 10 = .ok (.aload_n 2, 1) := dk_44 (dk_at dksX2_fetch_0 10 rfl rfl)
theorem dX2_fetch_11 : decode cX2_fetch 11 = .ok (.invokevirtual 208, 3) := dk_182 0 208 (dk_at dksX2_fetch_0 11 rfl rfl)
theorem dX2_fetch_14 : decode cX2_fetch 14 = .ok (.bipush 6, 2) := dk_16 6 (dk_at dksX2_fetch_0 14 rfl rfl)
theorem dX2_fetch_16 : decode cX2_fetch 16 = .ok (.aload_n 0, 1) := dk_42 (dk_at dksX2_fetch_0 16 rfl rfl)
theorem dX2_fetch_17 : decode cX2_fetch 17 = .ok (.invokevirtual 241, 3) := dk_182 0 241 (dk_at dksX2_fetch_0 17 rfl rfl)
theorem dX2_fetch_20 : decode cX2_fetch 20 = .ok (.invokestatic 102, 3) := dk_184 0 102 (dk_at dksX2_fetch_0 20 rfl rfl)
theorem dX2_fetch_23 : decode cX2_fetch 23 = .ok (.aload_n 2, 1) := dk_44 (dk_at dksX2_fetch_0 23 rfl rfl)
theorem dX2_fetch_24 : decode cX2_fetch 24 = .ok (.iconst (-1), 1) := dk_2 (dk_at dksX2_fetch_1 0 rfl rfl)
theorem dX2_fetch_25 : decode cX2_fetch 25 = .ok (.putfield 211, 3) := dk_181 0 211 (dk_at dksX2_fetch_1 1 rfl rfl)
theorem dX2_fetch_28 : decode cX2_fetch 28 = .ok (.aload_n 0, 1) := dk_42 (dk_at dksX2_fetch_1 4 rfl rfl)
theorem dX2_fetch_29 : decode cX2_fetch 29 = .ok (.invokevirtual 241, 3) := dk_182 0 241 (dk_at dksX2_fetch_1 5 rfl rfl)
theorem dX2_fetch_32 : decode cX2_fetch 32 = .ok (.ireturn, 1) := dk_172 (dk_at dksX2_fetch_1 8 rfl rfl)
abbrev cX2_away : ByteArray := prog_6_method_17_code
def yX2_away : MethodName := ⟨RX2, "away", "()I"⟩
def dkwX2_away_2 : List UInt8 := [167, 255, 222, 27, 172]
abbrev dktX2_away_2 : List UInt8 := dkwX2_away_2 ++ []
def dkwX2_away_1 : List UInt8 := [185, 0, 39, 1, 0, 192, 0, 43, 78, 27, 45, 182, 0, 208, 153, 0, 7, 4, 167, 0, 4, 3, 96, 60]
abbrev dktX2_away_1 : List UInt8 := dkwX2_away_1 ++ dktX2_away_2
def dkwX2_away_0 : List UInt8 := [3, 60, 42, 180, 0, 12, 182, 0, 29, 77, 44, 185, 0, 33, 1, 0, 153, 0, 31, 44]
abbrev dktX2_away_0 : List UInt8 := dkwX2_away_0 ++ dktX2_away_1
theorem dksX2_away_0 : cX2_away.data.toList.drop 0 = dktX2_away_0 := by decide +kernel
theorem dksX2_away_1 : cX2_away.data.toList.drop 20 = dktX2_away_1 := dk_seg dksX2_away_0 20 rfl rfl
theorem dksX2_away_2 : cX2_away.data.toList.drop 44 = dktX2_away_2 := dk_seg dksX2_away_1 24 rfl rfl
theorem dX2_away_0 : decode cX2_away 0 = .ok (.iconst 0, 1) := dk_3 (dk_at dksX2_away_0 0 rfl rfl)
theorem dX2_away_1 : decode cX2_away 1 = .ok (.istore_n 1, 1) := dk_60 (dk_at dksX2_away_0 1 rfl rfl)
theorem dX2_away_2 : decode cX2_away 2 = .ok (.aload_n 0, 1) := dk_42 (dk_at dksX2_away_0 2 rfl rfl)
theorem dX2_away_3 : decode cX2_away 3 = .ok (.getfield 12, 3) := dk_180 0 12 (dk_at dksX2_away_0 3 rfl rfl)
theorem dX2_away_6 : decode cX2_away 6 = .ok (.invokevirtual 29, 3) := dk_182 0 29 (dk_at dksX2_away_0 6 rfl rfl)
theorem dX2_away_9 : decode cX2_away 9 = .ok (.astore_n 2, 1) := dk_77 (dk_at dksX2_away_0 9 rfl rfl)
theorem dX2_away_10 : decode cX2_away 10 = .ok (.aload_n 2, 1) := dk_44 (dk_at dksX2_away_0 10 rfl rfl)
theorem dX2_away_11 : decode cX2_away 11 = .ok (.invokeinterface 33 1, 5) := by decide +kernel
theorem dX2_away_16 : decode cX2_away 16 = .ok (.ifCond .eq 31, 3) := dk_153 0 31 (dk_at dksX2_away_0 16 rfl rfl)
theorem dX2_away_19 : decode cX2_away 19 = .ok (.aload_n 2, 1) := dk_44 (dk_at dksX2_away_0 19 rfl rfl)
theorem dX2_away_20 : decode cX2_away 20 = .ok (.invokeinterface 39 1, 5) := by decide +kernel
theorem dX2_away_25 : decode cX2_away 25 = .ok (.checkcast 43, 3) := dk_192 0 43 (dk_at dksX2_away_1 5 rfl rfl)
theorem dX2_away_28 : decode cX2_away 28 = .ok (.astore_n 3, 1) := dk_78 (dk_at dksX2_away_1 8 rfl rfl)
theorem dX2_away_29 : decode cX2_away 29 = .ok (.iload_n 1, 1) := dk_27 (dk_at dksX2_away_1 9 rfl rfl)
theorem dX2_away_30 : decode cX2_away 30 = .ok (.aload_n 3, 1) := dk_45 (dk_at dksX2_away_1 10 rfl rfl)
theorem dX2_away_31 : decode cX2_away 31 = .ok (.invokevirtual 208, 3) := dk_182 0 208 (dk_at dksX2_away_1 11 rfl rfl)
theorem dX2_away_34 : decode cX2_away 34 = .ok (.ifCond .eq 7, 3) := dk_153 0 7 (dk_at dksX2_away_1 14 rfl rfl)
theorem dX2_away_37 : decode cX2_away 37 = .ok (.iconst 1, 1) := dk_4 (dk_at dksX2_away_1 17 rfl rfl)
theorem dX2_away_38 : decode cX2_away 38 = .ok (.goto 4, 3) := dk_167 0 4 (dk_at dksX2_away_1 18 rfl rfl)
theorem dX2_away_41 : decode cX2_away 41 = .ok (.iconst 0, 1) := dk_3 (dk_at dksX2_away_1 21 rfl rfl)
theorem dX2_away_42 : decode cX2_away 42 = .ok (.iadd, 1) := dk_96 (dk_at dksX2_away_1 22 rfl rfl)
theorem dX2_away_43 : decode cX2_away 43 = .ok (.istore_n 1, 1) := dk_60 (dk_at dksX2_away_1 23 rfl rfl)
theorem dX2_away_44 : decode cX2_away 44 = .ok (.goto (-34), 3) := dk_167 255 222 (dk_at dksX2_away_2 0 rfl rfl)
theorem dX2_away_47 : decode cX2_away 47 = .ok (.iload_n 1, 1) := dk_27 (dk_at dksX2_away_2 3 rfl rfl)
theorem dX2_away_48 : decode cX2_away 48 = .ok (.ireturn, 1) := dk_172 (dk_at dksX2_away_2 4 rfl rfl)
abbrev cX2_goDay : ByteArray := prog_6_method_19_code
def yX2_goDay : MethodName := ⟨RX2, "goDay", "()I"⟩
def dkwX2_goDay_4 : List UInt8 := [3, 181, 0, 169, 45, 3, 181, 0, 199, 167, 255, 227, 27, 172]
abbrev dktX2_goDay_4 : List UInt8 := dkwX2_goDay_4 ++ []
def dkwX2_goDay_3 : List UInt8 := [182, 0, 29, 77, 44, 185, 0, 33, 1, 0, 153, 0, 26, 44, 185, 0, 39, 1, 0, 192, 0, 43, 78, 45]
abbrev dktX2_goDay_3 : List UInt8 := dkwX2_goDay_3 ++ dktX2_goDay_4
def dkwX2_goDay_2 : List UInt8 := [180, 0, 141, 3, 182, 0, 145, 153, 0, 7, 4, 167, 0, 4, 3, 96, 60, 167, 255, 214, 42, 180, 0, 12]
abbrev dktX2_goDay_2 : List UInt8 := dkwX2_goDay_2 ++ dktX2_goDay_3
def dkwX2_goDay_1 : List UInt8 := [185, 0, 33, 1, 0, 153, 0, 39, 44, 185, 0, 39, 1, 0, 192, 0, 53, 78, 45, 182, 0, 244, 27, 45]
abbrev dktX2_goDay_1 : List UInt8 := dkwX2_goDay_1 ++ dktX2_goDay_2
def dkwX2_goDay_0 : List UInt8 := [42, 89, 180, 0, 62, 4, 96, 181, 0, 62, 3, 60, 42, 180, 0, 18, 182, 0, 29, 77, 44]
abbrev dktX2_goDay_0 : List UInt8 := dkwX2_goDay_0 ++ dktX2_goDay_1
theorem dksX2_goDay_0 : cX2_goDay.data.toList.drop 0 = dktX2_goDay_0 := by decide +kernel
theorem dksX2_goDay_1 : cX2_goDay.data.toList.drop 21 = dktX2_goDay_1 := dk_seg dksX2_goDay_0 21 rfl rfl
theorem dksX2_goDay_2 : cX2_goDay.data.toList.drop 45 = dktX2_goDay_2 := dk_seg dksX2_goDay_1 24 rfl rfl
theorem dksX2_goDay_3 : cX2_goDay.data.toList.drop 69 = dktX2_goDay_3 := dk_seg dksX2_goDay_2 24 rfl rfl
theorem dksX2_goDay_4 : cX2_goDay.data.toList.drop 93 = dktX2_goDay_4 := dk_seg dksX2_goDay_3 24 rfl rfl
theorem dX2_goDay_0 : decode cX2_goDay 0 = .ok (.aload_n 0, 1) := dk_42 (dk_at dksX2_goDay_0 0 rfl rfl)
theorem dX2_goDay_1 : decode cX2_goDay 1 = .ok (.dup, 1) := dk_89 (dk_at dksX2_goDay_0 1 rfl rfl)
theorem dX2_goDay_2 : decode cX2_goDay 2 = .ok (.getfield 62, 3) := dk_180 0 62 (dk_at dksX2_goDay_0 2 rfl rfl)
theorem dX2_goDay_5 : decode cX2_goDay 5 = .ok (.iconst 1, 1) := dk_4 (dk_at dksX2_goDay_0 5 rfl rfl)
theorem dX2_goDay_6 : decode cX2_goDay 6 = .ok (.iadd, 1) := dk_96 (dk_at dksX2_goDay_0 6 rfl rfl)
theorem dX2_goDay_7 : decode cX2_goDay 7 = .ok (.putfield 62, 3) := dk_181 0 62 (dk_at dksX2_goDay_0 7 rfl rfl)
theorem dX2_goDay_10 : decode cX2_goDay 10 = .ok (.iconst 0, 1) := dk_3 (dk_at dksX2_goDay_0 10 rfl rfl)
theorem dX2_goDay_11 : decode cX2_goDay 11 = .ok (.istore_n 1, 1) := dk_60 (dk_at dksX2_goDay_0 11 rfl rfl)
theorem dX2_goDay_12 : decode cX2_goDay 12 = .ok (.aload_n 0, 1) := dk_42 (dk_at dksX2_goDay_0 12 rfl rfl)
theorem dX2_goDay_13 : decode cX2_goDay 13 = .ok (.getfield 18, 3) := dk_180 0 18 (dk_at dksX2_goDay_0 13 rfl rfl)
theorem dX2_goDay_16 : decode cX2_goDay 16 = .ok (.invokevirtual 29, 3) := dk_182 0 29 (dk_at dksX2_goDay_0 16 rfl rfl)
theorem dX2_goDay_19 : decode cX2_goDay 19 = .ok (.astore_n 2, 1) := dk_77 (dk_at dksX2_goDay_0 19 rfl rfl)
theorem dX2_goDay_20 : decode cX2_goDay 20 = .ok (.aload_n 2, 1) := dk_44 (dk_at dksX2_goDay_0 20 rfl rfl)
theorem dX2_goDay_21 : decode cX2_goDay 21 = .ok (.invokeinterface 33 1, 5) := by decide +kernel
theorem dX2_goDay_26 : decode cX2_goDay 26 = .ok (.ifCond .eq 39, 3) := dk_153 0 39 (dk_at dksX2_goDay_1 5 rfl rfl)
theorem dX2_goDay_29 : decode cX2_goDay 29 = .ok (.aload_n 2, 1) := dk_44 (dk_at dksX2_goDay_1 8 rfl rfl)
theorem dX2_goDay_30 : decode cX2_goDay 30 = .ok (.invokeinterface 39 1, 5) := by decide +kernel
theorem dX2_goDay_35 : decode cX2_goDay 35 = .ok (.checkcast 53, 3) := dk_192 0 53 (dk_at dksX2_goDay_1 14 rfl rfl)
theorem dX2_goDay_38 : decode cX2_goDay 38 = .ok (.astore_n 3, 1) := dk_78 (dk_at dksX2_goDay_1 17 rfl rfl)
theorem dX2_goDay_39 : decode cX2_goDay 39 = .ok (.aload_n 3, 1) := dk_45 (dk_at dksX2_goDay_1 18 rfl rfl)
theorem dX2_goDay_40 : decode cX2_goDay 40 = .ok (.invokevirtual 244, 3) := dk_182 0 244 (dk_at dksX2_goDay_1 19 rfl rfl)
theorem dX2_goDay_43 : decode cX2_goDay 43 = .ok (.iload_n 1, 1) := dk_27 (dk_at dksX2_goDay_1 22 rfl rfl)
theorem dX2_goDay_44 : decode cX2_goDay 44 = .ok (.aload_n 3, 1) := dk_45 (dk_at dksX2_goDay_1 23 rfl rfl)
theorem dX2_goDay_45 : decode cX2_goDay 45 = .ok (.getfield 141, 3) := dk_180 0 141 (dk_at dksX2_goDay_2 0 rfl rfl)
theorem dX2_goDay_48 : decode cX2_goDay 48 = .ok (.iconst 0, 1) := dk_3 (dk_at dksX2_goDay_2 3 rfl rfl)
theorem dX2_goDay_49 : decode cX2_goDay 49 = .ok (.invokevirtual 145, 3) := dk_182 0 145 (dk_at dksX2_goDay_2 4 rfl rfl)
theorem dX2_goDay_52 : decode cX2_goDay 52 = .ok (.ifCond .eq 7, 3) := dk_153 0 7 (dk_at dksX2_goDay_2 7 rfl rfl)
theorem dX2_goDay_55 : decode cX2_goDay 55 = .ok (.iconst 1, 1) := dk_4 (dk_at dksX2_goDay_2 10 rfl rfl)
theorem dX2_goDay_56 : decode cX2_goDay 56 = .ok (.goto 4, 3) := dk_167 0 4 (dk_at dksX2_goDay_2 11 rfl rfl)
theorem dX2_goDay_59 : decode cX2_goDay 59 = .ok (.iconst 0, 1) := dk_3 (dk_at dksX2_goDay_2 14 rfl rfl)
theorem dX2_goDay_60 : decode cX2_goDay 60 = .ok (.iadd, 1) := dk_96 (dk_at dksX2_goDay_2 15 rfl rfl)
theorem dX2_goDay_61 : decode cX2_goDay 61 = .ok (.istore_n 1, 1) := dk_60 (dk_at dksX2_goDay_2 16 rfl rfl)
theorem dX2_goDay_62 : decode cX2_goDay 62 = .ok (.goto (-42), 3) := dk_167 255 214 (dk_at dksX2_goDay_2 17 rfl rfl)
theorem dX2_goDay_65 : decode cX2_goDay 65 = .ok (.aload_n 0, 1) := dk_42 (dk_at dksX2_goDay_2 20 rfl rfl)
theorem dX2_goDay_66 : decode cX2_goDay 66 = .ok (.getfield 12, 3) := dk_180 0 12 (dk_at dksX2_goDay_2 21 rfl rfl)
theorem dX2_goDay_69 : decode cX2_goDay 69 = .ok (.invokevirtual 29, 3) := dk_182 0 29 (dk_at dksX2_goDay_3 0 rfl rfl)
theorem dX2_goDay_72 : decode cX2_goDay 72 = .ok (.astore_n 2, 1) := dk_77 (dk_at dksX2_goDay_3 3 rfl rfl)
theorem dX2_goDay_73 : decode cX2_goDay 73 = .ok (.aload_n 2, 1) := dk_44 (dk_at dksX2_goDay_3 4 rfl rfl)
theorem dX2_goDay_74 : decode cX2_goDay 74 = .ok (.invokeinterface 33 1, 5) := by decide +kernel
theorem dX2_goDay_79 : decode cX2_goDay 79 = .ok (.ifCond .eq 26, 3) := dk_153 0 26 (dk_at dksX2_goDay_3 10 rfl rfl)
theorem dX2_goDay_82 : decode cX2_goDay 82 = .ok (.aload_n 2, 1) := dk_44 (dk_at dksX2_goDay_3 13 rfl rfl)
theorem dX2_goDay_83 : decode cX2_goDay 83 = .ok (.invokeinterface 39 1, 5) := by decide +kernel
theorem dX2_goDay_88 : decode cX2_goDay 88 = .ok (.checkcast 43, 3) := dk_192 0 43 (dk_at dksX2_goDay_3 19 rfl rfl)
theorem dX2_goDay_91 : decode cX2_goDay 91 = .ok (.astore_n 3, 1) := dk_78 (dk_at dksX2_goDay_3 22 rfl rfl)
theorem dX2_goDay_92 : decode cX2_goDay 92 = .ok (.aload_n 3, 1) := dk_45 (dk_at dksX2_goDay_3 23 rfl rfl)
theorem dX2_goDay_93 : decode cX2_goDay 93 = .ok (.iconst 0, 1) := dk_3 (dk_at dksX2_goDay_4 0 rfl rfl)
theorem dX2_goDay_94 : decode cX2_goDay 94 = .ok (.putfield 169, 3) := dk_181 0 169 (dk_at dksX2_goDay_4 1 rfl rfl)
theorem dX2_goDay_97 : decode cX2_goDay 97 = .ok (.aload_n 3, 1) := dk_45 (dk_at dksX2_goDay_4 4 rfl rfl)
theorem dX2_goDay_98 : decode cX2_goDay 98 = .ok (.iconst 0, 1) := dk_3 (dk_at dksX2_goDay_4 5 rfl rfl)
theorem dX2_goDay_99 : decode cX2_goDay 99 = .ok (.putfield 199, 3) := dk_181 0 199 (dk_at dksX2_goDay_4 6 rfl rfl)
theorem dX2_goDay_102 : decode cX2_goDay 102 = .ok (.goto (-29), 3) := dk_167 255 227 (dk_at dksX2_goDay_4 9 rfl rfl)
theorem dX2_goDay_105 : decode cX2_goDay 105 = .ok (.iload_n 1, 1) := dk_27 (dk_at dksX2_goDay_4 12 rfl rfl)
theorem dX2_goDay_106 : decode cX2_goDay 106 = .ok (.ireturn, 1) := dk_172 (dk_at dksX2_goDay_4 13 rfl rfl)
abbrev cX2_isRight : ByteArray := prog_6_method_29_code
def yX2_isRight : MethodName := ⟨RX2, "isRight", "()Z"⟩
def dkwX2_isRight_9 : List UInt8 := [172]
abbrev dktX2_isRight_9 : List UInt8 := dkwX2_isRight_9 ++ []
def dkwX2_isRight_8 : List UInt8 := [60, 167, 255, 189, 27, 153, 0, 18, 28, 42, 180, 0, 24, 182, 1, 27, 160, 0, 7, 4, 167, 0, 4, 3]
abbrev dktX2_isRight_8 : List UInt8 := dkwX2_isRight_8 ++ dktX2_isRight_9
def dkwX2_isRight_7 : List UInt8 := [42, 180, 0, 12, 21, 4, 182, 0, 93, 192, 0, 43, 182, 0, 208, 154, 0, 7, 4, 167, 0, 4, 3, 126]
abbrev dktX2_isRight_7 : List UInt8 := dkwX2_isRight_7 ++ dktX2_isRight_8
def dkwX2_isRight_6 : List UInt8 := [182, 1, 24, 54, 4, 27, 42, 180, 0, 12, 21, 4, 182, 0, 93, 192, 0, 43, 182, 0, 123, 153, 0, 25]
abbrev dktX2_isRight_6 : List UInt8 := dkwX2_isRight_6 ++ dktX2_isRight_7
def dkwX2_isRight_5 : List UInt8 := [182, 1, 23, 78, 45, 185, 0, 33, 1, 0, 153, 0, 64, 45, 185, 0, 39, 1, 0, 192, 0, 232]
abbrev dktX2_isRight_5 : List UInt8 := dkwX2_isRight_5 ++ dktX2_isRight_6
def dkwX2_isRight_4 : List UInt8 := [182, 1, 20, 153, 0, 7, 4, 167, 0, 4, 3, 126, 60, 167, 255, 207, 167, 255, 159, 42, 180, 0, 24]
abbrev dktX2_isRight_4 : List UInt8 := dkwX2_isRight_4 ++ dktX2_isRight_5
def dkwX2_isRight_3 : List UInt8 := [185, 0, 39, 1, 0, 192, 0, 53, 58, 6, 27, 25, 4, 182, 0, 123, 154, 0, 14, 42, 25, 4, 25, 6]
abbrev dktX2_isRight_3 : List UInt8 := dkwX2_isRight_3 ++ dktX2_isRight_4
def dkwX2_isRight_2 : List UInt8 := [96, 61, 42, 180, 0, 18, 182, 0, 29, 58, 5, 25, 5, 185, 0, 33, 1, 0, 153, 0, 45, 25, 5]
abbrev dktX2_isRight_2 : List UInt8 := dkwX2_isRight_2 ++ dktX2_isRight_3
def dkwX2_isRight_1 : List UInt8 := [185, 0, 39, 1, 0, 192, 0, 43, 58, 4, 28, 25, 4, 182, 0, 123, 153, 0, 7, 4, 167, 0, 4, 3]
abbrev dktX2_isRight_1 : List UInt8 := dkwX2_isRight_1 ++ dktX2_isRight_2
def dkwX2_isRight_0 : List UInt8 := [4, 60, 3, 61, 42, 180, 0, 12, 182, 0, 29, 78, 45, 185, 0, 33, 1, 0, 153, 0, 94, 45]
abbrev dktX2_isRight_0 : List UInt8 := dkwX2_isRight_0 ++ dktX2_isRight_1
theorem dksX2_isRight_0 : cX2_isRight.data.toList.drop 0 = dktX2_isRight_0 := by decide +kernel
theorem dksX2_isRight_1 : cX2_isRight.data.toList.drop 22 = dktX2_isRight_1 := dk_seg dksX2_isRight_0 22 rfl rfl
theorem dksX2_isRight_2 : cX2_isRight.data.toList.drop 46 = dktX2_isRight_2 := dk_seg dksX2_isRight_1 24 rfl rfl
theorem dksX2_isRight_3 : cX2_isRight.data.toList.drop 69 = dktX2_isRight_3 := dk_seg dksX2_isRight_2 23 rfl rfl
theorem dksX2_isRight_4 : cX2_isRight.data.toList.drop 93 = dktX2_isRight_4 := dk_seg dksX2_isRight_3 24 rfl rfl
theorem dksX2_isRight_5 : cX2_isRight.data.toList.drop 116 = dktX2_isRight_5 := dk_seg dksX2_isRight_4 23 rfl rfl
theorem dksX2_isRight_6 : cX2_isRight.data.toList.drop 138 = dktX2_isRight_6 := dk_seg dksX2_isRight_5 22 rfl rfl
theorem dksX2_isRight_7 : cX2_isRight.data.toList.drop 162 = dktX2_isRight_7 := dk_seg dksX2_isRight_6 24 rfl rfl
theorem dksX2_isRight_8 : cX2_isRight.data.toList.drop 186 = dktX2_isRight_8 := dk_seg dksX2_isRight_7 24 rfl rfl
theorem dksX2_isRight_9 : cX2_isRight.data.toList.drop 210 = dktX2_isRight_9 := dk_seg dksX2_isRight_8 24 rfl rfl
theorem dX2_isRight_0 : decode cX2_isRight 0 = .ok (.iconst 1, 1) := dk_4 (dk_at dksX2_isRight_0 0 rfl rfl)
theorem dX2_isRight_1 : decode cX2_isRight 1 = .ok (.istore_n 1, 1) := dk_60 (dk_at dksX2_isRight_0 1 rfl rfl)
theorem dX2_isRight_2 : decode cX2_isRight 2 = .ok (.iconst 0, 1) := dk_3 (dk_at dksX2_isRight_0 2 rfl rfl)
theorem dX2_isRight_3 : decode cX2_isRight 3 = .ok (.istore_n 2, 1) := dk_61 (dk_at dksX2_isRight_0 3 rfl rfl)
theorem dX2_isRight_4 : decode cX2_isRight 4 = .ok (.aload_n 0, 1) := dk_42 (dk_at dksX2_isRight_0 4 rfl rfl)
theorem dX2_isRight_5 : decode cX2_isRight 5 = .ok (.getfield 12, 3) := dk_180 0 12 (dk_at dksX2_isRight_0 5 rfl rfl)
theorem dX2_isRight_8 : decode cX2_isRight 8 = .ok (.invokevirtual 29, 3) := dk_182 0 29 (dk_at dksX2_isRight_0 8 rfl rfl)
theorem dX2_isRight_11 : decode cX2_isRight 11 = .ok (.astore_n 3, 1) := dk_78 (dk_at dksX2_isRight_0 11 rfl rfl)
theorem dX2_isRight_12 : decode cX2_isRight 12 = .ok (.aload_n 3, 1) := dk_45 (dk_at dksX2_isRight_0 12 rfl rfl)
theorem dX2_isRight_13 : decode cX2_isRight 13 = .ok (.invokeinterface 33 1, 5) := by decide +kernel
theorem dX2_isRight_18 : decode cX2_isRight 18 = .ok (.ifCond .eq 94, 3) := dk_153 0 94 (dk_at dksX2_isRight_0 18 rfl rfl)
theorem dX2_isRight_21 : decode cX2_isRight 21 = .ok (.aload_n 3, 1) := dk_45 (dk_at dksX2_isRight_0 21 rfl rfl)
theorem dX2_isRight_22 : decode cX2_isRight 22 = .ok (.invokeinterface 39 1, 5) := by decide +kernel
theorem dX2_isRight_27 : decode cX2_isRight 27 = .ok (.checkcast 43, 3) := dk_192 0 43 (dk_at dksX2_isRight_1 5 rfl rfl)
theorem dX2_isRight_30 : decode cX2_isRight 30 = .ok (.astore 4, 2) := dk_58 4 (dk_at dksX2_isRight_1 8 rfl rfl)
theorem dX2_isRight_32 : decode cX2_isRight 32 = .ok (.iload_n 2, 1) := dk_28 (dk_at dksX2_isRight_1 10 rfl rfl)
theorem dX2_isRight_33 : decode cX2_isRight 33 = .ok (.aload 4, 2) := dk_25 4 (dk_at dksX2_isRight_1 11 rfl rfl)
theorem dX2_isRight_35 : decode cX2_isRight 35 = .ok (.invokevirtual 123, 3) := dk_182 0 123 (dk_at dksX2_isRight_1 13 rfl rfl)
theorem dX2_isRight_38 : decode cX2_isRight 38 = .ok (.ifCond .eq 7, 3) := dk_153 0 7 (dk_at dksX2_isRight_1 16 rfl rfl)
theorem dX2_isRight_41 : decode cX2_isRight 41 = .ok (.iconst 1, 1) := dk_4 (dk_at dksX2_isRight_1 19 rfl rfl)
theorem dX2_isRight_42 : decode cX2_isRight 42 = .ok (.goto 4, 3) := dk_167 0 4 (dk_at dksX2_isRight_1 20 rfl rfl)
theorem dX2_isRight_45 : decode cX2_isRight 45 = .ok (.iconst 0, 1) := dk_3 (dk_at dksX2_isRight_1 23 rfl rfl)
theorem dX2_isRight_46 : decode cX2_isRight 46 = .ok (.iadd, 1) := dk_96 (dk_at dksX2_isRight_2 0 rfl rfl)
theorem dX2_isRight_47 : decode cX2_isRight 47 = .ok (.istore_n 2, 1) := dk_61 (dk_at dksX2_isRight_2 1 rfl rfl)
theorem dX2_isRight_48 : decode cX2_isRight 48 = .ok (.aload_n 0, 1) := dk_42 (dk_at dksX2_isRight_2 2 rfl rfl)
theorem dX2_isRight_49 : decode cX2_isRight 49 = .ok (.getfield 18, 3) := dk_180 0 18 (dk_at dksX2_isRight_2 3 rfl rfl)
theorem dX2_isRight_52 : decode cX2_isRight 52 = .ok (.invokevirtual 29, 3) := dk_182 0 29 (dk_at dksX2_isRight_2 6 rfl rfl)
theorem dX2_isRight_55 : decode cX2_isRight 55 = .ok (.astore 5, 2) := dk_58 5 (dk_at dksX2_isRight_2 9 rfl rfl)
theorem dX2_isRight_57 : decode cX2_isRight 57 = .ok (.aload 5, 2) := dk_25 5 (dk_at dksX2_isRight_2 11 rfl rfl)
theorem dX2_isRight_59 : decode cX2_isRight 59 = .ok (.invokeinterface 33 1, 5) := by decide +kernel
theorem dX2_isRight_64 : decode cX2_isRight 64 = .ok (.ifCond .eq 45, 3) := dk_153 0 45 (dk_at dksX2_isRight_2 18 rfl rfl)
theorem dX2_isRight_67 : decode cX2_isRight 67 = .ok (.aload 5, 2) := dk_25 5 (dk_at dksX2_isRight_2 21 rfl rfl)
theorem dX2_isRight_69 : decode cX2_isRight 69 = .ok (.invokeinterface 39 1, 5) := by decide +kernel
theorem dX2_isRight_74 : decode cX2_isRight 74 = .ok (.checkcast 53, 3) := dk_192 0 53 (dk_at dksX2_isRight_3 5 rfl rfl)
theorem dX2_isRight_77 : decode cX2_isRight 77 = .ok (.astore 6, 2) := dk_58 6 (dk_at dksX2_isRight_3 8 rfl rfl)
theorem dX2_isRight_79 : decode cX2_isRight 79 = .ok (.iload_n 1, 1) := dk_27 (dk_at dksX2_isRight_3 10 rfl rfl)
theorem dX2_isRight_80 : decode cX2_isRight 80 = .ok (.aload 4, 2) := dk_25 4 (dk_at dksX2_isRight_3 11 rfl rfl)
theorem dX2_isRight_82 : decode cX2_isRight 82 = .ok (.invokevirtual 123, 3) := dk_182 0 123 (dk_at dksX2_isRight_3 13 rfl rfl)
theorem dX2_isRight_85 : decode cX2_isRight 85 = .ok (.ifCond .ne 14, 3) := dk_154 0 14 (dk_at dksX2_isRight_3 16 rfl rfl)
theorem dX2_isRight_88 : decode cX2_isRight 88 = .ok (.aload_n 0, 1) := dk_42 (dk_at dksX2_isRight_3 19 rfl rfl)
theorem dX2_isRight_89 : decode cX2_isRight 89 = .ok (.aload 4, 2) := dk_25 4 (dk_at dksX2_isRight_3 20 rfl rfl)
theorem dX2_isRight_91 : decode cX2_isRight 91 = .ok (.aload 6, 2) := dk_25 6 (dk_at dksX2_isRight_3 22 rfl rfl)
theorem dX2_isRight_93 : decode cX2_isRight 93 = .ok (.invokevirtual 276, 3) := dk_182 1 20 (dk_at dksX2_isRight_4 0 rfl rfl)
theorem dX2_isRight_96 : decode cX2_isRight 96 = .ok (.ifCond .eq 7, 3) := dk_153 0 7 (dk_at dksX2_isRight_4 3 rfl rfl)
theorem dX2_isRight_99 : decode cX2_isRight 99 = .ok (.iconst 1, 1) := dk_4 (dk_at dksX2_isRight_4 6 rfl rfl)
theorem dX2_isRight_100 : decode cX2_isRight 100 = .ok (.goto 4, 3) := dk_167 0 4 (dk_at dksX2_isRight_4 7 rfl rfl)
theorem dX2_isRight_103 : decode cX2_isRight 103 = .ok (.iconst 0, 1) := dk_3 (dk_at dksX2_isRight_4 10 rfl rfl)
theorem dX2_isRight_104 : decode cX2_isRight 104 = .ok (.iand, 1) := dk_126 (dk_at dksX2_isRight_4 11 rfl rfl)
theorem dX2_isRight_105 : decode cX2_isRight 105 = .ok (.istore_n 1, 1) := dk_60 (dk_at dksX2_isRight_4 12 rfl rfl)
theorem dX2_isRight_106 : decode cX2_isRight 106 = .ok (.goto (-49), 3) := dk_167 255 207 (dk_at dksX2_isRight_4 13 rfl rfl)
theorem dX2_isRight_109 : decode cX2_isRight 109 = .ok (.goto (-97), 3) := dk_167 255 159 (dk_at dksX2_isRight_4 16 rfl rfl)
theorem dX2_isRight_112 : decode cX2_isRight 112 = .ok (.aload_n 0, 1) := dk_42 (dk_at dksX2_isRight_4 19 rfl rfl)
theorem dX2_isRight_113 : decode cX2_isRight 113 = .ok (.getfield 24, 3) := dk_180 0 24 (dk_at dksX2_isRight_4 20 rfl rfl)
theorem dX2_isRight_116 : decode cX2_isRight 116 = .ok (.invokevirtual 279, 3) := dk_182 1 23 (dk_at dksX2_isRight_5 0 rfl rfl)
theorem dX2_isRight_119 : decode cX2_isRight 119 = .ok (.astore_n 3, 1) := dk_78 (dk_at dksX2_isRight_5 3 rfl rfl)
theorem dX2_isRight_120 : decode cX2_isRight 120 = .ok (.aload_n 3, 1) := dk_45 (dk_at dksX2_isRight_5 4 rfl rfl)
theorem dX2_isRight_121 : decode cX2_isRight 121 = .ok (.invokeinterface 33 1, 5) := by decide +kernel
theorem dX2_isRight_126 : decode cX2_isRight 126 = .ok (.ifCond .eq 64, 3) := dk_153 0 64 (dk_at dksX2_isRight_5 10 rfl rfl)
theorem dX2_isRight_129 : decode cX2_isRight 129 = .ok (.aload_n 3, 1) := dk_45 (dk_at dksX2_isRight_5 13 rfl rfl)
theorem dX2_isRight_130 : decode cX2_isRight 130 = .ok (.invokeinterface 39 1, 5) := by decide +kernel
theorem dX2_isRight_135 : decode cX2_isRight 135 = .ok (.checkcast 232, 3) := dk_192 0 232 (dk_at dksX2_isRight_5 19 rfl rfl)
theorem dX2_isRight_138 : decode cX2_isRight 138 = .ok (.invokevirtual 280, 3) := dk_182 1 24 (dk_at dksX2_isRight_6 0 rfl rfl)
theorem dX2_isRight_141 : decode cX2_isRight 141 = .ok (.istore 4, 2) := dk_54 4 (dk_at dksX2_isRight_6 3 rfl rfl)
theorem dX2_isRight_143 : decode cX2_isRight 143 = .ok (.iload_n 1, 1) := dk_27 (dk_at dksX2_isRight_6 5 rfl rfl)
theorem dX2_isRight_144 : decode cX2_isRight 144 = .ok (.aload_n 0, 1) := dk_42 (dk_at dksX2_isRight_6 6 rfl rfl)
theorem dX2_isRight_145 : decode cX2_isRight 145 = .ok (.getfield 12, 3) := dk_180 0 12 (dk_at dksX2_isRight_6 7 rfl rfl)
theorem dX2_isRight_148 : decode cX2_isRight 148 = .ok (.iload 4, 2) := dk_21 4 (dk_at dksX2_isRight_6 10 rfl rfl)
theorem dX2_isRight_150 : decode cX2_isRight 150 = .ok (.invokevirtual 93, 3) := dk_182 0 93 (dk_at dksX2_isRight_6 12 rfl rfl)
theorem dX2_isRight_153 : decode cX2_isRight 153 = .ok (.checkcast 43, 3) := dk_192 0 43 (dk_at dksX2_isRight_6 15 rfl rfl)
theorem dX2_isRight_156 : decode cX2_isRight 156 = .ok (.invokevirtual 123, 3) := dk_182 0 123 (dk_at dksX2_isRight_6 18 rfl rfl)
theorem dX2_isRight_159 : decode cX2_isRight 159 = .ok (.ifCond .eq 25, 3) := dk_153 0 25 (dk_at dksX2_isRight_6 21 rfl rfl)
theorem dX2_isRight_162 : decode cX2_isRight 162 = .ok (.aload_n 0, 1) := dk_42 (dk_at dksX2_isRight_7 0 rfl rfl)
theorem dX2_isRight_163 : decode cX2_isRight 163 = .ok (.getfield 12, 3) := dk_180 0 12 (dk_at dksX2_isRight_7 1 rfl rfl)
theorem dX2_isRight_166 : decode cX2_isRight 166 = .ok (.iload 4, 2) := dk_21 4 (dk_at dksX2_isRight_7 4 rfl rfl)
theorem dX2_isRight_168 : decode cX2_isRight 168 = .ok (.invokevirtual 93, 3) := dk_182 0 93 (dk_at dksX2_isRight_7 6 rfl rfl)
theorem dX2_isRight_171 : decode cX2_isRight 171 = .ok (.checkcast 43, 3) := dk_192 0 43 (dk_at dksX2_isRight_7 9 rfl rfl)
theorem dX2_isRight_174 : decode cX2_isRight 174 = .ok (.invokevirtual 208, 3) := dk_182 0 208 (dk_at dksX2_isRight_7 12 rfl rfl)
theorem dX2_isRight_177 : decode cX2_isRight 177 = .ok (.ifCond .ne 7, 3) := dk_154 0 7 (dk_at dksX2_isRight_7 15 rfl rfl)
theorem dX2_isRight_180 : decode cX2_isRight 180 = .ok (.iconst 1, 1) := dk_4 (dk_at dksX2_isRight_7 18 rfl rfl)
theorem dX2_isRight_181 : decode cX2_isRight 181 = .ok (.goto 4, 3) := dk_167 0 4 (dk_at dksX2_isRight_7 19 rfl rfl)
theorem dX2_isRight_184 : decode cX2_isRight 184 = .ok (.iconst 0, 1) := dk_3 (dk_at dksX2_isRight_7 22 rfl rfl)
theorem dX2_isRight_185 : decode cX2_isRight 185 = .ok (.iand, 1) := dk_126 (dk_at dksX2_isRight_7 23 rfl rfl)
theorem dX2_isRight_186 : decode cX2_isRight 186 = .ok (.istore_n 1, 1) := dk_60 (dk_at dksX2_isRight_8 0 rfl rfl)
theorem dX2_isRight_187 : decode cX2_isRight 187 = .ok (.goto (-67), 3) := dk_167 255 189 (dk_at dksX2_isRight_8 1 rfl rfl)
theorem dX2_isRight_190 : decode cX2_isRight 190 = .ok (.iload_n 1, 1) := dk_27 (dk_at dksX2_isRight_8 4 rfl rfl)
theorem dX2_isRight_191 : decode cX2_isRight 191 = .ok (.ifCond .eq 18, 3) := dk_153 0 18 (dk_at dksX2_isRight_8 5 rfl rfl)
theorem dX2_isRight_194 : decode cX2_isRight 194 = .ok (.iload_n 2, 1) := dk_28 (dk_at dksX2_isRight_8 8 rfl rfl)
theorem dX2_isRight_195 : decode cX2_isRight 195 = .ok (.aload_n 0, 1) := dk_42 (dk_at dksX2_isRight_8 9 rfl rfl)
theorem dX2_isRight_196 : decode cX2_isRight 196 = .ok (.getfield 24, 3) := dk_180 0 24 (dk_at dksX2_isRight_8 10 rfl rfl)
theorem dX2_isRight_199 : decode cX2_isRight 199 = .ok (.invokevirtual 283, 3) := dk_182 1 27 (dk_at dksX2_isRight_8 13 rfl rfl)
theorem dX2_isRight_202 : decode cX2_isRight 202 = .ok (.if_icmp .ne 7, 3) := dk_160 0 7 (dk_at dksX2_isRight_8 16 rfl rfl)
theorem dX2_isRight_205 : decode cX2_isRight 205 = .ok (.iconst 1, 1) := dk_4 (dk_at dksX2_isRight_8 19 rfl rfl)
theorem dX2_isRight_206 : decode cX2_isRight 206 = .ok (.goto 4, 3) := dk_167 0 4 (dk_at dksX2_isRight_8 20 rfl rfl)
theorem dX2_isRight_209 : decode cX2_isRight 209 = .ok (.iconst 0, 1) := dk_3 (dk_at dksX2_isRight_8 23 rfl rfl)
theorem dX2_isRight_210 : decode cX2_isRight 210 = .ok (.ireturn, 1) := dk_172 (dk_at dksX2_isRight_9 0 rfl rfl)
abbrev cX2_isTwice : ByteArray := prog_6_method_28_code
def yX2_isTwice : MethodName := ⟨RX2, "isTwice", "(LSkipSchool$Stone;LSkipSchool$River;)Z"⟩
def dkwX2_isTwice_2 : List UInt8 := [182, 1, 17, 153, 0, 7, 4, 167, 0, 4, 3, 172]
abbrev dktX2_isTwice_2 : List UInt8 := dkwX2_isTwice_2 ++ []
def dkwX2_isTwice_1 : List UInt8 := [182, 0, 188, 182, 1, 17, 126, 54, 4, 21, 4, 153, 0, 21, 43, 44, 29, 16, 20, 182, 0, 188]
abbrev dktX2_isTwice_1 : List UInt8 := dkwX2_isTwice_1 ++ dktX2_isTwice_2
def dkwX2_isTwice_0 : List UInt8 := [43, 182, 1, 14, 62, 43, 44, 29, 4, 182, 0, 188, 182, 1, 17, 54, 4, 21, 4, 43, 44, 29, 16, 10]
abbrev dktX2_isTwice_0 : List UInt8 := dkwX2_isTwice_0 ++ dktX2_isTwice_1
theorem dksX2_isTwice_0 : cX2_isTwice.data.toList.drop 0 = dktX2_isTwice_0 := by decide +kernel
theorem dksX2_isTwice_1 : cX2_isTwice.data.toList.drop 24 = dktX2_isTwice_1 := dk_seg dksX2_isTwice_0 24 rfl rfl
theorem dksX2_isTwice_2 : cX2_isTwice.data.toList.drop 46 = dktX2_isTwice_2 := dk_seg dksX2_isTwice_1 22 rfl rfl
theorem dX2_isTwice_0 : decode cX2_isTwice 0 = .ok (.aload_n 1, 1) := dk_43 (dk_at dksX2_isTwice_0 0 rfl rfl)
theorem dX2_isTwice_1 : decode cX2_isTwice 1 = .ok (.invokevirtual 270, 3) := dk_182 1 14 (dk_at dksX2_isTwice_0 1 rfl rfl)
theorem dX2_isTwice_4 : decode cX2_isTwice 4 = .ok (.istore_n 3, 1) := dk_62 (dk_at dksX2_isTwice_0 4 rfl rfl)
theorem dX2_isTwice_5 : decode cX2_isTwice 5 = .ok (.aload_n 1, 1) := dk_43 (dk_at dksX2_isTwice_0 5 rfl rfl)
theorem dX2_isTwice_6 : decode cX2_isTwice 6 = .ok (.aload_n 2, 1) := dk_44 (dk_at dksX2_isTwice_0 6 rfl rfl)
theorem dX2_isTwice_7 : decode cX2_isTwice 7 = .ok (.iload_n 3, 1) := dk_29 (dk_at dksX2_isTwice_0 7 rfl rfl)
theorem dX2_isTwice_8 : decode cX2_isTwice 8 = .ok (.iconst 1, 1) := dk_4 (dk_at dksX2_isTwice_0 8 rfl rfl)
theorem dX2_isTwice_9 : decode cX2_isTwice 9 = .ok (.invokevirtual 188, 3) := dk_182 0 188 (dk_at dksX2_isTwice_0 9 rfl rfl)
theorem dX2_isTwice_12 : decode cX2_isTwice 12 = .ok (.invokevirtual 273, 3) := dk_182 1 17 (dk_at dksX2_isTwice_0 12 rfl rfl)
theorem dX2_isTwice_15 : decode cX2_isTwice 15 = .ok (.istore 4, 2) := dk_54 4 (dk_at dksX2_isTwice_0 15 rfl rfl)
theorem dX2_isTwice_17 : decode cX2_isTwice 17 = .ok (.iload 4, 2) := dk_21 4 (dk_at dksX2_isTwice_0 17 rfl rfl)
theorem dX2_isTwice_19 : decode cX2_isTwice 19 = .ok (.aload_n 1, 1) := dk_43 (dk_at dksX2_isTwice_0 19 rfl rfl)
theorem dX2_isTwice_20 : decode cX2_isTwice 20 = .ok (.aload_n 2, 1) := dk_44 (dk_at dksX2_isTwice_0 20 rfl rfl)
theorem dX2_isTwice_21 : decode cX2_isTwice 21 = .ok (.iload_n 3, 1) := dk_29 (dk_at dksX2_isTwice_0 21 rfl rfl)
theorem dX2_isTwice_22 : decode cX2_isTwice 22 = .ok (.bipush 10, 2) := dk_16 10 (dk_at dksX2_isTwice_0 22 rfl rfl)
theorem dX2_isTwice_24 : decode cX2_isTwice 24 = .ok (.invokevirtual 188, 3) := dk_182 0 188 (dk_at dksX2_isTwice_1 0 rfl rfl)
theorem dX2_isTwice_27 : decode cX2_isTwice 27 = .ok (.invokevirtual 273, 3) := dk_182 1 17 (dk_at dksX2_isTwice_1 3 rfl rfl)
theorem dX2_isTwice_30 : decode cX2_isTwice 30 = .ok (.iand, 1) := dk_126 (dk_at dksX2_isTwice_1 6 rfl rfl)
theorem dX2_isTwice_31 : decode cX2_isTwice 31 = .ok (.istore 4, 2) := dk_54 4 (dk_at dksX2_isTwice_1 7 rfl rfl)
theorem dX2_isTwice_33 : decode cX2_isTwice 33 = .ok (.iload 4, 2) := dk_21 4 (dk_at dksX2_isTwice_1 9 rfl rfl)
theorem dX2_isTwice_35 : decode cX2_isTwice 35 = .ok (.ifCond .eq 21, 3) := dk_153 0 21 (dk_at dksX2_isTwice_1 11 rfl rfl)
theorem dX2_isTwice_38 : decode cX2_isTwice 38 = .ok (.aload_n 1, 1) := dk_43 (dk_at dksX2_isTwice_1 14 rfl rfl)
theorem dX2_isTwice_39 : decode cX2_isTwice 39 = .ok (.aload_n 2, 1) := dk_44 (dk_at dksX2_isTwice_1 15 rfl rfl)
theorem dX2_isTwice_40 : decode cX2_isTwice 40 = .ok (.iload_n 3, 1) := dk_29 (dk_at dksX2_isTwice_1 16 rfl rfl)
theorem dX2_isTwice_41 : decode cX2_isTwice 41 = .ok (.bipush 20, 2) := dk_16 20 (dk_at dksX2_isTwice_1 17 rfl rfl)
theorem dX2_isTwice_43 : decode cX2_isTwice 43 = .ok (.invokevirtual 188, 3) := dk_182 0 188 (dk_at dksX2_isTwice_1 19 rfl rfl)
theorem dX2_isTwice_46 : decode cX2_isTwice 46 = .ok (.invokevirtual 273, 3) := dk_182 1 17 (dk_at dksX2_isTwice_2 0 rfl rfl)
theorem dX2_isTwice_49 : decode cX2_isTwice 49 = .ok (.ifCond .eq 7, 3) := dk_153 0 7 (dk_at dksX2_isTwice_2 3 rfl rfl)
theorem dX2_isTwice_52 : decode cX2_isTwice 52 = .ok (.iconst 1, 1) := dk_4 (dk_at dksX2_isTwice_2 6 rfl rfl)
theorem dX2_isTwice_53 : decode cX2_isTwice 53 = .ok (.goto 4, 3) := dk_167 0 4 (dk_at dksX2_isTwice_2 7 rfl rfl)
theorem dX2_isTwice_56 : decode cX2_isTwice 56 = .ok (.iconst 0, 1) := dk_3 (dk_at dksX2_isTwice_2 10 rfl rfl)
theorem dX2_isTwice_57 : decode cX2_isTwice 57 = .ok (.ireturn, 1) := dk_172 (dk_at dksX2_isTwice_2 11 rfl rfl)
abbrev cX2_bookingsOf : ByteArray := prog_6_method_12_code
def yX2_bookingsOf : MethodName := ⟨RX2, "bookingsOf", "(I)I"⟩
def dkwX2_bookingsOf_1 : List UInt8 := [185, 0, 39, 1, 0, 192, 0, 53, 58, 4, 28, 25, 4, 27, 182, 0, 166, 96, 61, 167, 255, 227, 28, 172]
abbrev dktX2_bookingsOf_1 : List UInt8 := dkwX2_bookingsOf_1 ++ []
def dkwX2_bookingsOf_0 : List UInt8 := [3, 61, 42, 180, 0, 18, 182, 0, 29, 78, 45, 185, 0, 33, 1, 0, 153, 0, 26, 45]
abbrev dktX2_bookingsOf_0 : List UInt8 := dkwX2_bookingsOf_0 ++ dktX2_bookingsOf_1
theorem dksX2_bookingsOf_0 : cX2_bookingsOf.data.toList.drop 0 = dktX2_bookingsOf_0 := by decide +kernel
theorem dksX2_bookingsOf_1 : cX2_bookingsOf.data.toList.drop 20 = dktX2_bookingsOf_1 := dk_seg dksX2_bookingsOf_0 20 rfl rfl
theorem dX2_bookingsOf_0 : decode cX2_bookingsOf 0 = .ok (.iconst 0, 1) := dk_3 (dk_at dksX2_bookingsOf_0 0 rfl rfl)
theorem dX2_bookingsOf_1 : decode cX2_bookingsOf 1 = .ok (.istore_n 2, 1) := dk_61 (dk_at dksX2_bookingsOf_0 1 rfl rfl)
theorem dX2_bookingsOf_2 : decode cX2_bookingsOf 2 = .ok (.aload_n 0, 1) := dk_42 (dk_at dksX2_bookingsOf_0 2 rfl rfl)
theorem dX2_bookingsOf_3 : decode cX2_bookingsOf 3 = .ok (.getfield 18, 3) := dk_180 0 18 (dk_at dksX2_bookingsOf_0 3 rfl rfl)
theorem dX2_bookingsOf_6 : decode cX2_bookingsOf 6 = .ok (.invokevirtual 29, 3) := dk_182 0 29 (dk_at dksX2_bookingsOf_0 6 rfl rfl)
theorem dX2_bookingsOf_9 : decode cX2_bookingsOf 9 = .ok (.astore_n 3, 1) := dk_78 (dk_at dksX2_bookingsOf_0 9 rfl rfl)
theorem dX2_bookingsOf_10 : decode cX2_bookingsOf 10 = .ok (.aload_n 3, 1) := dk_45 (dk_at dksX2_bookingsOf_0 10 rfl rfl)
theorem dX2_bookingsOf_11 : decode cX2_bookingsOf 11 = .ok (.invokeinterface 33 1, 5) := by decide +kernel
theorem dX2_bookingsOf_16 : decode cX2_bookingsOf 16 = .ok (.ifCond .eq 26, 3) := dk_153 0 26 (dk_at dksX2_bookingsOf_0 16 rfl rfl)
theorem dX2_bookingsOf_19 : decode cX2_bookingsOf 19 = .ok (.aload_n 3, 1) := dk_45 (dk_at dksX2_bookingsOf_0 19 rfl rfl)
theorem dX2_bookingsOf_20 : decode cX2_bookingsOf 20 = .ok (.invokeinterface 39 1, 5) := by decide +kernel
theorem dX2_bookingsOf_25 : decode cX2_bookingsOf 25 = .ok (.checkcast 53, 3) := dk_192 0 53 (dk_at dksX2_bookingsOf_1 5 rfl rfl)
theorem dX2_bookingsOf_28 : decode cX2_bookingsOf 28 = .ok (.astore 4, 2) := dk_58 4 (dk_at dksX2_bookingsOf_1 8 rfl rfl)
theorem dX2_bookingsOf_30 : decode cX2_bookingsOf 30 = .ok (.iload_n 2, 1) := dk_28 (dk_at dksX2_bookingsOf_1 10 rfl rfl)
theorem dX2_bookingsOf_31 : decode cX2_bookingsOf 31 = .ok (.aload 4, 2) := dk_25 4 (dk_at dksX2_bookingsOf_1 11 rfl rfl)
theorem dX2_bookingsOf_33 : decode cX2_bookingsOf 33 = .ok (.iload_n 1, 1) := dk_27 (dk_at dksX2_bookingsOf_1 13 rfl rfl)
theorem dX2_bookingsOf_34 : decode cX2_bookingsOf 34 = .ok (.invokevirtual 166, 3) := dk_182 0 166 (dk_at dksX2_bookingsOf_1 14 rfl rfl)
theorem dX2_bookingsOf_37 : decode cX2_bookingsOf 37 = .ok (.iadd, 1) := dk_96 (dk_at dksX2_bookingsOf_1 17 rfl rfl)
theorem dX2_bookingsOf_38 : decode cX2_bookingsOf 38 = .ok (.istore_n 2, 1) := dk_61 (dk_at dksX2_bookingsOf_1 18 rfl rfl)
theorem dX2_bookingsOf_39 : decode cX2_bookingsOf 39 = .ok (.goto (-29), 3) := dk_167 255 227 (dk_at dksX2_bookingsOf_1 19 rfl rfl)
theorem dX2_bookingsOf_42 : decode cX2_bookingsOf 42 = .ok (.iload_n 2, 1) := dk_28 (dk_at dksX2_bookingsOf_1 22 rfl rfl)
theorem dX2_bookingsOf_43 : decode cX2_bookingsOf 43 = .ok (.ireturn, 1) := dk_172 (dk_at dksX2_bookingsOf_1 23 rfl rfl)
abbrev cX2_riverOf : ByteArray := prog_6_method_27_code
def yX2_riverOf : MethodName := ⟨RX2, "riverOf", "(II)I"⟩
def dkwX2_riverOf_3 : List UInt8 := [172, 42, 27, 182, 1, 8, 172, 45, 180, 0, 228, 172, 187, 1, 11, 89, 183, 1, 13, 191]
abbrev dktX2_riverOf_3 : List UInt8 := dkwX2_riverOf_3 ++ []
def dkwX2_riverOf_2 : List UInt8 := [45, 180, 0, 217, 172, 45, 180, 0, 120, 172, 45, 182, 0, 160, 172, 45, 180, 1, 2, 172, 45, 180, 1, 5]
abbrev dktX2_riverOf_2 : List UInt8 := dkwX2_riverOf_2 ++ dktX2_riverOf_3
def dkwX2_riverOf_1 : List UInt8 := [170, 0, 0, 0, 77, 0, 0, 0, 0, 0, 0, 0, 6, 0, 0, 0, 41, 0, 0, 0, 46, 0, 0, 0, 51, 0, 0, 0, 56, 0, 0, 0, 61, 0, 0, 0, 66, 0, 0, 0, 72]
abbrev dktX2_riverOf_1 : List UInt8 := dkwX2_riverOf_1 ++ dktX2_riverOf_2
def dkwX2_riverOf_0 : List UInt8 := [42, 27, 182, 0, 116, 78, 28]
abbrev dktX2_riverOf_0 : List UInt8 := dkwX2_riverOf_0 ++ dktX2_riverOf_1
theorem dksX2_riverOf_0 : cX2_riverOf.data.toList.drop 0 = dktX2_riverOf_0 := by decide +kernel
theorem dksX2_riverOf_1 : cX2_riverOf.data.toList.drop 7 = dktX2_riverOf_1 := dk_seg dksX2_riverOf_0 7 rfl rfl
theorem dksX2_riverOf_2 : cX2_riverOf.data.toList.drop 48 = dktX2_riverOf_2 := dk_seg dksX2_riverOf_1 41 rfl rfl
theorem dksX2_riverOf_3 : cX2_riverOf.data.toList.drop 72 = dktX2_riverOf_3 := dk_seg dksX2_riverOf_2 24 rfl rfl
theorem dX2_riverOf_0 : decode cX2_riverOf 0 = .ok (.aload_n 0, 1) := dk_42 (dk_at dksX2_riverOf_0 0 rfl rfl)
theorem dX2_riverOf_1 : decode cX2_riverOf 1 = .ok (.iload_n 1, 1) := dk_27 (dk_at dksX2_riverOf_0 1 rfl rfl)
theorem dX2_riverOf_2 : decode cX2_riverOf 2 = .ok (.invokevirtual 116, 3) := dk_182 0 116 (dk_at dksX2_riverOf_0 2 rfl rfl)
theorem dX2_riverOf_5 : decode cX2_riverOf 5 = .ok (.astore_n 3, 1) := dk_78 (dk_at dksX2_riverOf_0 5 rfl rfl)
theorem dX2_riverOf_6 : decode cX2_riverOf 6 = .ok (.iload_n 2, 1) := dk_28 (dk_at dksX2_riverOf_0 6 rfl rfl)
theorem dX2_riverOf_7 : decode cX2_riverOf 7 = .ok (.tableswitch 77 0 6 #[41, 46, 51, 56, 61, 66, 72], 41) := by decide +kernel
theorem dX2_riverOf_48 : decode cX2_riverOf 48 = .ok (.aload_n 3, 1) := dk_45 (dk_at dksX2_riverOf_2 0 rfl rfl)
theorem dX2_riverOf_49 : decode cX2_riverOf 49 = .ok (.getfield 217, 3) := dk_180 0 217 (dk_at dksX2_riverOf_2 1 rfl rfl)
theorem dX2_riverOf_52 : decode cX2_riverOf 52 = .ok (.ireturn, 1) := dk_172 (dk_at dksX2_riverOf_2 4 rfl rfl)
theorem dX2_riverOf_53 : decode cX2_riverOf 53 = .ok (.aload_n 3, 1) := dk_45 (dk_at dksX2_riverOf_2 5 rfl rfl)
theorem dX2_riverOf_54 : decode cX2_riverOf 54 = .ok (.getfield 120, 3) := dk_180 0 120 (dk_at dksX2_riverOf_2 6 rfl rfl)
theorem dX2_riverOf_57 : decode cX2_riverOf 57 = .ok (.ireturn, 1) := dk_172 (dk_at dksX2_riverOf_2 9 rfl rfl)
theorem dX2_riverOf_58 : decode cX2_riverOf 58 = .ok (.aload_n 3, 1) := dk_45 (dk_at dksX2_riverOf_2 10 rfl rfl)
theorem dX2_riverOf_59 : decode cX2_riverOf 59 = .ok (.invokevirtual 160, 3) := dk_182 0 160 (dk_at dksX2_riverOf_2 11 rfl rfl)
theorem dX2_riverOf_62 : decode cX2_riverOf 62 = .ok (.ireturn, 1) := dk_172 (dk_at dksX2_riverOf_2 14 rfl rfl)
theorem dX2_riverOf_63 : decode cX2_riverOf 63 = .ok (.aload_n 3, 1) := dk_45 (dk_at dksX2_riverOf_2 15 rfl rfl)
theorem dX2_riverOf_64 : decode cX2_riverOf 64 = .ok (.getfield 258, 3) := dk_180 1 2 (dk_at dksX2_riverOf_2 16 rfl rfl)
theorem dX2_riverOf_67 : decode cX2_riverOf 67 = .ok (.ireturn, 1) := dk_172 (dk_at dksX2_riverOf_2 19 rfl rfl)
theorem dX2_riverOf_68 : decode cX2_riverOf 68 = .ok (.aload_n 3, 1) := dk_45 (dk_at dksX2_riverOf_2 20 rfl rfl)
theorem dX2_riverOf_69 : decode cX2_riverOf 69 = .ok (.getfield 261, 3) := dk_180 1 5 (dk_at dksX2_riverOf_2 21 rfl rfl)
theorem dX2_riverOf_72 : decode cX2_riverOf 72 = .ok (.ireturn, 1) := dk_172 (dk_at dksX2_riverOf_3 0 rfl rfl)
theorem dX2_riverOf_73 : decode cX2_riverOf 73 = .ok (.aload_n 0, 1) := dk_42 (dk_at dksX2_riverOf_3 1 rfl rfl)
theorem dX2_riverOf_74 : decode cX2_riverOf 74 = .ok (.iload_n 1, 1) := dk_27 (dk_at dksX2_riverOf_3 2 rfl rfl)
theorem dX2_riverOf_75 : decode cX2_riverOf 75 = .ok (.invokevirtual 264, 3) := dk_182 1 8 (dk_at dksX2_riverOf_3 3 rfl rfl)
theorem dX2_riverOf_78 : decode cX2_riverOf 78 = .ok (.ireturn, 1) := dk_172 (dk_at dksX2_riverOf_3 6 rfl rfl)
theorem dX2_riverOf_79 : decode cX2_riverOf 79 = .ok (.aload_n 3, 1) := dk_45 (dk_at dksX2_riverOf_3 7 rfl rfl)
theorem dX2_riverOf_80 : decode cX2_riverOf 80 = .ok (.getfield 228, 3) := dk_180 0 228 (dk_at dksX2_riverOf_3 8 rfl rfl)
theorem dX2_riverOf_83 : decode cX2_riverOf 83 = .ok (.ireturn, 1) := dk_172 (dk_at dksX2_riverOf_3 11 rfl rfl)
theorem dX2_riverOf_84 : decode cX2_riverOf 84 = .ok (.new 267, 3) := dk_187 1 11 (dk_at dksX2_riverOf_3 12 rfl rfl)
theorem dX2_riverOf_87 : decode cX2_riverOf 87 = .ok (.dup, 1) := dk_89 (dk_at dksX2_riverOf_3 15 rfl rfl)
theorem dX2_riverOf_88 : decode cX2_riverOf 88 = .ok (.invokespecial 269, 3) := dk_183 1 13 (dk_at dksX2_riverOf_3 16 rfl rfl)
theorem dX2_riverOf_91 : decode cX2_riverOf 91 = .ok (.athrow, 1) := dk_191 (dk_at dksX2_riverOf_3 19 rfl rfl)
abbrev cX2_awayAt : ByteArray := prog_6_method_26_code
def yX2_awayAt : MethodName := ⟨RX2, "awayAt", "(I)I"⟩
def dkwX2_awayAt_2 : List UInt8 := [3, 96, 61, 167, 255, 219, 28, 172]
abbrev dktX2_awayAt_2 : List UInt8 := dkwX2_awayAt_2 ++ []
def dkwX2_awayAt_1 : List UInt8 := [185, 0, 39, 1, 0, 192, 0, 43, 58, 4, 28, 25, 4, 180, 0, 211, 27, 160, 0, 7, 4, 167, 0, 4]
abbrev dktX2_awayAt_1 : List UInt8 := dkwX2_awayAt_1 ++ dktX2_awayAt_2
def dkwX2_awayAt_0 : List UInt8 := [3, 61, 42, 180, 0, 12, 182, 0, 29, 78, 45, 185, 0, 33, 1, 0, 153, 0, 34, 45]
abbrev dktX2_awayAt_0 : List UInt8 := dkwX2_awayAt_0 ++ dktX2_awayAt_1
theorem dksX2_awayAt_0 : cX2_awayAt.data.toList.drop 0 = dktX2_awayAt_0 := by decide +kernel
theorem dksX2_awayAt_1 : cX2_awayAt.data.toList.drop 20 = dktX2_awayAt_1 := dk_seg dksX2_awayAt_0 20 rfl rfl
theorem dksX2_awayAt_2 : cX2_awayAt.data.toList.drop 44 = dktX2_awayAt_2 := dk_seg dksX2_awayAt_1 24 rfl rfl
theorem dX2_awayAt_0 : decode cX2_awayAt 0 = .ok (.iconst 0, 1) := dk_3 (dk_at dksX2_awayAt_0 0 rfl rfl)
theorem dX2_awayAt_1 : decode cX2_awayAt 1 = .ok (.istore_n 2, 1) := dk_61 (dk_at dksX2_awayAt_0 1 rfl rfl)
theorem dX2_awayAt_2 : decode cX2_awayAt 2 = .ok (.aload_n 0, 1) := dk_42 (dk_at dksX2_awayAt_0 2 rfl rfl)
theorem dX2_awayAt_3 : decode cX2_awayAt 3 = .ok (.getfield 12, 3) := dk_180 0 12 (dk_at dksX2_awayAt_0 3 rfl rfl)
theorem dX2_awayAt_6 : decode cX2_awayAt 6 = .ok (.invokevirtual 29, 3) := dk_182 0 29 (dk_at dksX2_awayAt_0 6 rfl rfl)
theorem dX2_awayAt_9 : decode cX2_awayAt 9 = .ok (.astore_n 3, 1) := dk_78 (dk_at dksX2_awayAt_0 9 rfl rfl)
theorem dX2_awayAt_10 : decode cX2_awayAt 10 = .ok (.aload_n 3, 1) := dk_45 (dk_at dksX2_awayAt_0 10 rfl rfl)
theorem dX2_awayAt_11 : decode cX2_awayAt 11 = .ok (.invokeinterface 33 1, 5) := by decide +kernel
theorem dX2_awayAt_16 : decode cX2_awayAt 16 = .ok (.ifCond .eq 34, 3) := dk_153 0 34 (dk_at dksX2_awayAt_0 16 rfl rfl)
theorem dX2_awayAt_19 : decode cX2_awayAt 19 = .ok (.aload_n 3, 1) := dk_45 (dk_at dksX2_awayAt_0 19 rfl rfl)
theorem dX2_awayAt_20 : decode cX2_awayAt 20 = .ok (.invokeinterface 39 1, 5) := by decide +kernel
theorem dX2_awayAt_25 : decode cX2_awayAt 25 = .ok (.checkcast 43, 3) := dk_192 0 43 (dk_at dksX2_awayAt_1 5 rfl rfl)
theorem dX2_awayAt_28 : decode cX2_awayAt 28 = .ok (.astore 4, 2) := dk_58 4 (dk_at dksX2_awayAt_1 8 rfl rfl)
theorem dX2_awayAt_30 : decode cX2_awayAt 30 = .ok (.iload_n 2, 1) := dk_28 (dk_at dksX2_awayAt_1 10 rfl rfl)
theorem dX2_awayAt_31 : decode cX2_awayAt 31 = .ok (.aload 4, 2) := dk_25 4 (dk_at dksX2_awayAt_1 11 rfl rfl)
theorem dX2_awayAt_33 : decode cX2_awayAt 33 = .ok (.getfield 211, 3) := dk_180 0 211 (dk_at dksX2_awayAt_1 13 rfl rfl)
theorem dX2_awayAt_36 : decode cX2_awayAt 36 = .ok (.iload_n 1, 1) := dk_27 (dk_at dksX2_awayAt_1 16 rfl rfl)
theorem dX2_awayAt_37 : decode cX2_awayAt 37 = .ok (.if_icmp .ne 7, 3) := dk_160 0 7 (dk_at dksX2_awayAt_1 17 rfl rfl)
theorem dX2_awayAt_40 : decode cX2_awayAt 40 = .ok (.iconst 1, 1) := dk_4 (dk_at dksX2_awayAt_1 20 rfl rfl)
theorem dX2_awayAt_41 : decode cX2_awayAt 41 = .ok (.goto 4, 3) := dk_167 0 4 (dk_at dksX2_awayAt_1 21 rfl rfl)
theorem dX2_awayAt_44 : decode cX2_awayAt 44 = .ok (.iconst 0, 1) := dk_3 (dk_at dksX2_awayAt_2 0 rfl rfl)
theorem dX2_awayAt_45 : decode cX2_awayAt 45 = .ok (.iadd, 1) := dk_96 (dk_at dksX2_awayAt_2 1 rfl rfl)
theorem dX2_awayAt_46 : decode cX2_awayAt 46 = .ok (.istore_n 2, 1) := dk_61 (dk_at dksX2_awayAt_2 2 rfl rfl)
theorem dX2_awayAt_47 : decode cX2_awayAt 47 = .ok (.goto (-37), 3) := dk_167 255 219 (dk_at dksX2_awayAt_2 3 rfl rfl)
theorem dX2_awayAt_50 : decode cX2_awayAt 50 = .ok (.iload_n 2, 1) := dk_28 (dk_at dksX2_awayAt_2 6 rfl rfl)
theorem dX2_awayAt_51 : decode cX2_awayAt 51 = .ok (.ireturn, 1) := dk_172 (dk_at dksX2_awayAt_2 7 rfl rfl)
abbrev cX2_bestAngle : ByteArray := prog_6_method_20_code
def yX2_bestAngle : MethodName := ⟨RX2, "bestAngle", "(III)I"⟩
def dkwX2_bestAngle_2 : List UInt8 := [167, 0, 5, 21, 4, 54, 4, 132, 5, 1, 167, 255, 206, 21, 4, 172]
abbrev dktX2_bestAngle_2 : List UInt8 := dkwX2_bestAngle_2 ++ []
def dkwX2_bestAngle_1 : List UInt8 := [182, 0, 214, 54, 6, 21, 6, 42, 27, 28, 21, 4, 29, 182, 0, 192, 182, 0, 214, 164, 0, 8, 21, 5]
abbrev dktX2_bestAngle_1 : List UInt8 := dkwX2_bestAngle_1 ++ dktX2_bestAngle_2
def dkwX2_bestAngle_0 : List UInt8 := [3, 54, 4, 4, 54, 5, 21, 5, 16, 90, 163, 0, 49, 42, 27, 28, 21, 5, 29, 182, 0, 192]
abbrev dktX2_bestAngle_0 : List UInt8 := dkwX2_bestAngle_0 ++ dktX2_bestAngle_1
theorem dksX2_bestAngle_0 : cX2_bestAngle.data.toList.drop 0 = dktX2_bestAngle_0 := by decide +kernel
theorem dksX2_bestAngle_1 : cX2_bestAngle.data.toList.drop 22 = dktX2_bestAngle_1 := dk_seg dksX2_bestAngle_0 22 rfl rfl
theorem dksX2_bestAngle_2 : cX2_bestAngle.data.toList.drop 46 = dktX2_bestAngle_2 := dk_seg dksX2_bestAngle_1 24 rfl rfl
theorem dX2_bestAngle_0 : decode cX2_bestAngle 0 = .ok (.iconst 0, 1) := dk_3 (dk_at dksX2_bestAngle_0 0 rfl rfl)
theorem dX2_bestAngle_1 : decode cX2_bestAngle 1 = .ok (.istore 4, 2) := dk_54 4 (dk_at dksX2_bestAngle_0 1 rfl rfl)
theorem dX2_bestAngle_3 : decode cX2_bestAngle 3 = .ok (.iconst 1, 1) := dk_4 (dk_at dksX2_bestAngle_0 3 rfl rfl)
theorem dX2_bestAngle_4 : decode cX2_bestAngle 4 = .ok (.istore 5, 2) := dk_54 5 (dk_at dksX2_bestAngle_0 4 rfl rfl)
theorem dX2_bestAngle_6 : decode cX2_bestAngle 6 = .ok (.iload 5, 2) := dk_21 5 (dk_at dksX2_bestAngle_0 6 rfl rfl)
theorem dX2_bestAngle_8 : decode cX2_bestAngle 8 = .ok (.bipush 90, 2) := dk_16 90 (dk_at dksX2_bestAngle_0 8 rfl rfl)
theorem dX2_bestAngle_10 : decode cX2_bestAngle 10 = .ok (.if_icmp .gt 49, 3) := dk_163 0 49 (dk_at dksX2_bestAngle_0 10 rfl rfl)
theorem dX2_bestAngle_13 : decode cX2_bestAngle 13 = .ok (.aload_n 0, 1) := dk_42 (dk_at dksX2_bestAngle_0 13 rfl rfl)
theorem dX2_bestAngle_14 : decode cX2_bestAngle 14 = .ok (.iload_n 1, 1) := dk_27 (dk_at dksX2_bestAngle_0 14 rfl rfl)
theorem dX2_bestAngle_15 : decode cX2_bestAngle 15 = .ok (.iload_n 2, 1) := dk_28 (dk_at dksX2_bestAngle_0 15 rfl rfl)
theorem dX2_bestAngle_16 : decode cX2_bestAngle 16 = .ok (.iload 5, 2) := dk_21 5 (dk_at dksX2_bestAngle_0 16 rfl rfl)
theorem dX2_bestAngle_18 : decode cX2_bestAngle 18 = .ok (.iload_n 3, 1) := dk_29 (dk_at dksX2_bestAngle_0 18 rfl rfl)
theorem dX2_bestAngle_19 : decode cX2_bestAngle 19 = .ok (.invokevirtual 192, 3) := dk_182 0 192 (dk_at dksX2_bestAngle_0 19 rfl rfl)
theorem dX2_bestAngle_22 : decode cX2_bestAngle 22 = .ok (.invokevirtual 214, 3) := dk_182 0 214 (dk_at dksX2_bestAngle_1 0 rfl rfl)
theorem dX2_bestAngle_25 : decode cX2_bestAngle 25 = .ok (.istore 6, 2) := dk_54 6 (dk_at dksX2_bestAngle_1 3 rfl rfl)
theorem dX2_bestAngle_27 : decode cX2_bestAngle 27 = .ok (.iload 6, 2) := dk_21 6 (dk_at dksX2_bestAngle_1 5 rfl rfl)
theorem dX2_bestAngle_29 : decode cX2_bestAngle 29 = .ok (.aload_n 0, 1) := dk_42 (dk_at dksX2_bestAngle_1 7 rfl rfl)
theorem dX2_bestAngle_30 : decode cX2_bestAngle 30 = .ok (.iload_n 1, 1) := dk_27 (dk_at dksX2_bestAngle_1 8 rfl rfl)
theorem dX2_bestAngle_31 : decode cX2_bestAngle 31 = .ok (.iload_n 2, 1) := dk_28 (dk_at dksX2_bestAngle_1 9 rfl rfl)
theorem dX2_bestAngle_32 : decode cX2_bestAngle 32 = .ok (.iload 4, 2) := dk_21 4 (dk_at dksX2_bestAngle_1 10 rfl rfl)
theorem dX2_bestAngle_34 : decode cX2_bestAngle 34 = .ok (.iload_n 3, 1) := dk_29 (dk_at dksX2_bestAngle_1 12 rfl rfl)
theorem dX2_bestAngle_35 : decode cX2_bestAngle 35 = .ok (.invokevirtual 192, 3) := dk_182 0 192 (dk_at dksX2_bestAngle_1 13 rfl rfl)
theorem dX2_bestAngle_38 : decode cX2_bestAngle 38 = .ok (.invokevirtual 214, 3) := dk_182 0 214 (dk_at dksX2_bestAngle_1 16 rfl rfl)
theorem dX2_bestAngle_41 : decode cX2_bestAngle 41 = .ok (.if_icmp .le 8, 3) := dk_164 0 8 (dk_at dksX2_bestAngle_1 19 rfl rfl)
theorem dX2_bestAngle_44 : decode cX2_bestAngle 44 = .ok (.iload 5, 2) := dk_21 5 (dk_at dksX2_bestAngle_1 22 rfl rfl)
theorem dX2_bestAngle_46 : decode cX2_bestAngle 46 = .ok (.goto 5, 3) := dk_167 0 5 (dk_at dksX2_bestAngle_2 0 rfl rfl)
theorem dX2_bestAngle_49 : decode cX2_bestAngle 49 = .ok (.iload 4, 2) := dk_21 4 (dk_at dksX2_bestAngle_2 3 rfl rfl)
theorem dX2_bestAngle_51 : decode cX2_bestAngle 51 = .ok (.istore 4, 2) := dk_54 4 (dk_at dksX2_bestAngle_2 5 rfl rfl)
theorem dX2_bestAngle_53 : decode cX2_bestAngle 53 = .ok (.iinc 5 1, 3) := dk_132 5 1 (dk_at dksX2_bestAngle_2 7 rfl rfl)
theorem dX2_bestAngle_56 : decode cX2_bestAngle 56 = .ok (.goto (-50), 3) := dk_167 255 206 (dk_at dksX2_bestAngle_2 10 rfl rfl)
theorem dX2_bestAngle_59 : decode cX2_bestAngle 59 = .ok (.iload 4, 2) := dk_21 4 (dk_at dksX2_bestAngle_2 13 rfl rfl)
theorem dX2_bestAngle_61 : decode cX2_bestAngle 61 = .ok (.ireturn, 1) := dk_172 (dk_at dksX2_bestAngle_2 15 rfl rfl)
abbrev cX2_leastSpeed : ByteArray := prog_6_method_21_code
def yX2_leastSpeed : MethodName := ⟨RX2, "leastSpeed", "(III)I"⟩
def dkwX2_leastSpeed_1 : List UInt8 := [182, 0, 116, 180, 0, 217, 161, 0, 6, 21, 4, 172, 132, 4, 1, 167, 255, 220, 2, 172]
abbrev dktX2_leastSpeed_1 : List UInt8 := dkwX2_leastSpeed_1 ++ []
def dkwX2_leastSpeed_0 : List UInt8 := [4, 54, 4, 21, 4, 16, 20, 163, 0, 35, 42, 27, 28, 29, 21, 4, 182, 0, 192, 182, 0, 214, 42, 28]
abbrev dktX2_leastSpeed_0 : List UInt8 := dkwX2_leastSpeed_0 ++ dktX2_leastSpeed_1
theorem dksX2_leastSpeed_0 : cX2_leastSpeed.data.toList.drop 0 = dktX2_leastSpeed_0 := by decide +kernel
theorem dksX2_leastSpeed_1 : cX2_leastSpeed.data.toList.drop 24 = dktX2_leastSpeed_1 := dk_seg dksX2_leastSpeed_0 24 rfl rfl
theorem dX2_leastSpeed_0 : decode cX2_leastSpeed 0 = .ok (.iconst 1, 1) := dk_4 (dk_at dksX2_leastSpeed_0 0 rfl rfl)
theorem dX2_leastSpeed_1 : decode cX2_leastSpeed 1 = .ok (.istore 4, 2) := dk_54 4 (dk_at dksX2_leastSpeed_0 1 rfl rfl)
theorem dX2_leastSpeed_3 : decode cX2_leastSpeed 3 = .ok (.iload 4, 2) := dk_21 4 (dk_at dksX2_leastSpeed_0 3 rfl rfl)
theorem dX2_leastSpeed_5 : decode cX2_leastSpeed 5 = .ok (.bipush 20, 2) := dk_16 20 (dk_at dksX2_leastSpeed_0 5 rfl rfl)
theorem dX2_leastSpeed_7 : decode cX2_leastSpeed 7 = .ok (.if_icmp .gt 35, 3) := dk_163 0 35 (dk_at dksX2_leastSpeed_0 7 rfl rfl)
theorem dX2_leastSpeed_10 : decode cX2_leastSpeed 10 = .ok (.aload_n 0, 1) := dk_42 (dk_at dksX2_leastSpeed_0 10 rfl rfl)
theorem dX2_leastSpeed_11 : decode cX2_leastSpeed 11 = .ok (.iload_n 1, 1) := dk_27 (dk_at dksX2_leastSpeed_0 11 rfl rfl)
theorem dX2_leastSpeed_12 : decode cX2_leastSpeed 12 = .ok (.iload_n 2, 1) := dk_28 (dk_at dksX2_leastSpeed_0 12 rfl rfl)
theorem dX2_leastSpeed_13 : decode cX2_leastSpeed 13 = .ok (.iload_n 3, 1) := dk_29 (dk_at dksX2_leastSpeed_0 13 rfl rfl)
theorem dX2_leastSpeed_14 : decode cX2_leastSpeed 14 = .ok (.iload 4, 2) := dk_21 4 (dk_at dksX2_leastSpeed_0 14 rfl rfl)
theorem dX2_leastSpeed_16 : decode cX2_leastSpeed 16 = .ok (.invokevirtual 192, 3) := dk_182 0 192 (dk_at dksX2_leastSpeed_0 16 rfl rfl)
theorem dX2_leastSpeed_19 : decode cX2_leastSpeed 19 = .ok (.invokevirtual 214, 3) := dk_182 0 214 (dk_at dksX2_leastSpeed_0 19 rfl rfl)
theorem dX2_leastSpeed_22 : decode cX2_leastSpeed 22 = .ok (.aload_n 0, 1) := dk_42 (dk_at dksX2_leastSpeed_0 22 rfl rfl)
theorem dX2_leastSpeed_23 : decode cX2_leastSpeed 23 = .ok (.iload_n 2, 1) := dk_28 (dk_at dksX2_leastSpeed_0 23 rfl rfl)
theorem dX2_leastSpeed_24 : decode cX2_leastSpeed 24 = .ok (.invokevirtual 116, 3) := dk_182 0 116 (dk_at dksX2_leastSpeed_1 0 rfl rfl)
theorem dX2_leastSpeed_27 : decode cX2_leastSpeed 27 = .ok (.getfield 217, 3) := dk_180 0 217 (dk_at dksX2_leastSpeed_1 3 rfl rfl)
theorem dX2_leastSpeed_30 : decode cX2_leastSpeed 30 = .ok (.if_icmp .lt 6, 3) := dk_161 0 6 (dk_at dksX2_leastSpeed_1 6 rfl rfl)
theorem dX2_leastSpeed_33 : decode cX2_leastSpeed 33 = .ok (.iload 4, 2) := dk_21 4 (dk_at dksX2_leastSpeed_1 9 rfl rfl)
theorem dX2_leastSpeed_35 : decode cX2_leastSpeed 35 = .ok (.ireturn, 1) := dk_172 (dk_at dksX2_leastSpeed_1 11 rfl rfl)
theorem dX2_leastSpeed_36 : decode cX2_leastSpeed 36 = .ok (.iinc 4 1, 3) := dk_132 4 1 (dk_at dksX2_leastSpeed_1 12 rfl rfl)
theorem dX2_leastSpeed_39 : decode cX2_leastSpeed 39 = .ok (.goto (-36), 3) := dk_167 255 220 (dk_at dksX2_leastSpeed_1 15 rfl rfl)
theorem dX2_leastSpeed_42 : decode cX2_leastSpeed 42 = .ok (.iconst (-1), 1) := dk_2 (dk_at dksX2_leastSpeed_1 18 rfl rfl)
theorem dX2_leastSpeed_43 : decode cX2_leastSpeed 43 = .ok (.ireturn, 1) := dk_172 (dk_at dksX2_leastSpeed_1 19 rfl rfl)
abbrev cX2_ranked : ByteArray := prog_6_method_23_code
def yX2_ranked : MethodName := ⟨RX2, "ranked", "(II)I"⟩
def dkwX2_ranked_4 : List UInt8 := [2, 172]
abbrev dktX2_ranked_4 : List UInt8 := dkwX2_ranked_4 ++ []
def dkwX2_ranked_3 : List UInt8 := [3, 96, 54, 4, 132, 5, 1, 167, 255, 199, 21, 4, 28, 160, 0, 5, 29, 172, 132, 3, 1, 167, 255, 168]
abbrev dktX2_ranked_3 : List UInt8 := dkwX2_ranked_3 ++ dktX2_ranked_4
def dkwX2_ranked_2 : List UInt8 := [54, 6, 21, 4, 21, 6, 157, 0, 14, 21, 6, 154, 0, 13, 21, 5, 29, 162, 0, 7, 4, 167, 0, 4]
abbrev dktX2_ranked_2 : List UInt8 := dkwX2_ranked_2 ++ dktX2_ranked_3
def dkwX2_ranked_1 : List UInt8 := [180, 0, 12, 182, 0, 81, 162, 0, 51, 42, 21, 5, 27, 182, 0, 250, 42, 29, 27, 182, 0, 250, 100]
abbrev dktX2_ranked_1 : List UInt8 := dkwX2_ranked_1 ++ dktX2_ranked_2
def dkwX2_ranked_0 : List UInt8 := [3, 62, 29, 42, 180, 0, 12, 182, 0, 81, 162, 0, 83, 3, 54, 4, 3, 54, 5, 21, 5, 42]
abbrev dktX2_ranked_0 : List UInt8 := dkwX2_ranked_0 ++ dktX2_ranked_1
theorem dksX2_ranked_0 : cX2_ranked.data.toList.drop 0 = dktX2_ranked_0 := by decide +kernel
theorem dksX2_ranked_1 : cX2_ranked.data.toList.drop 22 = dktX2_ranked_1 := dk_seg dksX2_ranked_0 22 rfl rfl
theorem dksX2_ranked_2 : cX2_ranked.data.toList.drop 45 = dktX2_ranked_2 := dk_seg dksX2_ranked_1 23 rfl rfl
theorem dksX2_ranked_3 : cX2_ranked.data.toList.drop 69 = dktX2_ranked_3 := dk_seg dksX2_ranked_2 24 rfl rfl
theorem dksX2_ranked_4 : cX2_ranked.data.toList.drop 93 = dktX2_ranked_4 := dk_seg dksX2_ranked_3 24 rfl rfl
theorem dX2_ranked_0 : decode cX2_ranked 0 = .ok (.iconst 0, 1) := dk_3 (dk_at dksX2_ranked_0 0 rfl rfl)
theorem dX2_ranked_1 : decode cX2_ranked 1 = .ok (.istore_n 3, 1) := dk_62 (dk_at dksX2_ranked_0 1 rfl rfl)
theorem dX2_ranked_2 : decode cX2_ranked 2 = .ok (.iload_n 3, 1) := dk_29 (dk_at dksX2_ranked_0 2 rfl rfl)
theorem dX2_ranked_3 : decode cX2_ranked 3 = .ok (.aload_n 0, 1) := dk_42 (dk_at dksX2_ranked_0 3 rfl rfl)
theorem dX2_ranked_4 : decode cX2_ranked 4 = .ok (.getfield 12, 3) := dk_180 0 12 (dk_at dksX2_ranked_0 4 rfl rfl)
theorem dX2_ranked_7 : decode cX2_ranked 7 = .ok (.invokevirtual 81, 3) := dk_182 0 81 (dk_at dksX2_ranked_0 7 rfl rfl)
theorem dX2_ranked_10 : decode cX2_ranked 10 = .ok (.if_icmp .ge 83, 3) := dk_162 0 83 (dk_at dksX2_ranked_0 10 rfl rfl)
theorem dX2_ranked_13 : decode cX2_ranked 13 = .ok (.iconst 0, 1) := dk_3 (dk_at dksX2_ranked_0 13 rfl rfl)
theorem dX2_ranked_14 : decode cX2_ranked 14 = .ok (.istore 4, 2) := dk_54 4 (dk_at dksX2_ranked_0 14 rfl rfl)
theorem dX2_ranked_16 : decode cX2_ranked 16 = .ok (.iconst 0, 1) := dk_3 (dk_at dksX2_ranked_0 16 rfl rfl)
theorem dX2_ranked_17 : decode cX2_ranked 17 = .ok (.istore 5, 2) := dk_54 5 (dk_at dksX2_ranked_0 17 rfl rfl)
theorem dX2_ranked_19 : decode cX2_ranked 19 = .ok (.iload 5, 2) := dk_21 5 (dk_at dksX2_ranked_0 19 rfl rfl)
theorem dX2_ranked_21 : decode cX2_ranked 21 = .ok (.aload_n 0, 1) := dk_42 (dk_at dksX2_ranked_0 21 rfl rfl)
theorem dX2_ranked_22 : decode cX2_ranked 22 = .ok (.getfield 12, 3) := dk_180 0 12 (dk_at dksX2_ranked_1 0 rfl rfl)
theorem dX2_ranked_25 : decode cX2_ranked 25 = .ok (.invokevirtual 81, 3) := dk_182 0 81 (dk_at dksX2_ranked_1 3 rfl rfl)
theorem dX2_ranked_28 : decode cX2_ranked 28 = .ok (.if_icmp .ge 51, 3) := dk_162 0 51 (dk_at dksX2_ranked_1 6 rfl rfl)
theorem dX2_ranked_31 : decode cX2_ranked 31 = .ok (.aload_n 0, 1) := dk_42 (dk_at dksX2_ranked_1 9 rfl rfl)
theorem dX2_ranked_32 : decode cX2_ranked 32 = .ok (.iload 5, 2) := dk_21 5 (dk_at dksX2_ranked_1 10 rfl rfl)
theorem dX2_ranked_34 : decode cX2_ranked 34 = .ok (.iload_n 1, 1) := dk_27 (dk_at dksX2_ranked_1 12 rfl rfl)
theorem dX2_ranked_35 : decode cX2_ranked 35 = .ok (.invokevirtual 250, 3) := dk_182 0 250 (dk_at dksX2_ranked_1 13 rfl rfl)
theorem dX2_ranked_38 : decode cX2_ranked 38 = .ok (.aload_n 0, 1) := dk_42 (dk_at dksX2_ranked_1 16 rfl rfl)
theorem dX2_ranked_39 : decode cX2_ranked 39 = .ok (.iload_n 3, 1) := dk_29 (dk_at dksX2_ranked_1 17 rfl rfl)
theorem dX2_ranked_40 : decode cX2_ranked 40 = .ok (.iload_n 1, 1) := dk_27 (dk_at dksX2_ranked_1 18 rfl rfl)
theorem dX2_ranked_41 : decode cX2_ranked 41 = .ok (.invokevirtual 250, 3) := dk_182 0 250 (dk_at dksX2_ranked_1 19 rfl rfl)
theorem dX2_ranked_44 : decode cX2_ranked 44 = .ok (.isub, 1) := dk_100 (dk_at dksX2_ranked_1 22 rfl rfl)
theorem dX2_ranked_45 : decode cX2_ranked 45 = .ok (.istore 6, 2) := dk_54 6 (dk_at dksX2_ranked_2 0 rfl rfl)
theorem dX2_ranked_47 : decode cX2_ranked 47 = .ok (.iload 4, 2) := dk_21 4 (dk_at dksX2_ranked_2 2 rfl rfl)
theorem dX2_ranked_49 : decode cX2_ranked 49 = .ok (.iload 6, 2) := dk_21 6 (dk_at dksX2_ranked_2 4 rfl rfl)
theorem dX2_ranked_51 : decode cX2_ranked 51 = .ok (.ifCond .gt 14, 3) := dk_157 0 14 (dk_at dksX2_ranked_2 6 rfl rfl)
theorem dX2_ranked_54 : decode cX2_ranked 54 = .ok (.iload 6, 2) := dk_21 6 (dk_at dksX2_ranked_2 9 rfl rfl)
theorem dX2_ranked_56 : decode cX2_ranked 56 = .ok (.ifCond .ne 13, 3) := dk_154 0 13 (dk_at dksX2_ranked_2 11 rfl rfl)
theorem dX2_ranked_59 : decode cX2_ranked 59 = .ok (.iload 5, 2) := dk_21 5 (dk_at dksX2_ranked_2 14 rfl rfl)
theorem dX2_ranked_61 : decode cX2_ranked 61 = .ok (.iload_n 3, 1) := dk_29 (dk_at dksX2_ranked_2 16 rfl rfl)
theorem dX2_ranked_62 : decode cX2_ranked 62 = .ok (.if_icmp .ge 7, 3) := dk_162 0 7 (dk_at dksX2_ranked_2 17 rfl rfl)
theorem dX2_ranked_65 : decode cX2_ranked 65 = .ok (.iconst 1, 1) := dk_4 (dk_at dksX2_ranked_2 20 rfl rfl)
theorem dX2_ranked_66 : decode cX2_ranked 66 = .ok (.goto 4, 3) := dk_167 0 4 (dk_at dksX2_ranked_2 21 rfl rfl)
theorem dX2_ranked_69 : decode cX2_ranked 69 = .ok (.iconst 0, 1) := dk_3 (dk_at dksX2_ranked_3 0 rfl rfl)
theorem dX2_ranked_70 : decode cX2_ranked 70 = .ok (.iadd, 1) := dk_96 (dk_at dksX2_ranked_3 1 rfl rfl)
theorem dX2_ranked_71 : decode cX2_ranked 71 = .ok (.istore 4, 2) := dk_54 4 (dk_at dksX2_ranked_3 2 rfl rfl)
theorem dX2_ranked_73 : decode cX2_ranked 73 = .ok (.iinc 5 1, 3) := dk_132 5 1 (dk_at dksX2_ranked_3 4 rfl rfl)
theorem dX2_ranked_76 : decode cX2_ranked 76 = .ok (.goto (-57), 3) := dk_167 255 199 (dk_at dksX2_ranked_3 7 rfl rfl)
theorem dX2_ranked_79 : decode cX2_ranked 79 = .ok (.iload 4, 2) := dk_21 4 (dk_at dksX2_ranked_3 10 rfl rfl)
theorem dX2_ranked_81 : decode cX2_ranked 81 = .ok (.iload_n 2, 1) := dk_28 (dk_at dksX2_ranked_3 12 rfl rfl)
theorem dX2_ranked_82 : decode cX2_ranked 82 = .ok (.if_icmp .ne 5, 3) := dk_160 0 5 (dk_at dksX2_ranked_3 13 rfl rfl)
theorem dX2_ranked_85 : decode cX2_ranked 85 = .ok (.iload_n 3, 1) := dk_29 (dk_at dksX2_ranked_3 16 rfl rfl)
theorem dX2_ranked_86 : decode cX2_ranked 86 = .ok (.ireturn, 1) := dk_172 (dk_at dksX2_ranked_3 17 rfl rfl)
theorem dX2_ranked_87 : decode cX2_ranked 87 = .ok (.iinc 3 1, 3) := dk_132 3 1 (dk_at dksX2_ranked_3 18 rfl rfl)
theorem dX2_ranked_90 : decode cX2_ranked 90 = .ok (.goto (-88), 3) := dk_167 255 168 (dk_at dksX2_ranked_3 21 rfl rfl)
theorem dX2_ranked_93 : decode cX2_ranked 93 = .ok (.iconst (-1), 1) := dk_2 (dk_at dksX2_ranked_4 0 rfl rfl)
theorem dX2_ranked_94 : decode cX2_ranked 94 = .ok (.ireturn, 1) := dk_172 (dk_at dksX2_ranked_4 1 rfl rfl)
abbrev cX2_measure : ByteArray := prog_6_method_22_code
def yX2_measure : MethodName := ⟨RX2, "measure", "(II)I"⟩
def dkwX2_measure_1 : List UInt8 := [16, 8, 167, 0, 4, 8, 182, 0, 247, 172]
abbrev dktX2_measure_1 : List UInt8 := dkwX2_measure_1 ++ []
def dkwX2_measure_0 : List UInt8 := [42, 180, 0, 12, 27, 182, 0, 93, 192, 0, 43, 28, 154, 0, 7, 5, 167, 0, 14, 28, 4, 160, 0, 8]
abbrev dktX2_measure_0 : List UInt8 := dkwX2_measure_0 ++ dktX2_measure_1
theorem dksX2_measure_0 : cX2_measure.data.toList.drop 0 = dktX2_measure_0 := by decide +kernel
theorem dksX2_measure_1 : cX2_measure.data.toList.drop 24 = dktX2_measure_1 := dk_seg dksX2_measure_0 24 rfl rfl
theorem dX2_measure_0 : decode cX2_measure 0 = .ok (.aload_n 0, 1) := dk_42 (dk_at dksX2_measure_0 0 rfl rfl)
theorem dX2_measure_1 : decode cX2_measure 1 = .ok (.getfield 12, 3) := dk_180 0 12 (dk_at dksX2_measure_0 1 rfl rfl)
theorem dX2_measure_4 : decode cX2_measure 4 = .ok (.iload_n 1, 1) := dk_27 (dk_at dksX2_measure_0 4 rfl rfl)
theorem dX2_measure_5 : decode cX2_measure 5 = .ok (.invokevirtual 93, 3) := dk_182 0 93 (dk_at dksX2_measure_0 5 rfl rfl)
theorem dX2_measure_8 : decode cX2_measure 8 = .ok (.checkcast 43, 3) := dk_192 0 43 (dk_at dksX2_measure_0 8 rfl rfl)
theorem dX2_measure_11 : decode cX2_measure 11 = .ok (.iload_n 2, 1) := dk_28 (dk_at dksX2_measure_0 11 rfl rfl)
theorem dX2_measure_12 : decode cX2_measure 12 = .ok (.ifCond .ne 7, 3) := dk_154 0 7 (dk_at dksX2_measure_0 12 rfl rfl)
theorem dX2_measure_15 : decode cX2_measure 15 = .ok (.iconst 2, 1) := dk_5 (dk_at dksX2_measure_0 15 rfl rfl)
theorem dX2_measure_16 : decode cX2_measure 16 = .ok (.goto 14, 3) := dk_167 0 14 (dk_at dksX2_measure_0 16 rfl rfl)
theorem dX2_measure_19 : decode cX2_measure 19 = .ok (.iload_n 2, 1) := dk_28 (dk_at dksX2_measure_0 19 rfl rfl)
theorem dX2_measure_20 : decode cX2_measure 20 = .ok (.iconst 1, 1) := dk_4 (dk_at dksX2_measure_0 20 rfl rfl)
theorem dX2_measure_21 : decode cX2_measure 21 = .ok (.if_icmp .ne 8, 3) := dk_160 0 8 (dk_at dksX2_measure_0 21 rfl rfl)
theorem dX2_measure_24 : decode cX2_measure 24 = .ok (.bipush 8, 2) := dk_16 8 (dk_at dksX2_measure_1 0 rfl rfl)
theorem dX2_measure_26 : decode cX2_measure 26 = .ok (.goto 4, 3) := dk_167 0 4 (dk_at dksX2_measure_1 2 rfl rfl)
theorem dX2_measure_29 : decode cX2_measure 29 = .ok (.iconst 5, 1) := dk_8 (dk_at dksX2_measure_1 5 rfl rfl)
theorem dX2_measure_30 : decode cX2_measure 30 = .ok (.invokevirtual 247, 3) := dk_182 0 247 (dk_at dksX2_measure_1 6 rfl rfl)
theorem dX2_measure_33 : decode cX2_measure 33 = .ok (.ireturn, 1) := dk_172 (dk_at dksX2_measure_1 9 rfl rfl)
abbrev cX2_graded : ByteArray := prog_6_method_24_code
def yX2_graded : MethodName := ⟨RX2, "graded", "(C)I"⟩
def dkwX2_graded_2 : List UInt8 := [3, 96, 61, 167, 255, 219, 28, 172]
abbrev dktX2_graded_2 : List UInt8 := dkwX2_graded_2 ++ []
def dkwX2_graded_1 : List UInt8 := [185, 0, 39, 1, 0, 192, 0, 43, 58, 4, 28, 25, 4, 182, 0, 254, 27, 160, 0, 7, 4, 167, 0, 4]
abbrev dktX2_graded_1 : List UInt8 := dkwX2_graded_1 ++ dktX2_graded_2
def dkwX2_graded_0 : List UInt8 := [3, 61, 42, 180, 0, 12, 182, 0, 29, 78, 45, 185, 0, 33, 1, 0, 153, 0, 34, 45]
abbrev dktX2_graded_0 : List UInt8 := dkwX2_graded_0 ++ dktX2_graded_1
theorem dksX2_graded_0 : cX2_graded.data.toList.drop 0 = dktX2_graded_0 := by decide +kernel
theorem dksX2_graded_1 : cX2_graded.data.toList.drop 20 = dktX2_graded_1 := dk_seg dksX2_graded_0 20 rfl rfl
theorem dksX2_graded_2 : cX2_graded.data.toList.drop 44 = dktX2_graded_2 := dk_seg dksX2_graded_1 24 rfl rfl
theorem dX2_graded_0 : decode cX2_graded 0 = .ok (.iconst 0, 1) := dk_3 (dk_at dksX2_graded_0 0 rfl rfl)
theorem dX2_graded_1 : decode cX2_graded 1 = .ok (.istore_n 2, 1) := dk_61 (dk_at dksX2_graded_0 1 rfl rfl)
theorem dX2_graded_2 : decode cX2_graded 2 = .ok (.aload_n 0, 1) := dk_42 (dk_at dksX2_graded_0 2 rfl rfl)
theorem dX2_graded_3 : decode cX2_graded 3 = .ok (.getfield 12, 3) := dk_180 0 12 (dk_at dksX2_graded_0 3 rfl rfl)
theorem dX2_graded_6 : decode cX2_graded 6 = .ok (.invokevirtual 29, 3) := dk_182 0 29 (dk_at dksX2_graded_0 6 rfl rfl)
theorem dX2_graded_9 : decode cX2_graded 9 = .ok (.astore_n 3, 1) := dk_78 (dk_at dksX2_graded_0 9 rfl rfl)
theorem dX2_graded_10 : decode cX2_graded 10 = .ok (.aload_n 3, 1) := dk_45 (dk_at dksX2_graded_0 10 rfl rfl)
theorem dX2_graded_11 : decode cX2_graded 11 = .ok (.invokeinterface 33 1, 5) := by decide +kernel
theorem dX2_graded_16 : decode cX2_graded 16 = .ok (.ifCond .eq 34, 3) := dk_153 0 34 (dk_at dksX2_graded_0 16 rfl rfl)
theorem dX2_graded_19 : decode cX2_graded 19 = .ok (.aload_n 3, 1) := dk_45 (dk_at dksX2_graded_0 19 rfl rfl)
theorem dX2_graded_20 : decode cX2_graded 20 = .ok (.invokeinterface 39 1, 5) := by decide +kernel
theorem dX2_graded_25 : decode cX2_graded 25 = .ok (.checkcast 43, 3) := dk_192 0 43 (dk_at dksX2_graded_1 5 rfl rfl)
theorem dX2_graded_28 : decode cX2_graded 28 = .ok (.astore 4, 2) := dk_58 4 (dk_at dksX2_graded_1 8 rfl rfl)
theorem dX2_graded_30 : decode cX2_graded 30 = .ok (.iload_n 2, 1) := dk_28 (dk_at dksX2_graded_1 10 rfl rfl)
theorem dX2_graded_31 : decode cX2_graded 31 = .ok (.aload 4, 2) := dk_25 4 (dk_at dksX2_graded_1 11 rfl rfl)
theorem dX2_graded_33 : decode cX2_graded 33 = .ok (.invokevirtual 254, 3) := dk_182 0 254 (dk_at dksX2_graded_1 13 rfl rfl)
theorem dX2_graded_36 : decode cX2_graded 36 = .ok (.iload_n 1, 1) := dk_27 (dk_at dksX2_graded_1 16 rfl rfl)
theorem dX2_graded_37 : decode cX2_graded 37 = .ok (.if_icmp .ne 7, 3) := dk_160 0 7 (dk_at dksX2_graded_1 17 rfl rfl)
theorem dX2_graded_40 : decode cX2_graded 40 = .ok (.iconst 1, 1) := dk_4 (dk_at dksX2_graded_1 20 rfl rfl)
theorem dX2_graded_41 : decode cX2_graded 41 = .ok (.goto 4, 3) := dk_167 0 4 (dk_at dksX2_graded_1 21 rfl rfl)
theorem dX2_graded_44 : decode cX2_graded 44 = .ok (.iconst 0, 1) := dk_3 (dk_at dksX2_graded_2 0 rfl rfl)
theorem dX2_graded_45 : decode cX2_graded 45 = .ok (.iadd, 1) := dk_96 (dk_at dksX2_graded_2 1 rfl rfl)
theorem dX2_graded_46 : decode cX2_graded 46 = .ok (.istore_n 2, 1) := dk_61 (dk_at dksX2_graded_2 2 rfl rfl)
theorem dX2_graded_47 : decode cX2_graded 47 = .ok (.goto (-37), 3) := dk_167 255 219 (dk_at dksX2_graded_2 3 rfl rfl)
theorem dX2_graded_50 : decode cX2_graded 50 = .ok (.iload_n 2, 1) := dk_28 (dk_at dksX2_graded_2 6 rfl rfl)
theorem dX2_graded_51 : decode cX2_graded 51 = .ok (.ireturn, 1) := dk_172 (dk_at dksX2_graded_2 7 rfl rfl)
abbrev cX2_bookings : ByteArray := prog_6_method_11_code
def yX2_bookings : MethodName := ⟨RX2, "bookings", "()I"⟩
def dkwX2_bookings_1 : List UInt8 := [185, 0, 39, 1, 0, 192, 0, 53, 78, 27, 45, 182, 0, 160, 96, 60, 167, 255, 230, 27, 172]
abbrev dktX2_bookings_1 : List UInt8 := dkwX2_bookings_1 ++ []
def dkwX2_bookings_0 : List UInt8 := [3, 60, 42, 180, 0, 18, 182, 0, 29, 77, 44, 185, 0, 33, 1, 0, 153, 0, 23, 44]
abbrev dktX2_bookings_0 : List UInt8 := dkwX2_bookings_0 ++ dktX2_bookings_1
theorem dksX2_bookings_0 : cX2_bookings.data.toList.drop 0 = dktX2_bookings_0 := by decide +kernel
theorem dksX2_bookings_1 : cX2_bookings.data.toList.drop 20 = dktX2_bookings_1 := dk_seg dksX2_bookings_0 20 rfl rfl
theorem dX2_bookings_0 : decode cX2_bookings 0 = .ok (.iconst 0, 1) := dk_3 (dk_at dksX2_bookings_0 0 rfl rfl)
theorem dX2_bookings_1 : decode cX2_bookings 1 = .ok (.istore_n 1, 1) := dk_60 (dk_at dksX2_bookings_0 1 rfl rfl)
theorem dX2_bookings_2 : decode cX2_bookings 2 = .ok (.aload_n 0, 1) := dk_42 (dk_at dksX2_bookings_0 2 rfl rfl)
theorem dX2_bookings_3 : decode cX2_bookings 3 = .ok (.getfield 18, 3) := dk_180 0 18 (dk_at dksX2_bookings_0 3 rfl rfl)
theorem dX2_bookings_6 : decode cX2_bookings 6 = .ok (.invokevirtual 29, 3) := dk_182 0 29 (dk_at dksX2_bookings_0 6 rfl rfl)
theorem dX2_bookings_9 : decode cX2_bookings 9 = .ok (.astore_n 2, 1) := dk_77 (dk_at dksX2_bookings_0 9 rfl rfl)
theorem dX2_bookings_10 : decode cX2_bookings 10 = .ok (.aload_n 2, 1) := dk_44 (dk_at dksX2_bookings_0 10 rfl rfl)
theorem dX2_bookings_11 : decode cX2_bookings 11 = .ok (.invokeinterface 33 1, 5) := by decide +kernel
theorem dX2_bookings_16 : decode cX2_bookings 16 = .ok (.ifCond .eq 23, 3) := dk_153 0 23 (dk_at dksX2_bookings_0 16 rfl rfl)
theorem dX2_bookings_19 : decode cX2_bookings 19 = .ok (.aload_n 2, 1) := dk_44 (dk_at dksX2_bookings_0 19 rfl rfl)
theorem dX2_bookings_20 : decode cX2_bookings 20 = .ok (.invokeinterface 39 1, 5) := by decide +kernel
theorem dX2_bookings_25 : decode cX2_bookings 25 = .ok (.checkcast 53, 3) := dk_192 0 53 (dk_at dksX2_bookings_1 5 rfl rfl)
theorem dX2_bookings_28 : decode cX2_bookings 28 = .ok (.astore_n 3, 1) := dk_78 (dk_at dksX2_bookings_1 8 rfl rfl)
theorem dX2_bookings_29 : decode cX2_bookings 29 = .ok (.iload_n 1, 1) := dk_27 (dk_at dksX2_bookings_1 9 rfl rfl)
theorem dX2_bookings_30 : decode cX2_bookings 30 = .ok (.aload_n 3, 1) := dk_45 (dk_at dksX2_bookings_1 10 rfl rfl)
theorem dX2_bookings_31 : decode cX2_bookings 31 = .ok (.invokevirtual 160, 3) := dk_182 0 160 (dk_at dksX2_bookings_1 11 rfl rfl)
theorem dX2_bookings_34 : decode cX2_bookings 34 = .ok (.iadd, 1) := dk_96 (dk_at dksX2_bookings_1 14 rfl rfl)
theorem dX2_bookings_35 : decode cX2_bookings 35 = .ok (.istore_n 1, 1) := dk_60 (dk_at dksX2_bookings_1 15 rfl rfl)
theorem dX2_bookings_36 : decode cX2_bookings 36 = .ok (.goto (-26), 3) := dk_167 255 230 (dk_at dksX2_bookings_1 16 rfl rfl)
theorem dX2_bookings_39 : decode cX2_bookings 39 = .ok (.iload_n 1, 1) := dk_27 (dk_at dksX2_bookings_1 19 rfl rfl)
theorem dX2_bookings_40 : decode cX2_bookings 40 = .ok (.ireturn, 1) := dk_172 (dk_at dksX2_bookings_1 20 rfl rfl)
abbrev cX2_skills : ByteArray := prog_6_method_25_code
def yX2_skills : MethodName := ⟨RX2, "skills", "()I"⟩
def dkwX2_skills_1 : List UInt8 := [185, 0, 39, 1, 0, 192, 0, 43, 78, 27, 45, 180, 0, 173, 96, 60, 167, 255, 230, 27, 172]
abbrev dktX2_skills_1 : List UInt8 := dkwX2_skills_1 ++ []
def dkwX2_skills_0 : List UInt8 := [3, 60, 42, 180, 0, 12, 182, 0, 29, 77, 44, 185, 0, 33, 1, 0, 153, 0, 23, 44]
abbrev dktX2_skills_0 : List UInt8 := dkwX2_skills_0 ++ dktX2_skills_1
theorem dksX2_skills_0 : cX2_skills.data.toList.drop 0 = dktX2_skills_0 := by decide +kernel
theorem dksX2_skills_1 : cX2_skills.data.toList.drop 20 = dktX2_skills_1 := dk_seg dksX2_skills_0 20 rfl rfl
theorem dX2_skills_0 : decode cX2_skills 0 = .ok (.iconst 0, 1) := dk_3 (dk_at dksX2_skills_0 0 rfl rfl)
theorem dX2_skills_1 : decode cX2_skills 1 = .ok (.istore_n 1, 1) := dk_60 (dk_at dksX2_skills_0 1 rfl rfl)
theorem dX2_skills_2 : decode cX2_skills 2 = .ok (.aload_n 0, 1) := dk_42 (dk_at dksX2_skills_0 2 rfl rfl)
theorem dX2_skills_3 : decode cX2_skills 3 = .ok (.getfield 12, 3) := dk_180 0 12 (dk_at dksX2_skills_0 3 rfl rfl)
theorem dX2_skills_6 : decode cX2_skills 6 = .ok (.invokevirtual 29, 3) := dk_182 0 29 (dk_at dksX2_skills_0 6 rfl rfl)
theorem dX2_skills_9 : decode cX2_skills 9 = .ok (.astore_n 2, 1) := dk_77 (dk_at dksX2_skills_0 9 rfl rfl)
theorem dX2_skills_10 : decode cX2_skills 10 = .ok (.aload_n 2, 1) := dk_44 (dk_at dksX2_skills_0 10 rfl rfl)
theorem dX2_skills_11 : decode cX2_skills 11 = .ok (.invokeinterface 33 1, 5) := by decide +kernel
theorem dX2_skills_16 : decode cX2_skills 16 = .ok (.ifCond .eq 23, 3) := dk_153 0 23 (dk_at dksX2_skills_0 16 rfl rfl)
theorem dX2_skills_19 : decode cX2_skills 19 = .ok (.aload_n 2, 1) := dk_44 (dk_at dksX2_skills_0 19 rfl rfl)
theorem dX2_skills_20 : decode cX2_skills 20 = .ok (.invokeinterface 39 1, 5) := by decide +kernel
theorem dX2_skills_25 : decode cX2_skills 25 = .ok (.checkcast 43, 3) := dk_192 0 43 (dk_at dksX2_skills_1 5 rfl rfl)
theorem dX2_skills_28 : decode cX2_skills 28 = .ok (.astore_n 3, 1) := dk_78 (dk_at dksX2_skills_1 8 rfl rfl)
theorem dX2_skills_29 : decode cX2_skills 29 = .ok (.iload_n 1, 1) := dk_27 (dk_at dksX2_skills_1 9 rfl rfl)
theorem dX2_skills_30 : decode cX2_skills 30 = .ok (.aload_n 3, 1) := dk_45 (dk_at dksX2_skills_1 10 rfl rfl)
theorem dX2_skills_31 : decode cX2_skills 31 = .ok (.getfield 173, 3) := dk_180 0 173 (dk_at dksX2_skills_1 11 rfl rfl)
theorem dX2_skills_34 : decode cX2_skills 34 = .ok (.iadd, 1) := dk_96 (dk_at dksX2_skills_1 14 rfl rfl)
theorem dX2_skills_35 : decode cX2_skills 35 = .ok (.istore_n 1, 1) := dk_60 (dk_at dksX2_skills_1 15 rfl rfl)
theorem dX2_skills_36 : decode cX2_skills 36 = .ok (.goto (-26), 3) := dk_167 255 230 (dk_at dksX2_skills_1 16 rfl rfl)
theorem dX2_skills_39 : decode cX2_skills 39 = .ok (.iload_n 1, 1) := dk_27 (dk_at dksX2_skills_1 19 rfl rfl)
theorem dX2_skills_40 : decode cX2_skills 40 = .ok (.ireturn, 1) := dk_172 (dk_at dksX2_skills_1 20 rfl rfl)
theorem q72 : (Jvm.Cond.initialized "SkipSchool$School") ∈ lw_all := lw_g (lw_at lw_m1 2 rfl) rfl
theorem q128 : (Jvm.Cond.instantiable "SkipSchool$School" (9 : Nat)) ∈ lw_all := lw_g (lw_at lw_m1 58 rfl) rfl
theorem q130 : (Jvm.Cond.instanceMethod ({ cls := "SkipSchool$School", name := "<init>", desc := "()V" } : Jvm.MethodName)) ∈ lw_all := lw_g (lw_at lw_m1 60 rfl) rfl
theorem q131 : (Jvm.Cond.code ({ cls := "SkipSchool$School", name := "<init>", desc := "()V" } : Jvm.MethodName) prog_6_method_1_code (1 : Nat) (Option.none : Option Jvm.ClassFile.FieldType)) ∈ lw_all := lw_g (lw_at lw_m1 61 rfl) rfl
theorem q132 : (Jvm.Cond.methodLink "SkipSchool$School" (3 : Nat) ({ cls := "java/lang/Object", name := "<init>", desc := "()V" } : Jvm.MethodName)) ∈ lw_all := lw_g (lw_at lw_m1 62 rfl) rfl
theorem q133 : (Jvm.Cond.classLink "SkipSchool$School" (9 : Nat) "java/util/ArrayList") ∈ lw_all := lw_g (lw_at lw_m1 63 rfl) rfl
theorem q135 : (Jvm.Cond.methodLink "SkipSchool$School" (11 : Nat) ({ cls := "java/util/ArrayList", name := "<init>", desc := "()V" } : Jvm.MethodName)) ∈ lw_all := lw_g (lw_at lw_m1 65 rfl) rfl
theorem q166 : (Jvm.Cond.classLink "SkipSchool$School" (21 : Nat) "java/util/LinkedList") ∈ lw_all := lw_g (lw_at lw_m1 96 rfl) rfl
theorem q168 : (Jvm.Cond.methodLink "SkipSchool$School" (23 : Nat) ({ cls := "java/util/LinkedList", name := "<init>", desc := "()V" } : Jvm.MethodName)) ∈ lw_all := lw_g (lw_at lw_m1 98 rfl) rfl
theorem q187 : (Jvm.Cond.fieldLink "SkipSchool$School" (12 : Nat) "SkipSchool$School" "stones" "Ljava/util/ArrayList;") ∈ lw_all := lw_g (lw_at lw_m1 117 rfl) rfl
theorem q189 : (Jvm.Cond.fieldLink "SkipSchool$School" (18 : Nat) "SkipSchool$School" "rivers" "Ljava/util/ArrayList;") ∈ lw_all := lw_g (lw_at lw_m1 119 rfl) rfl
theorem q191 : (Jvm.Cond.fieldLink "SkipSchool$School" (24 : Nat) "SkipSchool$School" "alumni" "Ljava/util/LinkedList;") ∈ lw_all := lw_g (lw_at lw_m1 121 rfl) rfl
theorem q193 : (Jvm.Cond.fieldLink "SkipSchool$School" (62 : Nat) "SkipSchool$School" "today" "I") ∈ lw_all := lw_g (lw_at lw_m1 123 rfl) rfl
theorem q195 : (Jvm.Cond.fieldLink "SkipSchool$School" (66 : Nat) "SkipSchool$School" "lessons" "I") ∈ lw_all := lw_g (lw_at lw_m1 125 rfl) rfl
theorem q197 : (Jvm.Cond.fieldLink "SkipSchool$School" (69 : Nat) "SkipSchool$School" "trials" "I") ∈ lw_all := lw_g (lw_at lw_m1 127 rfl) rfl
theorem q199 : (Jvm.Cond.fieldLink "SkipSchool$School" (72 : Nat) "SkipSchool$School" "throwsSoFar" "I") ∈ lw_all := lw_g (lw_at lw_m1 129 rfl) rfl
theorem q201 : (Jvm.Cond.fieldLink "SkipSchool$School" (75 : Nat) "SkipSchool$School" "crossed" "I") ∈ lw_all := lw_g (lw_at lw_m1 131 rfl) rfl
theorem q203 : (Jvm.Cond.fieldLink "SkipSchool$School" (78 : Nat) "SkipSchool$School" "skips" "I") ∈ lw_all := lw_g (lw_at lw_m1 133 rfl) rfl
theorem q205 : (Jvm.Cond.laysFinal "SkipSchool$School" "SkipSchool$School" "stones" "Ljava/util/ArrayList;") ∈ lw_all := lw_g (lw_at lw_m1 135 rfl) rfl
theorem q206 : (Jvm.Cond.soleField "SkipSchool$School" "stones") ∈ lw_all := lw_g (lw_at lw_m1 136 rfl) rfl
theorem q207 : (Jvm.Cond.laysFinal "SkipSchool$School" "SkipSchool$School" "rivers" "Ljava/util/ArrayList;") ∈ lw_all := lw_g (lw_at lw_m1 137 rfl) rfl
theorem q208 : (Jvm.Cond.soleField "SkipSchool$School" "rivers") ∈ lw_all := lw_g (lw_at lw_m1 138 rfl) rfl
theorem q209 : (Jvm.Cond.laysFinal "SkipSchool$School" "SkipSchool$School" "alumni" "Ljava/util/LinkedList;") ∈ lw_all := lw_g (lw_at lw_m1 139 rfl) rfl
theorem q210 : (Jvm.Cond.soleField "SkipSchool$School" "alumni") ∈ lw_all := lw_g (lw_at lw_m1 140 rfl) rfl
theorem q211 : (Jvm.Cond.lays "SkipSchool$School" "SkipSchool$School" "today" "I") ∈ lw_all := lw_g (lw_at lw_m1 141 rfl) rfl
theorem q212 : (Jvm.Cond.soleField "SkipSchool$School" "today") ∈ lw_all := lw_g (lw_at lw_m1 142 rfl) rfl
theorem q213 : (Jvm.Cond.lays "SkipSchool$School" "SkipSchool$School" "lessons" "I") ∈ lw_all := lw_g (lw_at lw_m1 143 rfl) rfl
theorem q214 : (Jvm.Cond.soleField "SkipSchool$School" "lessons") ∈ lw_all := lw_g (lw_at lw_m1 144 rfl) rfl
theorem q215 : (Jvm.Cond.lays "SkipSchool$School" "SkipSchool$School" "trials" "I") ∈ lw_all := lw_g (lw_at lw_m1 145 rfl) rfl
theorem q216 : (Jvm.Cond.soleField "SkipSchool$School" "trials") ∈ lw_all := lw_g (lw_at lw_m1 146 rfl) rfl
theorem q217 : (Jvm.Cond.lays "SkipSchool$School" "SkipSchool$School" "throwsSoFar" "I") ∈ lw_all := lw_g (lw_at lw_m1 147 rfl) rfl
theorem q218 : (Jvm.Cond.soleField "SkipSchool$School" "throwsSoFar") ∈ lw_all := lw_g (lw_at lw_m1 148 rfl) rfl
theorem q219 : (Jvm.Cond.lays "SkipSchool$School" "SkipSchool$School" "crossed" "I") ∈ lw_all := lw_g (lw_at lw_m1 149 rfl) rfl
theorem q220 : (Jvm.Cond.soleField "SkipSchool$School" "crossed") ∈ lw_all := lw_g (lw_at lw_m1 150 rfl) rfl
theorem q221 : (Jvm.Cond.lays "SkipSchool$School" "SkipSchool$School" "skips" "I") ∈ lw_all := lw_g (lw_at lw_m1 151 rfl) rfl
theorem q222 : (Jvm.Cond.soleField "SkipSchool$School" "skips") ∈ lw_all := lw_g (lw_at lw_m1 152 rfl) rfl
theorem q223 : (Jvm.Cond.superclass "SkipSchool$School" "java/lang/Object") ∈ lw_all := lw_g (lw_at lw_m1 153 rfl) rfl
theorem q326 : (Jvm.Cond.instanceMethod ({ cls := "SkipSchool$School", name := "copy", desc := "()LSkipSchool$School;" } : Jvm.MethodName)) ∈ lw_all := lw_g (lw_at lw_m2 16 rfl) rfl
theorem q327 : (Jvm.Cond.selects "SkipSchool$School" ({ cls := "SkipSchool$School", name := "copy", desc := "()LSkipSchool$School;" } : Jvm.MethodName) ({ cls := "SkipSchool$School", name := "copy", desc := "()LSkipSchool$School;" } : Jvm.MethodName)) ∈ lw_all := lw_g (lw_at lw_m2 17 rfl) rfl
theorem q328 : (Jvm.Cond.code ({ cls := "SkipSchool$School", name := "copy", desc := "()LSkipSchool$School;" } : Jvm.MethodName) prog_6_method_2_code (5 : Nat) (Option.some (Jvm.ClassFile.FieldType.object "SkipSchool$School"))) ∈ lw_all := lw_g (lw_at lw_m2 18 rfl) rfl
theorem q329 : (Jvm.Cond.classLink "SkipSchool$School" (13 : Nat) "SkipSchool$School") ∈ lw_all := lw_g (lw_at lw_m2 19 rfl) rfl
theorem q330 : (Jvm.Cond.methodLink "SkipSchool$School" (28 : Nat) ({ cls := "SkipSchool$School", name := "<init>", desc := "()V" } : Jvm.MethodName)) ∈ lw_all := lw_g (lw_at lw_m2 20 rfl) rfl
theorem q331 : (Jvm.Cond.methodLink "SkipSchool$School" (29 : Nat) ({ cls := "java/util/ArrayList", name := "iterator", desc := "()Ljava/util/Iterator;" } : Jvm.MethodName)) ∈ lw_all := lw_g (lw_at lw_m2 21 rfl) rfl
theorem q357 : (Jvm.Cond.interfaceEntry "SkipSchool$School" (33 : Nat)) ∈ lw_tbl := lw_at lw_m2 47 rfl
theorem q358 : (Jvm.Cond.methodLink "SkipSchool$School" (33 : Nat) ({ cls := "java/util/Iterator", name := "hasNext", desc := "()Z" } : Jvm.MethodName)) ∈ lw_all := lw_g (lw_at lw_m2 48 rfl) rfl
theorem q389 : (Jvm.Cond.interfaceEntry "SkipSchool$School" (39 : Nat)) ∈ lw_tbl := lw_at lw_m2 79 rfl
theorem q390 : (Jvm.Cond.methodLink "SkipSchool$School" (39 : Nat) ({ cls := "java/util/Iterator", name := "next", desc := "()Ljava/lang/Object;" } : Jvm.MethodName)) ∈ lw_all := lw_g (lw_at lw_m2 80 rfl) rfl
theorem q784 : (Jvm.Cond.selects "SkipSchool$School" ({ cls := "java/lang/Object", name := "getClass", desc := "()Ljava/lang/Class;" } : Jvm.MethodName) ({ cls := "java/lang/Object", name := "getClass", desc := "()Ljava/lang/Class;" } : Jvm.MethodName)) ∈ lw_all := lw_g (lw_at lw_m3 234 rfl) rfl
theorem q879 : (Jvm.Cond.classLink "SkipSchool$School" (43 : Nat) "SkipSchool$Stone") ∈ lw_all := lw_g (lw_at lw_m4 89 rfl) rfl
theorem q880 : (Jvm.Cond.methodLink "SkipSchool$School" (45 : Nat) ({ cls := "SkipSchool$Stone", name := "copy", desc := "()LSkipSchool$Stone;" } : Jvm.MethodName)) ∈ lw_all := lw_g (lw_at lw_m4 90 rfl) rfl
theorem q891 : (Jvm.Cond.fieldLinkNest "SkipSchool$School" (176 : Nat) "SkipSchool$Stone" "flatness" "I" "SkipSchool") ∈ lw_tbl := lw_at lw_m4 101 rfl
theorem q894 : (Jvm.Cond.fieldLinkNest "SkipSchool$School" (173 : Nat) "SkipSchool$Stone" "skill" "I" "SkipSchool") ∈ lw_tbl := lw_at lw_m4 104 rfl
theorem q896 : (Jvm.Cond.fieldLinkNest "SkipSchool$School" (202 : Nat) "SkipSchool$Stone" "kept" "I" "SkipSchool") ∈ lw_tbl := lw_at lw_m4 106 rfl
theorem q898 : (Jvm.Cond.fieldLinkNest "SkipSchool$School" (205 : Nat) "SkipSchool$Stone" "most" "I" "SkipSchool") ∈ lw_tbl := lw_at lw_m4 108 rfl
theorem q900 : (Jvm.Cond.fieldLinkNest "SkipSchool$School" (211 : Nat) "SkipSchool$Stone" "at" "I" "SkipSchool") ∈ lw_tbl := lw_at lw_m4 110 rfl
theorem q902 : (Jvm.Cond.fieldLinkNest "SkipSchool$School" (126 : Nat) "SkipSchool$Stone" "sankOn" "I" "SkipSchool") ∈ lw_tbl := lw_at lw_m4 112 rfl
theorem q905 : (Jvm.Cond.fieldLinkNest "SkipSchool$School" (220 : Nat) "SkipSchool$Stone" "thrown" "I" "SkipSchool") ∈ lw_tbl := lw_at lw_m4 115 rfl
theorem q907 : (Jvm.Cond.fieldLinkNest "SkipSchool$School" (222 : Nat) "SkipSchool$Stone" "skipped" "I" "SkipSchool") ∈ lw_tbl := lw_at lw_m4 117 rfl
theorem q909 : (Jvm.Cond.fieldLinkNest "SkipSchool$School" (169 : Nat) "SkipSchool$Stone" "hadLesson" "Z" "SkipSchool") ∈ lw_tbl := lw_at lw_m4 119 rfl
theorem q911 : (Jvm.Cond.fieldLinkNest "SkipSchool$School" (199 : Nat) "SkipSchool$Stone" "hadTrial" "Z" "SkipSchool") ∈ lw_tbl := lw_at lw_m4 121 rfl
theorem q935 : (Jvm.Cond.methodLink "SkipSchool$School" (49 : Nat) ({ cls := "java/util/ArrayList", name := "add", desc := "(Ljava/lang/Object;)Z" } : Jvm.MethodName)) ∈ lw_all := lw_g (lw_at lw_m4 145 rfl) rfl
theorem q963 : (Jvm.Cond.classLink "SkipSchool$School" (53 : Nat) "SkipSchool$River") ∈ lw_all := lw_g (lw_at lw_m4 173 rfl) rfl
theorem q964 : (Jvm.Cond.methodLink "SkipSchool$School" (55 : Nat) ({ cls := "SkipSchool$River", name := "copy", desc := "()LSkipSchool$River;" } : Jvm.MethodName)) ∈ lw_all := lw_g (lw_at lw_m4 174 rfl) rfl
theorem q999 : (Jvm.Cond.fieldLinkNest "SkipSchool$School" (217 : Nat) "SkipSchool$River" "width" "I" "SkipSchool") ∈ lw_tbl := lw_at lw_m4 209 rfl
theorem q1001 : (Jvm.Cond.fieldLinkNest "SkipSchool$School" (120 : Nat) "SkipSchool$River" "calm" "I" "SkipSchool") ∈ lw_tbl := lw_at lw_m4 211 rfl
theorem q1004 : (Jvm.Cond.fieldLinkNest "SkipSchool$School" (141 : Nat) "SkipSchool$River" "days" "Ljava/util/BitSet;" "SkipSchool") ∈ lw_tbl := lw_at lw_m4 214 rfl
theorem q1006 : (Jvm.Cond.fieldLinkNest "SkipSchool$School" (157 : Nat) "SkipSchool$River" "stones" "[I" "SkipSchool") ∈ lw_tbl := lw_at lw_m4 216 rfl
theorem q1008 : (Jvm.Cond.fieldLinkNest "SkipSchool$School" (258 : Nat) "SkipSchool$River" "record" "I" "SkipSchool") ∈ lw_tbl := lw_at lw_m4 218 rfl
theorem q1010 : (Jvm.Cond.fieldLinkNest "SkipSchool$School" (261 : Nat) "SkipSchool$River" "holder" "I" "SkipSchool") ∈ lw_tbl := lw_at lw_m4 220 rfl
theorem q1012 : (Jvm.Cond.fieldLinkNest "SkipSchool$School" (228 : Nat) "SkipSchool$River" "sunk" "I" "SkipSchool") ∈ lw_tbl := lw_at lw_m4 222 rfl
theorem q1054 : (Jvm.Cond.methodLink "SkipSchool$School" (58 : Nat) ({ cls := "java/util/LinkedList", name := "addAll", desc := "(Ljava/util/Collection;)Z" } : Jvm.MethodName)) ∈ lw_all := lw_g (lw_at lw_m5 24 rfl) rfl
theorem q1219 : (Jvm.Cond.instanceMethod ({ cls := "SkipSchool$School", name := "comeStone", desc := "(II)I" } : Jvm.MethodName)) ∈ lw_all := lw_g (lw_at lw_m5 189 rfl) rfl
theorem q1220 : (Jvm.Cond.selects "SkipSchool$School" ({ cls := "SkipSchool$School", name := "comeStone", desc := "(II)I" } : Jvm.MethodName) ({ cls := "SkipSchool$School", name := "comeStone", desc := "(II)I" } : Jvm.MethodName)) ∈ lw_all := lw_g (lw_at lw_m5 190 rfl) rfl
theorem q1221 : (Jvm.Cond.code ({ cls := "SkipSchool$School", name := "comeStone", desc := "(II)I" } : Jvm.MethodName) prog_6_method_5_code (4 : Nat) (Option.some Jvm.ClassFile.FieldType.int)) ∈ lw_all := lw_g (lw_at lw_m5 191 rfl) rfl
theorem q1222 : (Jvm.Cond.constantLong "SkipSchool$School" (97 : Nat) (9 : Int64)) ∈ lw_all := lw_g (lw_at lw_m5 192 rfl) rfl
theorem q1223 : (Jvm.Cond.methodLinkNest "SkipSchool$School" (85 : Nat) ({ cls := "SkipSchool", name := "inRange", desc := "(JJJ)Z" } : Jvm.MethodName) "SkipSchool") ∈ lw_tbl := lw_at lw_m5 193 rfl
theorem q1226 : (Jvm.Cond.methodLinkNest "SkipSchool$School" (99 : Nat) ({ cls := "SkipSchool", name := "checkArgument", desc := "(Z)V" } : Jvm.MethodName) "SkipSchool") ∈ lw_tbl := lw_at lw_m5 196 rfl
theorem q1234 : (Jvm.Cond.methodLink "SkipSchool$School" (81 : Nat) ({ cls := "java/util/ArrayList", name := "size", desc := "()I" } : Jvm.MethodName)) ∈ lw_all := lw_g (lw_at lw_m5 204 rfl) rfl
theorem q1235 : (Jvm.Cond.methodLink "SkipSchool$School" (102 : Nat) ({ cls := "SkipSchool$Refused", name := "check", desc := "(ZII)V" } : Jvm.MethodName)) ∈ lw_all := lw_g (lw_at lw_m5 205 rfl) rfl
theorem q1266 : (Jvm.Cond.methodLink "SkipSchool$School" (108 : Nat) ({ cls := "SkipSchool$Stone", name := "<init>", desc := "(II)V" } : Jvm.MethodName)) ∈ lw_all := lw_g (lw_at lw_m5 236 rfl) rfl
theorem q1268 : (Jvm.Cond.instanceMethod ({ cls := "SkipSchool$School", name := "comeRiver", desc := "(II)I" } : Jvm.MethodName)) ∈ lw_all := lw_g (lw_at lw_m5 238 rfl) rfl
theorem q1269 : (Jvm.Cond.selects "SkipSchool$School" ({ cls := "SkipSchool$School", name := "comeRiver", desc := "(II)I" } : Jvm.MethodName) ({ cls := "SkipSchool$School", name := "comeRiver", desc := "(II)I" } : Jvm.MethodName)) ∈ lw_all := lw_g (lw_at lw_m5 239 rfl) rfl
theorem q1270 : (Jvm.Cond.code ({ cls := "SkipSchool$School", name := "comeRiver", desc := "(II)I" } : Jvm.MethodName) prog_6_method_6_code (4 : Nat) (Option.some Jvm.ClassFile.FieldType.int)) ∈ lw_all := lw_g (lw_at lw_m6 0 rfl) rfl
theorem q1271 : (Jvm.Cond.constantLong "SkipSchool$School" (111 : Nat) (5 : Int64)) ∈ lw_all := lw_g (lw_at lw_m6 1 rfl) rfl
theorem q1272 : (Jvm.Cond.constantLong "SkipSchool$School" (113 : Nat) (60 : Int64)) ∈ lw_all := lw_g (lw_at lw_m6 2 rfl) rfl
theorem q1273 : (Jvm.Cond.methodLink "SkipSchool$School" (115 : Nat) ({ cls := "SkipSchool$River", name := "<init>", desc := "(II)V" } : Jvm.MethodName)) ∈ lw_all := lw_g (lw_at lw_m6 3 rfl) rfl
theorem q1275 : (Jvm.Cond.instanceMethod ({ cls := "SkipSchool$School", name := "tellCalm", desc := "(II)I" } : Jvm.MethodName)) ∈ lw_all := lw_g (lw_at lw_m6 5 rfl) rfl
theorem q1276 : (Jvm.Cond.selects "SkipSchool$School" ({ cls := "SkipSchool$School", name := "tellCalm", desc := "(II)I" } : Jvm.MethodName) ({ cls := "SkipSchool$School", name := "tellCalm", desc := "(II)I" } : Jvm.MethodName)) ∈ lw_all := lw_g (lw_at lw_m6 6 rfl) rfl
theorem q1277 : (Jvm.Cond.code ({ cls := "SkipSchool$School", name := "tellCalm", desc := "(II)I" } : Jvm.MethodName) prog_6_method_7_code (5 : Nat) (Option.some Jvm.ClassFile.FieldType.int)) ∈ lw_all := lw_g (lw_at lw_m6 7 rfl) rfl
theorem q1278 : (Jvm.Cond.methodLink "SkipSchool$School" (116 : Nat) ({ cls := "SkipSchool$School", name := "river", desc := "(I)LSkipSchool$River;" } : Jvm.MethodName)) ∈ lw_all := lw_g (lw_at lw_m6 8 rfl) rfl
theorem q1279 : (Jvm.Cond.instanceMethod ({ cls := "SkipSchool$School", name := "river", desc := "(I)LSkipSchool$River;" } : Jvm.MethodName)) ∈ lw_all := lw_g (lw_at lw_m6 9 rfl) rfl
theorem q1280 : (Jvm.Cond.selects "SkipSchool$School" ({ cls := "SkipSchool$School", name := "river", desc := "(I)LSkipSchool$River;" } : Jvm.MethodName) ({ cls := "SkipSchool$School", name := "river", desc := "(I)LSkipSchool$River;" } : Jvm.MethodName)) ∈ lw_all := lw_g (lw_at lw_m6 10 rfl) rfl
theorem q1281 : (Jvm.Cond.code ({ cls := "SkipSchool$School", name := "river", desc := "(I)LSkipSchool$River;" } : Jvm.MethodName) prog_6_method_4_code (2 : Nat) (Option.some (Jvm.ClassFile.FieldType.object "SkipSchool$River"))) ∈ lw_all := lw_g (lw_at lw_m6 11 rfl) rfl
theorem q1282 : (Jvm.Cond.methodLinkNest "SkipSchool$School" (89 : Nat) ({ cls := "SkipSchool", name := "checkIndex", desc := "(Z)V" } : Jvm.MethodName) "SkipSchool") ∈ lw_tbl := lw_at lw_m6 12 rfl
theorem q1290 : (Jvm.Cond.methodLink "SkipSchool$School" (93 : Nat) ({ cls := "java/util/ArrayList", name := "get", desc := "(I)Ljava/lang/Object;" } : Jvm.MethodName)) ∈ lw_all := lw_g (lw_at lw_m6 20 rfl) rfl
theorem q1292 : (Jvm.Cond.instanceMethod ({ cls := "SkipSchool$School", name := "book", desc := "(III)I" } : Jvm.MethodName)) ∈ lw_all := lw_g (lw_at lw_m6 22 rfl) rfl
theorem q1293 : (Jvm.Cond.selects "SkipSchool$School" ({ cls := "SkipSchool$School", name := "book", desc := "(III)I" } : Jvm.MethodName) ({ cls := "SkipSchool$School", name := "book", desc := "(III)I" } : Jvm.MethodName)) ∈ lw_all := lw_g (lw_at lw_m6 23 rfl) rfl
theorem q1294 : (Jvm.Cond.code ({ cls := "SkipSchool$School", name := "book", desc := "(III)I" } : Jvm.MethodName) prog_6_method_9_code (6 : Nat) (Option.some Jvm.ClassFile.FieldType.int)) ∈ lw_all := lw_g (lw_at lw_m6 24 rfl) rfl
theorem q1295 : (Jvm.Cond.methodLink "SkipSchool$School" (129 : Nat) ({ cls := "SkipSchool$School", name := "stone", desc := "(I)LSkipSchool$Stone;" } : Jvm.MethodName)) ∈ lw_all := lw_g (lw_at lw_m6 25 rfl) rfl
theorem q1296 : (Jvm.Cond.instanceMethod ({ cls := "SkipSchool$School", name := "stone", desc := "(I)LSkipSchool$Stone;" } : Jvm.MethodName)) ∈ lw_all := lw_g (lw_at lw_m6 26 rfl) rfl
theorem q1297 : (Jvm.Cond.selects "SkipSchool$School" ({ cls := "SkipSchool$School", name := "stone", desc := "(I)LSkipSchool$Stone;" } : Jvm.MethodName) ({ cls := "SkipSchool$School", name := "stone", desc := "(I)LSkipSchool$Stone;" } : Jvm.MethodName)) ∈ lw_all := lw_g (lw_at lw_m6 27 rfl) rfl
theorem q1298 : (Jvm.Cond.code ({ cls := "SkipSchool$School", name := "stone", desc := "(I)LSkipSchool$Stone;" } : Jvm.MethodName) prog_6_method_3_code (2 : Nat) (Option.some (Jvm.ClassFile.FieldType.object "SkipSchool$Stone"))) ∈ lw_all := lw_g (lw_at lw_m6 28 rfl) rfl
theorem q1299 : (Jvm.Cond.methodLinkNest "SkipSchool$School" (133 : Nat) ({ cls := "SkipSchool", name := "checkAhead", desc := "(I)V" } : Jvm.MethodName) "SkipSchool") ∈ lw_tbl := lw_at lw_m6 29 rfl
theorem q1305 : (Jvm.Cond.methodLink "SkipSchool$School" (137 : Nat) ({ cls := "SkipSchool$School", name := "checkSwims", desc := "(LSkipSchool$Stone;)V" } : Jvm.MethodName)) ∈ lw_all := lw_g (lw_at lw_m6 35 rfl) rfl
theorem q1306 : (Jvm.Cond.static ({ cls := "SkipSchool$School", name := "checkSwims", desc := "(LSkipSchool$Stone;)V" } : Jvm.MethodName)) ∈ lw_all := lw_g (lw_at lw_m6 36 rfl) rfl
theorem q1307 : (Jvm.Cond.code ({ cls := "SkipSchool$School", name := "checkSwims", desc := "(LSkipSchool$Stone;)V" } : Jvm.MethodName) prog_6_method_8_code (1 : Nat) (Option.none : Option Jvm.ClassFile.FieldType)) ∈ lw_all := lw_g (lw_at lw_m6 37 rfl) rfl
theorem q1308 : (Jvm.Cond.methodLink "SkipSchool$School" (123 : Nat) ({ cls := "SkipSchool$Stone", name := "isSunk", desc := "()Z" } : Jvm.MethodName)) ∈ lw_all := lw_g (lw_at lw_m6 38 rfl) rfl
theorem q1312 : (Jvm.Cond.methodLink "SkipSchool$School" (145 : Nat) ({ cls := "java/util/BitSet", name := "get", desc := "(I)Z" } : Jvm.MethodName)) ∈ lw_all := lw_g (lw_at lw_m6 42 rfl) rfl
theorem q1324 : (Jvm.Cond.methodLink "SkipSchool$School" (150 : Nat) ({ cls := "SkipSchool$River", name := "booked", desc := "(I)I" } : Jvm.MethodName)) ∈ lw_all := lw_g (lw_at lw_m6 54 rfl) rfl
theorem q1329 : (Jvm.Cond.methodLink "SkipSchool$School" (154 : Nat) ({ cls := "java/util/BitSet", name := "set", desc := "(I)V" } : Jvm.MethodName)) ∈ lw_all := lw_g (lw_at lw_m6 59 rfl) rfl
theorem q1337 : (Jvm.Cond.methodLink "SkipSchool$School" (160 : Nat) ({ cls := "SkipSchool$River", name := "bookings", desc := "()I" } : Jvm.MethodName)) ∈ lw_all := lw_g (lw_at lw_m6 67 rfl) rfl
theorem q1352 : (Jvm.Cond.instanceMethod ({ cls := "SkipSchool$School", name := "free", desc := "(II)I" } : Jvm.MethodName)) ∈ lw_all := lw_g (lw_at lw_m6 82 rfl) rfl
theorem q1353 : (Jvm.Cond.selects "SkipSchool$School" ({ cls := "SkipSchool$School", name := "free", desc := "(II)I" } : Jvm.MethodName) ({ cls := "SkipSchool$School", name := "free", desc := "(II)I" } : Jvm.MethodName)) ∈ lw_all := lw_g (lw_at lw_m6 83 rfl) rfl
theorem q1354 : (Jvm.Cond.code ({ cls := "SkipSchool$School", name := "free", desc := "(II)I" } : Jvm.MethodName) prog_6_method_10_code (5 : Nat) (Option.some Jvm.ClassFile.FieldType.int)) ∈ lw_all := lw_g (lw_at lw_m6 84 rfl) rfl
theorem q1355 : (Jvm.Cond.methodLink "SkipSchool$School" (163 : Nat) ({ cls := "java/util/BitSet", name := "clear", desc := "(I)V" } : Jvm.MethodName)) ∈ lw_all := lw_g (lw_at lw_m6 85 rfl) rfl
theorem q1365 : (Jvm.Cond.instanceMethod ({ cls := "SkipSchool$School", name := "teach", desc := "(I)I" } : Jvm.MethodName)) ∈ lw_all := lw_g (lw_at lw_m6 95 rfl) rfl
theorem q1366 : (Jvm.Cond.selects "SkipSchool$School" ({ cls := "SkipSchool$School", name := "teach", desc := "(I)I" } : Jvm.MethodName) ({ cls := "SkipSchool$School", name := "teach", desc := "(I)I" } : Jvm.MethodName)) ∈ lw_all := lw_g (lw_at lw_m6 96 rfl) rfl
theorem q1367 : (Jvm.Cond.code ({ cls := "SkipSchool$School", name := "teach", desc := "(I)I" } : Jvm.MethodName) prog_6_method_13_code (3 : Nat) (Option.some Jvm.ClassFile.FieldType.int)) ∈ lw_all := lw_g (lw_at lw_m6 97 rfl) rfl
theorem q1368 : (Jvm.Cond.methodLink "SkipSchool$School" (179 : Nat) ({ cls := "SkipSchool$Stone", name := "learn", desc := "(I)V" } : Jvm.MethodName)) ∈ lw_all := lw_g (lw_at lw_m6 98 rfl) rfl
theorem q1374 : (Jvm.Cond.instanceMethod ({ cls := "SkipSchool$School", name := "trial", desc := "(IIII)I" } : Jvm.MethodName)) ∈ lw_all := lw_g (lw_at lw_m6 104 rfl) rfl
theorem q1375 : (Jvm.Cond.selects "SkipSchool$School" ({ cls := "SkipSchool$School", name := "trial", desc := "(IIII)I" } : Jvm.MethodName) ({ cls := "SkipSchool$School", name := "trial", desc := "(IIII)I" } : Jvm.MethodName)) ∈ lw_all := lw_g (lw_at lw_m6 105 rfl) rfl
theorem q1376 : (Jvm.Cond.code ({ cls := "SkipSchool$School", name := "trial", desc := "(IIII)I" } : Jvm.MethodName) prog_6_method_15_code (7 : Nat) (Option.some Jvm.ClassFile.FieldType.int)) ∈ lw_all := lw_g (lw_at lw_m6 106 rfl) rfl
theorem q1377 : (Jvm.Cond.methodLink "SkipSchool$School" (192 : Nat) ({ cls := "SkipSchool$School", name := "thrown", desc := "(IIII)LSkipSchool$Throw;" } : Jvm.MethodName)) ∈ lw_all := lw_g (lw_at lw_m6 107 rfl) rfl
theorem q1378 : (Jvm.Cond.instanceMethod ({ cls := "SkipSchool$School", name := "thrown", desc := "(IIII)LSkipSchool$Throw;" } : Jvm.MethodName)) ∈ lw_all := lw_g (lw_at lw_m6 108 rfl) rfl
theorem q1379 : (Jvm.Cond.selects "SkipSchool$School" ({ cls := "SkipSchool$School", name := "thrown", desc := "(IIII)LSkipSchool$Throw;" } : Jvm.MethodName) ({ cls := "SkipSchool$School", name := "thrown", desc := "(IIII)LSkipSchool$Throw;" } : Jvm.MethodName)) ∈ lw_all := lw_g (lw_at lw_m6 109 rfl) rfl
theorem q1380 : (Jvm.Cond.code ({ cls := "SkipSchool$School", name := "thrown", desc := "(IIII)LSkipSchool$Throw;" } : Jvm.MethodName) prog_6_method_14_code (7 : Nat) (Option.some (Jvm.ClassFile.FieldType.object "SkipSchool$Throw"))) ∈ lw_all := lw_g (lw_at lw_m6 110 rfl) rfl
theorem q1381 : (Jvm.Cond.methodLinkNest "SkipSchool$School" (182 : Nat) ({ cls := "SkipSchool", name := "checkAngle", desc := "(I)V" } : Jvm.MethodName) "SkipSchool") ∈ lw_tbl := lw_at lw_m6 111 rfl
theorem q1385 : (Jvm.Cond.methodLinkNest "SkipSchool$School" (185 : Nat) ({ cls := "SkipSchool", name := "checkSpeed", desc := "(I)V" } : Jvm.MethodName) "SkipSchool") ∈ lw_tbl := lw_at lw_m6 115 rfl
theorem q1389 : (Jvm.Cond.methodLink "SkipSchool$School" (188 : Nat) ({ cls := "SkipSchool$Stone", name := "thrown", desc := "(LSkipSchool$River;II)LSkipSchool$Throw;" } : Jvm.MethodName)) ∈ lw_all := lw_g (lw_at lw_m6 119 rfl) rfl
theorem q1413 : (Jvm.Cond.methodLink "SkipSchool$School" (195 : Nat) ({ cls := "SkipSchool$Throw", name := "skips", desc := "()I" } : Jvm.MethodName)) ∈ lw_all := lw_g (lw_at lw_m6 143 rfl) rfl
theorem q1418 : (Jvm.Cond.instanceMethod ({ cls := "SkipSchool$School", name := "skim", desc := "(IIII)I" } : Jvm.MethodName)) ∈ lw_all := lw_g (lw_at lw_m6 148 rfl) rfl
theorem q1419 : (Jvm.Cond.selects "SkipSchool$School" ({ cls := "SkipSchool$School", name := "skim", desc := "(IIII)I" } : Jvm.MethodName) ({ cls := "SkipSchool$School", name := "skim", desc := "(IIII)I" } : Jvm.MethodName)) ∈ lw_all := lw_g (lw_at lw_m6 149 rfl) rfl
theorem q1420 : (Jvm.Cond.code ({ cls := "SkipSchool$School", name := "skim", desc := "(IIII)I" } : Jvm.MethodName) prog_6_method_16_code (10 : Nat) (Option.some Jvm.ClassFile.FieldType.int)) ∈ lw_all := lw_g (lw_at lw_m6 150 rfl) rfl
theorem q1421 : (Jvm.Cond.methodLink "SkipSchool$School" (208 : Nat) ({ cls := "SkipSchool$Stone", name := "isAway", desc := "()Z" } : Jvm.MethodName)) ∈ lw_all := lw_g (lw_at lw_m6 151 rfl) rfl
theorem q1425 : (Jvm.Cond.methodLink "SkipSchool$School" (214 : Nat) ({ cls := "SkipSchool$Throw", name := "way", desc := "()I" } : Jvm.MethodName)) ∈ lw_all := lw_g (lw_at lw_m6 155 rfl) rfl
theorem q1429 : (Jvm.Cond.methodLink "SkipSchool$School" (225 : Nat) ({ cls := "SkipSchool$River", name := "saw", desc := "(II)V" } : Jvm.MethodName)) ∈ lw_all := lw_g (lw_at lw_m6 159 rfl) rfl
theorem q1433 : (Jvm.Cond.methodLink "SkipSchool$School" (231 : Nat) ({ cls := "java/lang/Integer", name := "valueOf", desc := "(I)Ljava/lang/Integer;" } : Jvm.MethodName)) ∈ lw_all := lw_g (lw_at lw_m6 163 rfl) rfl
theorem q1453 : (Jvm.Cond.methodLink "SkipSchool$School" (237 : Nat) ({ cls := "java/util/LinkedList", name := "addLast", desc := "(Ljava/lang/Object;)V" } : Jvm.MethodName)) ∈ lw_all := lw_g (lw_at lw_m6 183 rfl) rfl
theorem q1462 : (Jvm.Cond.instanceMethod ({ cls := "SkipSchool$School", name := "fetch", desc := "(I)I" } : Jvm.MethodName)) ∈ lw_all := lw_g (lw_at lw_m6 192 rfl) rfl
theorem q1463 : (Jvm.Cond.selects "SkipSchool$School" ({ cls := "SkipSchool$School", name := "fetch", desc := "(I)I" } : Jvm.MethodName) ({ cls := "SkipSchool$School", name := "fetch", desc := "(I)I" } : Jvm.MethodName)) ∈ lw_all := lw_g (lw_at lw_m6 193 rfl) rfl
theorem q1464 : (Jvm.Cond.code ({ cls := "SkipSchool$School", name := "fetch", desc := "(I)I" } : Jvm.MethodName) prog_6_method_18_code (3 : Nat) (Option.some Jvm.ClassFile.FieldType.int)) ∈ lw_all := lw_g (lw_at lw_m6 194 rfl) rfl
theorem q1465 : (Jvm.Cond.methodLink "SkipSchool$School" (241 : Nat) ({ cls := "SkipSchool$School", name := "away", desc := "()I" } : Jvm.MethodName)) ∈ lw_all := lw_g (lw_at lw_m6 195 rfl) rfl
theorem q1466 : (Jvm.Cond.instanceMethod ({ cls := "SkipSchool$School", name := "away", desc := "()I" } : Jvm.MethodName)) ∈ lw_all := lw_g (lw_at lw_m6 196 rfl) rfl
theorem q1467 : (Jvm.Cond.selects "SkipSchool$School" ({ cls := "SkipSchool$School", name := "away", desc := "()I" } : Jvm.MethodName) ({ cls := "SkipSchool$School", name := "away", desc := "()I" } : Jvm.MethodName)) ∈ lw_all := lw_g (lw_at lw_m6 197 rfl) rfl
theorem q1468 : (Jvm.Cond.code ({ cls := "SkipSchool$School", name := "away", desc := "()I" } : Jvm.MethodName) prog_6_method_17_code (4 : Nat) (Option.some Jvm.ClassFile.FieldType.int)) ∈ lw_all := lw_g (lw_at lw_m6 198 rfl) rfl
theorem q1470 : (Jvm.Cond.instanceMethod ({ cls := "SkipSchool$School", name := "goDay", desc := "()I" } : Jvm.MethodName)) ∈ lw_all := lw_g (lw_at lw_m6 200 rfl) rfl
theorem q1471 : (Jvm.Cond.selects "SkipSchool$School" ({ cls := "SkipSchool$School", name := "goDay", desc := "()I" } : Jvm.MethodName) ({ cls := "SkipSchool$School", name := "goDay", desc := "()I" } : Jvm.MethodName)) ∈ lw_all := lw_g (lw_at lw_m6 201 rfl) rfl
theorem q1472 : (Jvm.Cond.code ({ cls := "SkipSchool$School", name := "goDay", desc := "()I" } : Jvm.MethodName) prog_6_method_19_code (4 : Nat) (Option.some Jvm.ClassFile.FieldType.int)) ∈ lw_all := lw_g (lw_at lw_m6 202 rfl) rfl
theorem q1473 : (Jvm.Cond.methodLink "SkipSchool$School" (244 : Nat) ({ cls := "SkipSchool$River", name := "goDay", desc := "()V" } : Jvm.MethodName)) ∈ lw_all := lw_g (lw_at lw_m6 203 rfl) rfl
theorem q1579 : (Jvm.Cond.instanceMethod ({ cls := "SkipSchool$School", name := "isRight", desc := "()Z" } : Jvm.MethodName)) ∈ lw_all := lw_g (lw_at lw_m7 69 rfl) rfl
theorem q1580 : (Jvm.Cond.selects "SkipSchool$School" ({ cls := "SkipSchool$School", name := "isRight", desc := "()Z" } : Jvm.MethodName) ({ cls := "SkipSchool$School", name := "isRight", desc := "()Z" } : Jvm.MethodName)) ∈ lw_all := lw_g (lw_at lw_m7 70 rfl) rfl
theorem q1581 : (Jvm.Cond.code ({ cls := "SkipSchool$School", name := "isRight", desc := "()Z" } : Jvm.MethodName) prog_6_method_29_code (7 : Nat) (Option.some Jvm.ClassFile.FieldType.boolean)) ∈ lw_all := lw_g (lw_at lw_m7 71 rfl) rfl
theorem q1582 : (Jvm.Cond.methodLink "SkipSchool$School" (276 : Nat) ({ cls := "SkipSchool$School", name := "isTwice", desc := "(LSkipSchool$Stone;LSkipSchool$River;)Z" } : Jvm.MethodName)) ∈ lw_all := lw_g (lw_at lw_m7 72 rfl) rfl
theorem q1583 : (Jvm.Cond.privateMethod ({ cls := "SkipSchool$School", name := "isTwice", desc := "(LSkipSchool$Stone;LSkipSchool$River;)Z" } : Jvm.MethodName)) ∈ lw_tbl := lw_at lw_m7 73 rfl
theorem q1584 : (Jvm.Cond.instanceMethod ({ cls := "SkipSchool$School", name := "isTwice", desc := "(LSkipSchool$Stone;LSkipSchool$River;)Z" } : Jvm.MethodName)) ∈ lw_all := lw_g (lw_at lw_m7 74 rfl) rfl
theorem q1585 : (Jvm.Cond.code ({ cls := "SkipSchool$School", name := "isTwice", desc := "(LSkipSchool$Stone;LSkipSchool$River;)Z" } : Jvm.MethodName) prog_6_method_28_code (5 : Nat) (Option.some Jvm.ClassFile.FieldType.boolean)) ∈ lw_all := lw_g (lw_at lw_m7 75 rfl) rfl
theorem q1586 : (Jvm.Cond.methodLink "SkipSchool$School" (270 : Nat) ({ cls := "SkipSchool$Stone", name := "ownAngle", desc := "()I" } : Jvm.MethodName)) ∈ lw_all := lw_g (lw_at lw_m7 76 rfl) rfl
theorem q1587 : (Jvm.Cond.methodLink "SkipSchool$School" (273 : Nat) ({ cls := "SkipSchool$Throw", name := "isTwice", desc := "()Z" } : Jvm.MethodName)) ∈ lw_all := lw_g (lw_at lw_m7 77 rfl) rfl
theorem q1601 : (Jvm.Cond.methodLink "SkipSchool$School" (279 : Nat) ({ cls := "java/util/LinkedList", name := "iterator", desc := "()Ljava/util/Iterator;" } : Jvm.MethodName)) ∈ lw_all := lw_g (lw_at lw_m7 91 rfl) rfl
theorem q1677 : (Jvm.Cond.classLink "SkipSchool$School" (232 : Nat) "java/lang/Integer") ∈ lw_all := lw_g (lw_at lw_m7 167 rfl) rfl
theorem q1678 : (Jvm.Cond.methodLink "SkipSchool$School" (280 : Nat) ({ cls := "java/lang/Integer", name := "intValue", desc := "()I" } : Jvm.MethodName)) ∈ lw_all := lw_g (lw_at lw_m7 168 rfl) rfl
theorem q1682 : (Jvm.Cond.methodLink "SkipSchool$School" (283 : Nat) ({ cls := "java/util/LinkedList", name := "size", desc := "()I" } : Jvm.MethodName)) ∈ lw_all := lw_g (lw_at lw_m7 172 rfl) rfl
theorem q1738 : (Jvm.Cond.instanceMethod ({ cls := "SkipSchool$School", name := "bookingsOf", desc := "(I)I" } : Jvm.MethodName)) ∈ lw_all := lw_g (lw_at lw_m7 228 rfl) rfl
theorem q1739 : (Jvm.Cond.selects "SkipSchool$School" ({ cls := "SkipSchool$School", name := "bookingsOf", desc := "(I)I" } : Jvm.MethodName) ({ cls := "SkipSchool$School", name := "bookingsOf", desc := "(I)I" } : Jvm.MethodName)) ∈ lw_all := lw_g (lw_at lw_m7 229 rfl) rfl
theorem q1740 : (Jvm.Cond.code ({ cls := "SkipSchool$School", name := "bookingsOf", desc := "(I)I" } : Jvm.MethodName) prog_6_method_12_code (5 : Nat) (Option.some Jvm.ClassFile.FieldType.int)) ∈ lw_all := lw_g (lw_at lw_m7 230 rfl) rfl
theorem q1741 : (Jvm.Cond.methodLink "SkipSchool$School" (166 : Nat) ({ cls := "SkipSchool$River", name := "bookingsOf", desc := "(I)I" } : Jvm.MethodName)) ∈ lw_all := lw_g (lw_at lw_m7 231 rfl) rfl
theorem q1780 : (Jvm.Cond.instanceMethod ({ cls := "SkipSchool$School", name := "riverOf", desc := "(II)I" } : Jvm.MethodName)) ∈ lw_all := lw_g (lw_at lw_m8 30 rfl) rfl
theorem q1781 : (Jvm.Cond.selects "SkipSchool$School" ({ cls := "SkipSchool$School", name := "riverOf", desc := "(II)I" } : Jvm.MethodName) ({ cls := "SkipSchool$School", name := "riverOf", desc := "(II)I" } : Jvm.MethodName)) ∈ lw_all := lw_g (lw_at lw_m8 31 rfl) rfl
theorem q1782 : (Jvm.Cond.code ({ cls := "SkipSchool$School", name := "riverOf", desc := "(II)I" } : Jvm.MethodName) prog_6_method_27_code (4 : Nat) (Option.some Jvm.ClassFile.FieldType.int)) ∈ lw_all := lw_g (lw_at lw_m8 32 rfl) rfl
theorem q1783 : (Jvm.Cond.methodLink "SkipSchool$School" (264 : Nat) ({ cls := "SkipSchool$School", name := "awayAt", desc := "(I)I" } : Jvm.MethodName)) ∈ lw_all := lw_g (lw_at lw_m8 33 rfl) rfl
theorem q1784 : (Jvm.Cond.instanceMethod ({ cls := "SkipSchool$School", name := "awayAt", desc := "(I)I" } : Jvm.MethodName)) ∈ lw_all := lw_g (lw_at lw_m8 34 rfl) rfl
theorem q1785 : (Jvm.Cond.selects "SkipSchool$School" ({ cls := "SkipSchool$School", name := "awayAt", desc := "(I)I" } : Jvm.MethodName) ({ cls := "SkipSchool$School", name := "awayAt", desc := "(I)I" } : Jvm.MethodName)) ∈ lw_all := lw_g (lw_at lw_m8 35 rfl) rfl
theorem q1786 : (Jvm.Cond.code ({ cls := "SkipSchool$School", name := "awayAt", desc := "(I)I" } : Jvm.MethodName) prog_6_method_26_code (5 : Nat) (Option.some Jvm.ClassFile.FieldType.int)) ∈ lw_all := lw_g (lw_at lw_m8 36 rfl) rfl
theorem q1787 : (Jvm.Cond.classLink "SkipSchool$School" (267 : Nat) "java/lang/IllegalArgumentException") ∈ lw_all := lw_g (lw_at lw_m8 37 rfl) rfl
theorem q1788 : (Jvm.Cond.methodLink "SkipSchool$School" (269 : Nat) ({ cls := "java/lang/IllegalArgumentException", name := "<init>", desc := "()V" } : Jvm.MethodName)) ∈ lw_all := lw_g (lw_at lw_m8 38 rfl) rfl
theorem q1896 : (Jvm.Cond.instanceMethod ({ cls := "SkipSchool$School", name := "bestAngle", desc := "(III)I" } : Jvm.MethodName)) ∈ lw_all := lw_g (lw_at lw_m8 146 rfl) rfl
theorem q1897 : (Jvm.Cond.selects "SkipSchool$School" ({ cls := "SkipSchool$School", name := "bestAngle", desc := "(III)I" } : Jvm.MethodName) ({ cls := "SkipSchool$School", name := "bestAngle", desc := "(III)I" } : Jvm.MethodName)) ∈ lw_all := lw_g (lw_at lw_m8 147 rfl) rfl
theorem q1898 : (Jvm.Cond.code ({ cls := "SkipSchool$School", name := "bestAngle", desc := "(III)I" } : Jvm.MethodName) prog_6_method_20_code (7 : Nat) (Option.some Jvm.ClassFile.FieldType.int)) ∈ lw_all := lw_g (lw_at lw_m8 148 rfl) rfl
theorem q1907 : (Jvm.Cond.instanceMethod ({ cls := "SkipSchool$School", name := "leastSpeed", desc := "(III)I" } : Jvm.MethodName)) ∈ lw_all := lw_g (lw_at lw_m8 157 rfl) rfl
theorem q1908 : (Jvm.Cond.selects "SkipSchool$School" ({ cls := "SkipSchool$School", name := "leastSpeed", desc := "(III)I" } : Jvm.MethodName) ({ cls := "SkipSchool$School", name := "leastSpeed", desc := "(III)I" } : Jvm.MethodName)) ∈ lw_all := lw_g (lw_at lw_m8 158 rfl) rfl
theorem q1909 : (Jvm.Cond.code ({ cls := "SkipSchool$School", name := "leastSpeed", desc := "(III)I" } : Jvm.MethodName) prog_6_method_21_code (5 : Nat) (Option.some Jvm.ClassFile.FieldType.int)) ∈ lw_all := lw_g (lw_at lw_m8 159 rfl) rfl
theorem q1938 : (Jvm.Cond.instanceMethod ({ cls := "SkipSchool$School", name := "ranked", desc := "(II)I" } : Jvm.MethodName)) ∈ lw_all := lw_g (lw_at lw_m8 188 rfl) rfl
theorem q1939 : (Jvm.Cond.selects "SkipSchool$School" ({ cls := "SkipSchool$School", name := "ranked", desc := "(II)I" } : Jvm.MethodName) ({ cls := "SkipSchool$School", name := "ranked", desc := "(II)I" } : Jvm.MethodName)) ∈ lw_all := lw_g (lw_at lw_m8 189 rfl) rfl
theorem q1940 : (Jvm.Cond.code ({ cls := "SkipSchool$School", name := "ranked", desc := "(II)I" } : Jvm.MethodName) prog_6_method_23_code (7 : Nat) (Option.some Jvm.ClassFile.FieldType.int)) ∈ lw_all := lw_g (lw_at lw_m8 190 rfl) rfl
theorem q1941 : (Jvm.Cond.methodLink "SkipSchool$School" (250 : Nat) ({ cls := "SkipSchool$School", name := "measure", desc := "(II)I" } : Jvm.MethodName)) ∈ lw_all := lw_g (lw_at lw_m8 191 rfl) rfl
theorem q1942 : (Jvm.Cond.privateMethod ({ cls := "SkipSchool$School", name := "measure", desc := "(II)I" } : Jvm.MethodName)) ∈ lw_tbl := lw_at lw_m8 192 rfl
theorem q1943 : (Jvm.Cond.instanceMethod ({ cls := "SkipSchool$School", name := "measure", desc := "(II)I" } : Jvm.MethodName)) ∈ lw_all := lw_g (lw_at lw_m8 193 rfl) rfl
theorem q1944 : (Jvm.Cond.code ({ cls := "SkipSchool$School", name := "measure", desc := "(II)I" } : Jvm.MethodName) prog_6_method_22_code (3 : Nat) (Option.some Jvm.ClassFile.FieldType.int)) ∈ lw_all := lw_g (lw_at lw_m8 194 rfl) rfl
theorem q1945 : (Jvm.Cond.methodLink "SkipSchool$School" (247 : Nat) ({ cls := "SkipSchool$Stone", name := "number", desc := "(I)I" } : Jvm.MethodName)) ∈ lw_all := lw_g (lw_at lw_m8 195 rfl) rfl
theorem q1956 : (Jvm.Cond.instanceMethod ({ cls := "SkipSchool$School", name := "graded", desc := "(C)I" } : Jvm.MethodName)) ∈ lw_all := lw_g (lw_at lw_m8 206 rfl) rfl
theorem q1957 : (Jvm.Cond.selects "SkipSchool$School" ({ cls := "SkipSchool$School", name := "graded", desc := "(C)I" } : Jvm.MethodName) ({ cls := "SkipSchool$School", name := "graded", desc := "(C)I" } : Jvm.MethodName)) ∈ lw_all := lw_g (lw_at lw_m8 207 rfl) rfl
theorem q1958 : (Jvm.Cond.code ({ cls := "SkipSchool$School", name := "graded", desc := "(C)I" } : Jvm.MethodName) prog_6_method_24_code (5 : Nat) (Option.some Jvm.ClassFile.FieldType.int)) ∈ lw_all := lw_g (lw_at lw_m8 208 rfl) rfl
theorem q1959 : (Jvm.Cond.methodLink "SkipSchool$School" (254 : Nat) ({ cls := "SkipSchool$Stone", name := "grade", desc := "()C" } : Jvm.MethodName)) ∈ lw_all := lw_g (lw_at lw_m8 209 rfl) rfl
theorem q2067 : (Jvm.Cond.instanceMethod ({ cls := "SkipSchool$School", name := "bookings", desc := "()I" } : Jvm.MethodName)) ∈ lw_all := lw_g (lw_at lw_m9 77 rfl) rfl
theorem q2068 : (Jvm.Cond.selects "SkipSchool$School" ({ cls := "SkipSchool$School", name := "bookings", desc := "()I" } : Jvm.MethodName) ({ cls := "SkipSchool$School", name := "bookings", desc := "()I" } : Jvm.MethodName)) ∈ lw_all := lw_g (lw_at lw_m9 78 rfl) rfl
theorem q2069 : (Jvm.Cond.code ({ cls := "SkipSchool$School", name := "bookings", desc := "()I" } : Jvm.MethodName) prog_6_method_11_code (4 : Nat) (Option.some Jvm.ClassFile.FieldType.int)) ∈ lw_all := lw_g (lw_at lw_m9 79 rfl) rfl
theorem q2101 : (Jvm.Cond.instanceMethod ({ cls := "SkipSchool$School", name := "skills", desc := "()I" } : Jvm.MethodName)) ∈ lw_all := lw_g (lw_at lw_m9 111 rfl) rfl
theorem q2102 : (Jvm.Cond.selects "SkipSchool$School" ({ cls := "SkipSchool$School", name := "skills", desc := "()I" } : Jvm.MethodName) ({ cls := "SkipSchool$School", name := "skills", desc := "()I" } : Jvm.MethodName)) ∈ lw_all := lw_g (lw_at lw_m9 112 rfl) rfl
theorem q2103 : (Jvm.Cond.code ({ cls := "SkipSchool$School", name := "skills", desc := "()I" } : Jvm.MethodName) prog_6_method_25_code (4 : Nat) (Option.some Jvm.ClassFile.FieldType.int)) ∈ lw_all := lw_g (lw_at lw_m9 113 rfl) rfl
theorem q2736 : (Jvm.Cond.castable "SkipSchool$School" "java/lang/Object") ∈ lw_tbl := lw_at lw_m12 26 rfl
theorem in_X2 : ∀ w ∈ wsX20, w ∈ lw_all := lw_in wsX20 [205, 207, 209, 211, 213, 215, 217, 219, 221] (by decide +kernel) (by decide +kernel)

/-! SkipSchool$Stone -/
set_option maxRecDepth 100000
def RX4 : String := "SkipSchool$Stone"
def TX4 : u_T := fun k => match k with
  | 0 => ("SkipSchool$Stone", "flatness", "I", true)
  | 1 => ("SkipSchool$Stone", "weight", "I", true)
  | 2 => ("SkipSchool$Stone", "skill", "I", false)
  | 3 => ("SkipSchool$Stone", "kept", "I", false)
  | 4 => ("SkipSchool$Stone", "most", "I", false)
  | 5 => ("SkipSchool$Stone", "at", "I", false)
  | 6 => ("SkipSchool$Stone", "sankOn", "I", false)
  | 7 => ("SkipSchool$Stone", "thrown", "I", false)
  | 8 => ("SkipSchool$Stone", "skipped", "I", false)
  | 9 => ("SkipSchool$Stone", "hadLesson", "Z", false)
  | _ => ("SkipSchool$Stone", "hadTrial", "Z", false)
def tyX4 : Nat → FieldType := fun k => match k with
  | 0 => .int
  | 1 => .int
  | 2 => .int
  | 3 => .int
  | 4 => .int
  | 5 => .int
  | 6 => .int
  | 7 => .int
  | 8 => .int
  | 9 => .boolean
  | _ => .boolean
abbrev wsX40 : List Cond := u_ws RX4 TX4 11
theorem nmX4 : ∀ a, a < 11 → ∀ b, b < 11 → a ≠ b → (TX4 a).2.1 ≠ (TX4 b).2.1 := by decide +kernel
theorem tyX4_ok : ∀ k, k < 11 → parseFieldDescriptor (TX4 k).2.2.1 = some (tyX4 k) := by decide +kernel
abbrev cX4_copy : ByteArray := prog_7_method_2_code
def yX4_copy : MethodName := ⟨RX4, "copy", "()LSkipSchool$Stone;"⟩
def dkwX4_copy_3 : List UInt8 := [43, 42, 180, 0, 42, 181, 0, 42, 43, 42, 180, 0, 46, 181, 0, 46, 43, 176]
abbrev dktX4_copy_3 : List UInt8 := dkwX4_copy_3 ++ []
def dkwX4_copy_2 : List UInt8 := [43, 42, 180, 0, 18, 181, 0, 18, 43, 42, 180, 0, 36, 181, 0, 36, 43, 42, 180, 0, 39, 181, 0, 39]
abbrev dktX4_copy_2 : List UInt8 := dkwX4_copy_2 ++ dktX4_copy_3
def dkwX4_copy_1 : List UInt8 := [43, 42, 180, 0, 9, 181, 0, 9, 43, 42, 180, 0, 33, 181, 0, 33, 43, 42, 180, 0, 15, 181, 0, 15]
abbrev dktX4_copy_1 : List UInt8 := dkwX4_copy_1 ++ dktX4_copy_2
def dkwX4_copy_0 : List UInt8 := [187, 0, 10, 89, 42, 180, 0, 21, 42, 180, 0, 24, 183, 0, 27, 76, 43, 42, 180, 0, 30, 181, 0, 30]
abbrev dktX4_copy_0 : List UInt8 := dkwX4_copy_0 ++ dktX4_copy_1
theorem dksX4_copy_0 : cX4_copy.data.toList.drop 0 = dktX4_copy_0 := by decide +kernel
theorem dksX4_copy_1 : cX4_copy.data.toList.drop 24 = dktX4_copy_1 := dk_seg dksX4_copy_0 24 rfl rfl
theorem dksX4_copy_2 : cX4_copy.data.toList.drop 48 = dktX4_copy_2 := dk_seg dksX4_copy_1 24 rfl rfl
theorem dksX4_copy_3 : cX4_copy.data.toList.drop 72 = dktX4_copy_3 := dk_seg dksX4_copy_2 24 rfl rfl
theorem dX4_copy_0 : decode cX4_copy 0 = .ok (.new 10, 3) := dk_187 0 10 (dk_at dksX4_copy_0 0 rfl rfl)
theorem dX4_copy_3 : decode cX4_copy 3 = .ok (.dup, 1) := dk_89 (dk_at dksX4_copy_0 3 rfl rfl)
theorem dX4_copy_4 : decode cX4_copy 4 = .ok (.aload_n 0, 1) := dk_42 (dk_at dksX4_copy_0 4 rfl rfl)
theorem dX4_copy_5 : decode cX4_copy 5 = .ok (.getfield 21, 3) := dk_180 0 21 (dk_at dksX4_copy_0 5 rfl rfl)
theorem dX4_copy_8 : decode cX4_copy 8 = .ok (.aload_n 0, 1) := dk_42 (dk_at dksX4_copy_0 8 rfl rfl)
theorem dX4_copy_9 : decode cX4_copy 9 = .ok (.getfield 24, 3) := dk_180 0 24 (dk_at dksX4_copy_0 9 rfl rfl)
theorem dX4_copy_12 : decode cX4_copy 12 = .ok (.invokespecial 27, 3) := dk_183 0 27 (dk_at dksX4_copy_0 12 rfl rfl)
theorem dX4_copy_15 : decode cX4_copy 15 = .ok (.astore_n 1, 1) := dk_76 (dk_at dksX4_copy_0 15 rfl rfl)
theorem dX4_copy_16 : decode cX4_copy 16 = .ok (.aload_n 1, 1) := dk_43 (dk_at dksX4_copy_0 16 rfl rfl)
theorem dX4_copy_17 : decode cX4_copy 17 = .ok (.aload_n 0, 1) := dk_42 (dk_at dksX4_copy_0 17 rfl rfl)
theorem dX4_copy_18 : decode cX4_copy 18 = .ok (.getfield 30, 3) := dk_180 0 30 (dk_at dksX4_copy_0 18 rfl rfl)
theorem dX4_copy_21 : decode cX4_copy 21 = .ok (.putfield 30, 3) := dk_181 0 30 (dk_at dksX4_copy_0 21 rfl rfl)
theorem dX4_copy_24 : decode cX4_copy 24 = .ok (.aload_n 1, 1) := dk_43 (dk_at dksX4_copy_1 0 rfl rfl)
theorem dX4_copy_25 : decode cX4_copy 25 = .ok (.aload_n 0, 1) := dk_42 (dk_at dksX4_copy_1 1 rfl rfl)
theorem dX4_copy_26 : decode cX4_copy 26 = .ok (.getfield 9, 3) := dk_180 0 9 (dk_at dksX4_copy_1 2 rfl rfl)
theorem dX4_copy_29 : decode cX4_copy 29 = .ok (.putfield 9, 3) := dk_181 0 9 (dk_at dksX4_copy_1 5 rfl rfl)
theorem dX4_copy_32 : decode cX4_copy 32 = .ok (.aload_n 1, 1) := dk_43 (dk_at dksX4_copy_1 8 rfl rfl)
theorem dX4_copy_33 : decode cX4_copy 33 = .ok (.aload_n 0, 1) := dk_42 (dk_at dksX4_copy_1 9 rfl rfl)
theorem dX4_copy_34 : decode cX4_copy 34 = .ok (.getfield 33, 3) := dk_180 0 33 (dk_at dksX4_copy_1 10 rfl rfl)
theorem dX4_copy_37 : decode cX4_copy 37 = .ok (.putfield 33, 3) := dk_181 0 33 (dk_at dksX4_copy_1 13 rfl rfl)
theorem dX4_copy_40 : decode cX4_copy 40 = .ok (.aload_n 1, 1) := dk_43 (dk_at dksX4_copy_1 16 rfl rfl)
theorem dX4_copy_41 : decode cX4_copy 41 = .ok (.aload_n 0, 1) := dk_42 (dk_at dksX4_copy_1 17 rfl rfl)
theorem dX4_copy_42 : decode cX4_copy 42 = .ok (.getfield 15, 3) := dk_180 0 15 (dk_at dksX4_copy_1 18 rfl rfl)
theorem dX4_copy_45 : decode cX4_copy 45 = .ok (.putfield 15, 3) := dk_181 0 15 (dk_at dksX4_copy_1 21 rfl rfl)
theorem dX4_copy_48 : decode cX4_copy 48 = .ok (.aload_n 1, 1) := dk_43 (dk_at dksX4_copy_2 0 rfl rfl)
theorem dX4_copy_49 : decode cX4_copy 49 = .ok (.aload_n 0, 1) := dk_42 (dk_at dksX4_copy_2 1 rfl rfl)
theorem dX4_copy_50 : decode cX4_copy 50 = .ok (.getfield 18, 3) := dk_180 0 18 (dk_at dksX4_copy_2 2 rfl rfl)
theorem dX4_copy_53 : decode cX4_copy 53 = .ok (.putfield 18, 3) := dk_181 0 18 (dk_at dksX4_copy_2 5 rfl rfl)
theorem dX4_copy_56 : decode cX4_copy 56 = .ok (.aload_n 1, 1) := dk_43 (dk_at dksX4_copy_2 8 rfl rfl)
theorem dX4_copy_57 : decode cX4_copy 57 = .ok (.aload_n 0, 1) := dk_42 (dk_at dksX4_copy_2 9 rfl rfl)
theorem dX4_copy_58 : decode cX4_copy 58 = .ok (.getfield 36, 3) := dk_180 0 36 (dk_at dksX4_copy_2 10 rfl rfl)
theorem dX4_copy_61 : decode cX4_copy 61 = .ok (.putfield 36, 3) := dk_181 0 36 (dk_at dksX4_copy_2 13 rfl rfl)
theorem dX4_copy_64 : decode cX4_copy 64 = .ok (.aload_n 1, 1) := dk_43 (dk_at dksX4_copy_2 16 rfl rfl)
theorem dX4_copy_65 : decode cX4_copy 65 = .ok (.aload_n 0, 1) := dk_42 (dk_at dksX4_copy_2 17 rfl rfl)
theorem dX4_copy_66 : decode cX4_copy 66 = .ok (.getfield 39, 3) := dk_180 0 39 (dk_at dksX4_copy_2 18 rfl rfl)
theorem dX4_copy_69 : decode cX4_copy 69 = .ok (.putfield 39, 3) := dk_181 0 39 (dk_at dksX4_copy_2 21 rfl rfl)
theorem dX4_copy_72 : decode cX4_copy 72 = .ok (.aload_n 1, 1) := dk_43 (dk_at dksX4_copy_3 0 rfl rfl)
theorem dX4_copy_73 : decode cX4_copy 73 = .ok (.aload_n 0, 1) := dk_42 (dk_at dksX4_copy_3 1 rfl rfl)
theorem dX4_copy_74 : decode cX4_copy 74 = .ok (.getfield 42, 3) := dk_180 0 42 (dk_at dksX4_copy_3 2 rfl rfl)
theorem dX4_copy_77 : decode cX4_copy 77 = .ok (.putfield 42, 3) := dk_181 0 42 (dk_at dksX4_copy_3 5 rfl rfl)
theorem dX4_copy_80 : decode cX4_copy 80 = .ok (.aload_n 1, 1) := dk_43 (dk_at dksX4_copy_3 8 rfl rfl)
theorem dX4_copy_81 : decode cX4_copy 81 = .ok (.aload_n 0, 1) := dk_42 (dk_at dksX4_copy_3 9 rfl rfl)
theorem dX4_copy_82 : decode cX4_copy 82 = .ok (.getfield 46, 3) := dk_180 0 46 (dk_at dksX4_copy_3 10 rfl rfl)
theorem dX4_copy_85 : decode cX4_copy 85 = .ok (.putfield 46, 3) := dk_181 0 46 (dk_at dksX4_copy_3 13 rfl rfl)
theorem dX4_copy_88 : decode cX4_copy 88 = .ok (.aload_n 1, 1) := dk_43 (dk_at dksX4_copy_3 16 rfl rfl)
theorem dX4_copy_89 : decode cX4_copy 89 = .ok (.areturn, 1) := dk_176 (dk_at dksX4_copy_3 17 rfl rfl)
abbrev cX4_init : ByteArray := prog_7_method_1_code
def yX4_init : MethodName := ⟨RX4, "<init>", "(II)V"⟩
def dkwX4_init_1 : List UInt8 := [42, 28, 181, 0, 24, 177]
abbrev dktX4_init_1 : List UInt8 := dkwX4_init_1 ++ []
def dkwX4_init_0 : List UInt8 := [42, 183, 0, 3, 42, 2, 181, 0, 9, 42, 2, 181, 0, 15, 42, 2, 181, 0, 18, 42, 27, 181, 0, 21]
abbrev dktX4_init_0 : List UInt8 := dkwX4_init_0 ++ dktX4_init_1
theorem dksX4_init_0 : cX4_init.data.toList.drop 0 = dktX4_init_0 := by decide +kernel
theorem dksX4_init_1 : cX4_init.data.toList.drop 24 = dktX4_init_1 := dk_seg dksX4_init_0 24 rfl rfl
theorem dX4_init_0 : decode cX4_init 0 = .ok (.aload_n 0, 1) := dk_42 (dk_at dksX4_init_0 0 rfl rfl)
theorem dX4_init_1 : decode cX4_init 1 = .ok (.invokespecial 3, 3) := dk_183 0 3 (dk_at dksX4_init_0 1 rfl rfl)
theorem dX4_init_4 : decode cX4_init 4 = .ok (.aload_n 0, 1) := dk_42 (dk_at dksX4_init_0 4 rfl rfl)
theorem dX4_init_5 : decode cX4_init 5 = .ok (.iconst (-1), 1) := dk_2 (dk_at dksX4_init_0 5 rfl rfl)
theorem dX4_init_6 : decode cX4_init 6 = .ok (.putfield 9, 3) := dk_181 0 9 (dk_at dksX4_init_0 6 rfl rfl)
theorem dX4_init_9 : decode cX4_init 9 = .ok (.aload_n 0, 1) := dk_42 (dk_at dksX4_init_0 9 rfl rfl)
theorem dX4_init_10 : decode cX4_init 10 = .ok (.iconst (-1), 1) := dk_2 (dk_at dksX4_init_0 10 rfl rfl)
theorem dX4_init_11 : decode cX4_init 11 = .ok (.putfield 15, 3) := dk_181 0 15 (dk_at dksX4_init_0 11 rfl rfl)
theorem dX4_init_14 : decode cX4_init 14 = .ok (.aload_n 0, 1) := dk_42 (dk_at dksX4_init_0 14 rfl rfl)
theorem dX4_init_15 : decode cX4_init 15 = .ok (.iconst (-1), 1) := dk_2 (dk_at dksX4_init_0 15 rfl rfl)
theorem dX4_init_16 : decode cX4_init 16 = .ok (.putfield 18, 3) := dk_181 0 18 (dk_at dksX4_init_0 16 rfl rfl)
theorem dX4_init_19 : decode cX4_init 19 = .ok (.aload_n 0, 1) := dk_42 (dk_at dksX4_init_0 19 rfl rfl)
theorem dX4_init_20 : decode cX4_init 20 = .ok (.iload_n 1, 1) := dk_27 (dk_at dksX4_init_0 20 rfl rfl)
theorem dX4_init_21 : decode cX4_init 21 = .ok (.putfield 21, 3) := dk_181 0 21 (dk_at dksX4_init_0 21 rfl rfl)
theorem dX4_init_24 : decode cX4_init 24 = .ok (.aload_n 0, 1) := dk_42 (dk_at dksX4_init_1 0 rfl rfl)
theorem dX4_init_25 : decode cX4_init 25 = .ok (.iload_n 2, 1) := dk_28 (dk_at dksX4_init_1 1 rfl rfl)
theorem dX4_init_26 : decode cX4_init 26 = .ok (.putfield 24, 3) := dk_181 0 24 (dk_at dksX4_init_1 2 rfl rfl)
theorem dX4_init_29 : decode cX4_init 29 = .ok (.return_, 1) := dk_177 (dk_at dksX4_init_1 5 rfl rfl)
abbrev cX4_isSunk : ByteArray := prog_7_method_4_code
def yX4_isSunk : MethodName := ⟨RX4, "isSunk", "()Z"⟩
def dkwX4_isSunk_0 : List UInt8 := [42, 180, 0, 15, 16, 254, 160, 0, 7, 4, 167, 0, 4, 3, 172]
abbrev dktX4_isSunk_0 : List UInt8 := dkwX4_isSunk_0 ++ []
theorem dksX4_isSunk_0 : cX4_isSunk.data.toList.drop 0 = dktX4_isSunk_0 := by decide +kernel
theorem dX4_isSunk_0 : decode cX4_isSunk 0 = .ok (.aload_n 0, 1) := dk_42 (dk_at dksX4_isSunk_0 0 rfl rfl)
theorem dX4_isSunk_1 : decode cX4_isSunk 1 = .ok (.getfield 15, 3) := dk_180 0 15 (dk_at dksX4_isSunk_0 1 rfl rfl)
theorem dX4_isSunk_4 : decode cX4_isSunk 4 = .ok (.bipush (-2), 2) := dk_16 254 (dk_at dksX4_isSunk_0 4 rfl rfl)
theorem dX4_isSunk_6 : decode cX4_isSunk 6 = .ok (.if_icmp .ne 7, 3) := dk_160 0 7 (dk_at dksX4_isSunk_0 6 rfl rfl)
theorem dX4_isSunk_9 : decode cX4_isSunk 9 = .ok (.iconst 1, 1) := dk_4 (dk_at dksX4_isSunk_0 9 rfl rfl)
theorem dX4_isSunk_10 : decode cX4_isSunk 10 = .ok (.goto 4, 3) := dk_167 0 4 (dk_at dksX4_isSunk_0 10 rfl rfl)
theorem dX4_isSunk_13 : decode cX4_isSunk 13 = .ok (.iconst 0, 1) := dk_3 (dk_at dksX4_isSunk_0 13 rfl rfl)
theorem dX4_isSunk_14 : decode cX4_isSunk 14 = .ok (.ireturn, 1) := dk_172 (dk_at dksX4_isSunk_0 14 rfl rfl)
abbrev cX4_learn : ByteArray := prog_7_method_6_code
def yX4_learn : MethodName := ⟨RX4, "learn", "(I)V"⟩
def dkwX4_learn_0 : List UInt8 := [42, 16, 99, 42, 180, 0, 30, 27, 96, 184, 0, 49, 181, 0, 30, 177]
abbrev dktX4_learn_0 : List UInt8 := dkwX4_learn_0 ++ []
theorem dksX4_learn_0 : cX4_learn.data.toList.drop 0 = dktX4_learn_0 := by decide +kernel
theorem dX4_learn_0 : decode cX4_learn 0 = .ok (.aload_n 0, 1) := dk_42 (dk_at dksX4_learn_0 0 rfl rfl)
theorem dX4_learn_1 : decode cX4_learn 1 = .ok (.bipush 99, 2) := dk_16 99 (dk_at dksX4_learn_0 1 rfl rfl)
theorem dX4_learn_3 : decode cX4_learn 3 = .ok (.aload_n 0, 1) := dk_42 (dk_at dksX4_learn_0 3 rfl rfl)
theorem dX4_learn_4 : decode cX4_learn 4 = .ok (.getfield 30, 3) := dk_180 0 30 (dk_at dksX4_learn_0 4 rfl rfl)
theorem dX4_learn_7 : decode cX4_learn 7 = .ok (.iload_n 1, 1) := dk_27 (dk_at dksX4_learn_0 7 rfl rfl)
theorem dX4_learn_8 : decode cX4_learn 8 = .ok (.iadd, 1) := dk_96 (dk_at dksX4_learn_0 8 rfl rfl)
theorem dX4_learn_9 : decode cX4_learn 9 = .ok (.invokestatic 49, 3) := dk_184 0 49 (dk_at dksX4_learn_0 9 rfl rfl)
theorem dX4_learn_12 : decode cX4_learn 12 = .ok (.putfield 30, 3) := dk_181 0 30 (dk_at dksX4_learn_0 12 rfl rfl)
theorem dX4_learn_15 : decode cX4_learn 15 = .ok (.return_, 1) := dk_177 (dk_at dksX4_learn_0 15 rfl rfl)
abbrev cX4_thrown : ByteArray := prog_7_method_8_code
def yX4_thrown : MethodName := ⟨RX4, "thrown", "(LSkipSchool$River;II)LSkipSchool$Throw;"⟩
def dkwX4_thrown_2 : List UInt8 := [180, 0, 65, 100, 5, 108, 96, 183, 0, 70, 176]
abbrev dktX4_thrown_2 : List UInt8 := dkwX4_thrown_2 ++ []
def dkwX4_thrown_1 : List UInt8 := [187, 0, 55, 89, 21, 4, 4, 28, 42, 182, 0, 57, 100, 184, 0, 61, 6, 108, 96, 16, 9, 43]
abbrev dktX4_thrown_1 : List UInt8 := dkwX4_thrown_1 ++ dktX4_thrown_2
def dkwX4_thrown_0 : List UInt8 := [29, 5, 42, 180, 0, 21, 96, 104, 42, 180, 0, 30, 8, 108, 96, 42, 180, 0, 24, 100, 54, 4]
abbrev dktX4_thrown_0 : List UInt8 := dkwX4_thrown_0 ++ dktX4_thrown_1
theorem dksX4_thrown_0 : cX4_thrown.data.toList.drop 0 = dktX4_thrown_0 := by decide +kernel
theorem dksX4_thrown_1 : cX4_thrown.data.toList.drop 22 = dktX4_thrown_1 := dk_seg dksX4_thrown_0 22 rfl rfl
theorem dksX4_thrown_2 : cX4_thrown.data.toList.drop 44 = dktX4_thrown_2 := dk_seg dksX4_thrown_1 22 rfl rfl
theorem dX4_thrown_0 : decode cX4_thrown 0 = .ok (.iload_n 3, 1) := dk_29 (dk_at dksX4_thrown_0 0 rfl rfl)
theorem dX4_thrown_1 : decode cX4_thrown 1 = .ok (.iconst 2, 1) := dk_5 (dk_at dksX4_thrown_0 1 rfl rfl)
theorem dX4_thrown_2 : decode cX4_thrown 2 = .ok (.aload_n 0, 1) := dk_42 (dk_at dksX4_thrown_0 2 rfl rfl)
theorem dX4_thrown_3 : decode cX4_thrown 3 = .ok (.getfield 21, 3) := dk_180 0 21 (dk_at dksX4_thrown_0 3 rfl rfl)
theorem dX4_thrown_6 : decode cX4_thrown 6 = .ok (.iadd, 1) := dk_96 (dk_at dksX4_thrown_0 6 rfl rfl)
theorem dX4_thrown_7 : decode cX4_thrown 7 = .ok (.imul, 1) := dk_104 (dk_at dksX4_thrown_0 7 rfl rfl)
theorem dX4_thrown_8 : decode cX4_thrown 8 = .ok (.aload_n 0, 1) := dk_42 (dk_at dksX4_thrown_0 8 rfl rfl)
theorem dX4_thrown_9 : decode cX4_thrown 9 = .ok (.getfield 30, 3) := dk_180 0 30 (dk_at dksX4_thrown_0 9 rfl rfl)
theorem dX4_thrown_12 : decode cX4_thrown 12 = .ok (.iconst 5, 1) := dk_8 (dk_at dksX4_thrown_0 12 rfl rfl)
theorem dX4_thrown_13 : decode cX4_thrown 13 = .ok (.idiv, 1) := dk_108 (dk_at dksX4_thrown_0 13 rfl rfl)
theorem dX4_thrown_14 : decode cX4_thrown 14 = .ok (.iadd, 1) := dk_96 (dk_at dksX4_thrown_0 14 rfl rfl)
theorem dX4_thrown_15 : decode cX4_thrown 15 = .ok (.aload_n 0, 1) := dk_42 (dk_at dksX4_thrown_0 15 rfl rfl)
theorem dX4_thrown_16 : decode cX4_thrown 16 = .ok (.getfield 24, 3) := dk_180 0 24 (dk_at dksX4_thrown_0 16 rfl rfl)
theorem dX4_thrown_19 : decode cX4_thrown 19 = .ok (.isub, 1) := dk_100 (dk_at dksX4_thrown_0 19 rfl rfl)
theorem dX4_thrown_20 : decode cX4_thrown 20 = .ok (.istore 4, 2) := dk_54 4 (dk_at dksX4_thrown_0 20 rfl rfl)
theorem dX4_thrown_22 : decode cX4_thrown 22 = .ok (.new 55, 3) := dk_187 0 55 (dk_at dksX4_thrown_1 0 rfl rfl)
theorem dX4_thrown_25 : decode cX4_thrown 25 = .ok (.dup, 1) := dk_89 (dk_at dksX4_thrown_1 3 rfl rfl)
theorem dX4_thrown_26 : decode cX4_thrown 26 = .ok (.iload 4, 2) := dk_21 4 (dk_at dksX4_thrown_1 4 rfl rfl)
theorem dX4_thrown_28 : decode cX4_thrown 28 = .ok (.iconst 1, 1) := dk_4 (dk_at dksX4_thrown_1 6 rfl rfl)
theorem dX4_thrown_29 : decode cX4_thrown 29 = .ok (.iload_n 2, 1) := dk_28 (dk_at dksX4_thrown_1 7 rfl rfl)
theorem dX4_thrown_30 : decode cX4_thrown 30 = .ok (.aload_n 0, 1) := dk_42 (dk_at dksX4_thrown_1 8 rfl rfl)
theorem dX4_thrown_31 : decode cX4_thrown 31 = .ok (.invokevirtual 57, 3) := dk_182 0 57 (dk_at dksX4_thrown_1 9 rfl rfl)
theorem dX4_thrown_34 : decode cX4_thrown 34 = .ok (.isub, 1) := dk_100 (dk_at dksX4_thrown_1 12 rfl rfl)
theorem dX4_thrown_35 : decode cX4_thrown 35 = .ok (.invokestatic 61, 3) := dk_184 0 61 (dk_at dksX4_thrown_1 13 rfl rfl)
theorem dX4_thrown_38 : decode cX4_thrown 38 = .ok (.iconst 3, 1) := dk_6 (dk_at dksX4_thrown_1 16 rfl rfl)
theorem dX4_thrown_39 : decode cX4_thrown 39 = .ok (.idiv, 1) := dk_108 (dk_at dksX4_thrown_1 17 rfl rfl)
theorem dX4_thrown_40 : decode cX4_thrown 40 = .ok (.iadd, 1) := dk_96 (dk_at dksX4_thrown_1 18 rfl rfl)
theorem dX4_thrown_41 : decode cX4_thrown 41 = .ok (.bipush 9, 2) := dk_16 9 (dk_at dksX4_thrown_1 19 rfl rfl)
theorem dX4_thrown_43 : decode cX4_thrown 43 = .ok (.aload_n 1, 1) := dk_43 (dk_at dksX4_thrown_1 21 rfl rfl)
theorem dX4_thrown_44 : decode cX4_thrown 44 = .ok (.getfield 65, 3) := dk_180 0 65 (dk_at dksX4_thrown_2 0 rfl rfl)
theorem dX4_thrown_47 : decode cX4_thrown 47 = .ok (.isub, 1) := dk_100 (dk_at dksX4_thrown_2 3 rfl rfl)
theorem dX4_thrown_48 : decode cX4_thrown 48 = .ok (.iconst 2, 1) := dk_5 (dk_at dksX4_thrown_2 4 rfl rfl)
theorem dX4_thrown_49 : decode cX4_thrown 49 = .ok (.idiv, 1) := dk_108 (dk_at dksX4_thrown_2 5 rfl rfl)
theorem dX4_thrown_50 : decode cX4_thrown 50 = .ok (.iadd, 1) := dk_96 (dk_at dksX4_thrown_2 6 rfl rfl)
theorem dX4_thrown_51 : decode cX4_thrown 51 = .ok (.invokespecial 70, 3) := dk_183 0 70 (dk_at dksX4_thrown_2 7 rfl rfl)
theorem dX4_thrown_54 : decode cX4_thrown 54 = .ok (.areturn, 1) := dk_176 (dk_at dksX4_thrown_2 10 rfl rfl)
abbrev cX4_ownAngle : ByteArray := prog_7_method_3_code
def yX4_ownAngle : MethodName := ⟨RX4, "ownAngle", "()I"⟩
def dkwX4_ownAngle_0 : List UInt8 := [16, 10, 5, 42, 180, 0, 21, 104, 96, 42, 180, 0, 24, 100, 172]
abbrev dktX4_ownAngle_0 : List UInt8 := dkwX4_ownAngle_0 ++ []
theorem dksX4_ownAngle_0 : cX4_ownAngle.data.toList.drop 0 = dktX4_ownAngle_0 := by decide +kernel
theorem dX4_ownAngle_0 : decode cX4_ownAngle 0 = .ok (.bipush 10, 2) := dk_16 10 (dk_at dksX4_ownAngle_0 0 rfl rfl)
theorem dX4_ownAngle_2 : decode cX4_ownAngle 2 = .ok (.iconst 2, 1) := dk_5 (dk_at dksX4_ownAngle_0 2 rfl rfl)
theorem dX4_ownAngle_3 : decode cX4_ownAngle 3 = .ok (.aload_n 0, 1) := dk_42 (dk_at dksX4_ownAngle_0 3 rfl rfl)
theorem dX4_ownAngle_4 : decode cX4_ownAngle 4 = .ok (.getfield 21, 3) := dk_180 0 21 (dk_at dksX4_ownAngle_0 4 rfl rfl)
theorem dX4_ownAngle_7 : decode cX4_ownAngle 7 = .ok (.imul, 1) := dk_104 (dk_at dksX4_ownAngle_0 7 rfl rfl)
theorem dX4_ownAngle_8 : decode cX4_ownAngle 8 = .ok (.iadd, 1) := dk_96 (dk_at dksX4_ownAngle_0 8 rfl rfl)
theorem dX4_ownAngle_9 : decode cX4_ownAngle 9 = .ok (.aload_n 0, 1) := dk_42 (dk_at dksX4_ownAngle_0 9 rfl rfl)
theorem dX4_ownAngle_10 : decode cX4_ownAngle 10 = .ok (.getfield 24, 3) := dk_180 0 24 (dk_at dksX4_ownAngle_0 10 rfl rfl)
theorem dX4_ownAngle_13 : decode cX4_ownAngle 13 = .ok (.isub, 1) := dk_100 (dk_at dksX4_ownAngle_0 13 rfl rfl)
theorem dX4_ownAngle_14 : decode cX4_ownAngle 14 = .ok (.ireturn, 1) := dk_172 (dk_at dksX4_ownAngle_0 14 rfl rfl)
abbrev cX4_isAway : ByteArray := prog_7_method_5_code
def yX4_isAway : MethodName := ⟨RX4, "isAway", "()Z"⟩
def dkwX4_isAway_0 : List UInt8 := [42, 180, 0, 15, 155, 0, 7, 4, 167, 0, 4, 3, 172]
abbrev dktX4_isAway_0 : List UInt8 := dkwX4_isAway_0 ++ []
theorem dksX4_isAway_0 : cX4_isAway.data.toList.drop 0 = dktX4_isAway_0 := by decide +kernel
theorem dX4_isAway_0 : decode cX4_isAway 0 = .ok (.aload_n 0, 1) := dk_42 (dk_at dksX4_isAway_0 0 rfl rfl)
theorem dX4_isAway_1 : decode cX4_isAway 1 = .ok (.getfield 15, 3) := dk_180 0 15 (dk_at dksX4_isAway_0 1 rfl rfl)
theorem dX4_isAway_4 : decode cX4_isAway 4 = .ok (.ifCond .lt 7, 3) := dk_155 0 7 (dk_at dksX4_isAway_0 4 rfl rfl)
theorem dX4_isAway_7 : decode cX4_isAway 7 = .ok (.iconst 1, 1) := dk_4 (dk_at dksX4_isAway_0 7 rfl rfl)
theorem dX4_isAway_8 : decode cX4_isAway 8 = .ok (.goto 4, 3) := dk_167 0 4 (dk_at dksX4_isAway_0 8 rfl rfl)
theorem dX4_isAway_11 : decode cX4_isAway 11 = .ok (.iconst 0, 1) := dk_3 (dk_at dksX4_isAway_0 11 rfl rfl)
theorem dX4_isAway_12 : decode cX4_isAway 12 = .ok (.ireturn, 1) := dk_172 (dk_at dksX4_isAway_0 12 rfl rfl)
abbrev cX4_number : ByteArray := prog_7_method_9_code
def yX4_number : MethodName := ⟨RX4, "number", "(I)I"⟩
def dkwX4_number_4 : List UInt8 := [89, 183, 0, 73, 191]
abbrev dktX4_number_4 : List UInt8 := dkwX4_number_4 ++ []
def dkwX4_number_3 : List UInt8 := [172, 42, 180, 0, 33, 172, 42, 180, 0, 15, 172, 42, 180, 0, 36, 172, 42, 180, 0, 39, 172, 187, 0, 71]
abbrev dktX4_number_3 : List UInt8 := dkwX4_number_3 ++ dktX4_number_4
def dkwX4_number_2 : List UInt8 := [42, 180, 0, 21, 172, 42, 180, 0, 24, 172, 42, 180, 0, 30, 172, 42, 182, 0, 57, 172, 42, 180, 0, 9]
abbrev dktX4_number_2 : List UInt8 := dkwX4_number_2 ++ dktX4_number_3
def dkwX4_number_1 : List UInt8 := [170, 0, 0, 0, 0, 0, 96, 0, 0, 0, 0, 0, 0, 0, 8, 0, 0, 0, 51, 0, 0, 0, 56, 0, 0, 0, 61, 0, 0, 0, 66, 0, 0, 0, 71, 0, 0, 0, 76, 0, 0, 0, 81, 0, 0, 0, 86, 0, 0, 0, 91]
abbrev dktX4_number_1 : List UInt8 := dkwX4_number_1 ++ dktX4_number_2
def dkwX4_number_0 : List UInt8 := [27]
abbrev dktX4_number_0 : List UInt8 := dkwX4_number_0 ++ dktX4_number_1
theorem dksX4_number_0 : cX4_number.data.toList.drop 0 = dktX4_number_0 := by decide +kernel
theorem dksX4_number_1 : cX4_number.data.toList.drop 1 = dktX4_number_1 := dk_seg dksX4_number_0 1 rfl rfl
theorem dksX4_number_2 : cX4_number.data.toList.drop 52 = dktX4_number_2 := dk_seg dksX4_number_1 51 rfl rfl
theorem dksX4_number_3 : cX4_number.data.toList.drop 76 = dktX4_number_3 := dk_seg dksX4_number_2 24 rfl rfl
theorem dksX4_number_4 : cX4_number.data.toList.drop 100 = dktX4_number_4 := dk_seg dksX4_number_3 24 rfl rfl
theorem dX4_number_0 : decode cX4_number 0 = .ok (.iload_n 1, 1) := dk_27 (dk_at dksX4_number_0 0 rfl rfl)
theorem dX4_number_1 : decode cX4_number 1 = .ok (.tableswitch 96 0 8 #[51, 56, 61, 66, 71, 76, 81, 86, 91], 51) := by decide +kernel
theorem dX4_number_52 : decode cX4_number 52 = .ok (.aload_n 0, 1) := dk_42 (dk_at dksX4_number_2 0 rfl rfl)
theorem dX4_number_53 : decode cX4_number 53 = .ok (.getfield 21, 3) := dk_180 0 21 (dk_at dksX4_number_2 1 rfl rfl)
theorem dX4_number_56 : decode cX4_number 56 = .ok (.ireturn, 1) := dk_172 (dk_at dksX4_number_2 4 rfl rfl)
theorem dX4_number_57 : decode cX4_number 57 = .ok (.aload_n 0, 1) := dk_42 (dk_at dksX4_number_2 5 rfl rfl)
theorem dX4_number_58 : decode cX4_number 58 = .ok (.getfield 24, 3) := dk_180 0 24 (dk_at dksX4_number_2 6 rfl rfl)
theorem dX4_number_61 : decode cX4_number 61 = .ok (.ireturn, 1) := dk_172 (dk_at dksX4_number_2 9 rfl rfl)
theorem dX4_number_62 : decode cX4_number 62 = .ok (.aload_n 0, 1) := dk_42 (dk_at dksX4_number_2 10 rfl rfl)
theorem dX4_number_63 : decode cX4_number 63 = .ok (.getfield 30, 3) := dk_180 0 30 (dk_at dksX4_number_2 11 rfl rfl)
theorem dX4_number_66 : decode cX4_number 66 = .ok (.ireturn, 1) := dk_172 (dk_at dksX4_number_2 14 rfl rfl)
theorem dX4_number_67 : decode cX4_number 67 = .ok (.aload_n 0, 1) := dk_42 (dk_at dksX4_number_2 15 rfl rfl)
theorem dX4_number_68 : decode cX4_number 68 = .ok (.invokevirtual 57, 3) := dk_182 0 57 (dk_at dksX4_number_2 16 rfl rfl)
theorem dX4_number_71 : decode cX4_number 71 = .ok (.ireturn, 1) := dk_172 (dk_at dksX4_number_2 19 rfl rfl)
theorem dX4_number_72 : decode cX4_number 72 = .ok (.aload_n 0, 1) := dk_42 (dk_at dksX4_number_2 20 rfl rfl)
theorem dX4_number_73 : decode cX4_number 73 = .ok (.getfield 9, 3) := dk_180 0 9 (dk_at dksX4_number_2 21 rfl rfl)
theorem dX4_number_76 : decode cX4_number 76 = .ok (.ireturn, 1) := dk_172 (dk_at dksX4_number_3 0 rfl rfl)
theorem dX4_number_77 : decode cX4_number 77 = .ok (.aload_n 0, 1) := dk_42 (dk_at dksX4_number_3 1 rfl rfl)
theorem dX4_number_78 : decode cX4_number 78 = .ok (.getfield 33, 3) := dk_180 0 33 (dk_at dksX4_number_3 2 rfl rfl)
theorem dX4_number_81 : decode cX4_number 81 = .ok (.ireturn, 1) := dk_172 (dk_at dksX4_number_3 5 rfl rfl)
theorem dX4_number_82 : decode cX4_number 82 = .ok (.aload_n 0, 1) := dk_42 (dk_at dksX4_number_3 6 rfl rfl)
theorem dX4_number_83 : decode cX4_number 83 = .ok (.getfield 15, 3) := dk_180 0 15 (dk_at dksX4_number_3 7 rfl rfl)
theorem dX4_number_86 : decode cX4_number 86 = .ok (.ireturn, 1) := dk_172 (dk_at dksX4_number_3 10 rfl rfl)
theorem dX4_number_87 : decode cX4_number 87 = .ok (.aload_n 0, 1) := dk_42 (dk_at dksX4_number_3 11 rfl rfl)
theorem dX4_number_88 : decode cX4_number 88 = .ok (.getfield 36, 3) := dk_180 0 36 (dk_at dksX4_number_3 12 rfl rfl)
theorem dX4_number_91 : decode cX4_number 91 = .ok (.ireturn, 1) := dk_172 (dk_at dksX4_number_3 15 rfl rfl)
theorem dX4_number_92 : decode cX4_number 92 = .ok (.aload_n 0, 1) := dk_42 (dk_at dksX4_number_3 16 rfl rfl)
theorem dX4_number_93 : decode cX4_number 93 = .ok (.getfield 39, 3) := dk_180 0 39 (dk_at dksX4_number_3 17 rfl rfl)
theorem dX4_number_96 : decode cX4_number 96 = .ok (.ireturn, 1) := dk_172 (dk_at dksX4_number_3 20 rfl rfl)
theorem dX4_number_97 : decode cX4_number 97 = .ok (.new 71, 3) := dk_187 0 71 (dk_at dksX4_number_3 21 rfl rfl)
theorem dX4_number_100 : decode cX4_number 100 = .ok (.dup, 1) := dk_89 (dk_at dksX4_number_4 0 rfl rfl)
theorem dX4_number_101 : decode cX4_number 101 = .ok (.invokespecial 73, 3) := dk_183 0 73 (dk_at dksX4_number_4 1 rfl rfl)
theorem dX4_number_104 : decode cX4_number 104 = .ok (.athrow, 1) := dk_191 (dk_at dksX4_number_4 4 rfl rfl)
abbrev cX4_grade : ByteArray := prog_7_method_7_code
def yX4_grade : MethodName := ⟨RX4, "grade", "()C"⟩
def dkwX4_grade_2 : List UInt8 := [167, 0, 16, 27, 16, 20, 161, 0, 8, 16, 100, 167, 0, 5, 16, 101, 172]
abbrev dktX4_grade_2 : List UInt8 := dkwX4_grade_2 ++ []
def dkwX4_grade_1 : List UInt8 := [167, 0, 38, 27, 16, 60, 161, 0, 8, 16, 98, 167, 0, 27, 27, 16, 40, 161, 0, 8, 16, 99]
abbrev dktX4_grade_1 : List UInt8 := dkwX4_grade_1 ++ dktX4_grade_2
def dkwX4_grade_0 : List UInt8 := [42, 180, 0, 30, 5, 108, 8, 42, 180, 0, 21, 104, 96, 60, 27, 16, 80, 161, 0, 8, 16, 97]
abbrev dktX4_grade_0 : List UInt8 := dkwX4_grade_0 ++ dktX4_grade_1
theorem dksX4_grade_0 : cX4_grade.data.toList.drop 0 = dktX4_grade_0 := by decide +kernel
theorem dksX4_grade_1 : cX4_grade.data.toList.drop 22 = dktX4_grade_1 := dk_seg dksX4_grade_0 22 rfl rfl
theorem dksX4_grade_2 : cX4_grade.data.toList.drop 44 = dktX4_grade_2 := dk_seg dksX4_grade_1 22 rfl rfl
theorem dX4_grade_0 : decode cX4_grade 0 = .ok (.aload_n 0, 1) := dk_42 (dk_at dksX4_grade_0 0 rfl rfl)
theorem dX4_grade_1 : decode cX4_grade 1 = .ok (.getfield 30, 3) := dk_180 0 30 (dk_at dksX4_grade_0 1 rfl rfl)
theorem dX4_grade_4 : decode cX4_grade 4 = .ok (.iconst 2, 1) := dk_5 (dk_at dksX4_grade_0 4 rfl rfl)
theorem dX4_grade_5 : decode cX4_grade 5 = .ok (.idiv, 1) := dk_108 (dk_at dksX4_grade_0 5 rfl rfl)
theorem dX4_grade_6 : decode cX4_grade 6 = .ok (.iconst 5, 1) := dk_8 (dk_at dksX4_grade_0 6 rfl rfl)
theorem dX4_grade_7 : decode cX4_grade 7 = .ok (.aload_n 0, 1) := dk_42 (dk_at dksX4_grade_0 7 rfl rfl)
theorem dX4_grade_8 : decode cX4_grade 8 = .ok (.getfield 21, 3) := dk_180 0 21 (dk_at dksX4_grade_0 8 rfl rfl)
theorem dX4_grade_11 : decode cX4_grade 11 = .ok (.imul, 1) := dk_104 (dk_at dksX4_grade_0 11 rfl rfl)
theorem dX4_grade_12 : decode cX4_grade 12 = .ok (.iadd, 1) := dk_96 (dk_at dksX4_grade_0 12 rfl rfl)
theorem dX4_grade_13 : decode cX4_grade 13 = .ok (.istore_n 1, 1) := dk_60 (dk_at dksX4_grade_0 13 rfl rfl)
theorem dX4_grade_14 : decode cX4_grade 14 = .ok (.iload_n 1, 1) := dk_27 (dk_at dksX4_grade_0 14 rfl rfl)
theorem dX4_grade_15 : decode cX4_grade 15 = .ok (.bipush 80, 2) := dk_16 80 (dk_at dksX4_grade_0 15 rfl rfl)
theorem dX4_grade_17 : decode cX4_grade 17 = .ok (.if_icmp .lt 8, 3) := dk_161 0 8 (dk_at dksX4_grade_0 17 rfl rfl)
theorem dX4_grade_20 : decode cX4_grade 20 = .ok (.bipush 97, 2) := dk_16 97 (dk_at dksX4_grade_0 20 rfl rfl)
theorem dX4_grade_22 : decode cX4_grade 22 = .ok (.goto 38, 3) := dk_167 0 38 (dk_at dksX4_grade_1 0 rfl rfl)
theorem dX4_grade_25 : decode cX4_grade 25 = .ok (.iload_n 1, 1) := dk_27 (dk_at dksX4_grade_1 3 rfl rfl)
theorem dX4_grade_26 : decode cX4_grade 26 = .ok (.bipush 60, 2) := dk_16 60 (dk_at dksX4_grade_1 4 rfl rfl)
theorem dX4_grade_28 : decode cX4_grade 28 = .ok (.if_icmp .lt 8, 3) := dk_161 0 8 (dk_at dksX4_grade_1 6 rfl rfl)
theorem dX4_grade_31 : decode cX4_grade 31 = .ok (.bipush 98, 2) := dk_16 98 (dk_at dksX4_grade_1 9 rfl rfl)
theorem dX4_grade_33 : decode cX4_grade 33 = .ok (.goto 27, 3) := dk_167 0 27 (dk_at dksX4_grade_1 11 rfl rfl)
theorem dX4_grade_36 : decode cX4_grade 36 = .ok (.iload_n 1, 1) := dk_27 (dk_at dksX4_grade_1 14 rfl rfl)
theorem dX4_grade_37 : decode cX4_grade 37 = .ok (.bipush 40, 2) := dk_16 40 (dk_at dksX4_grade_1 15 rfl rfl)
theorem dX4_grade_39 : decode cX4_grade 39 = .ok (.if_icmp .lt 8, 3) := dk_161 0 8 (dk_at dksX4_grade_1 17 rfl rfl)
theorem dX4_grade_42 : decode cX4_grade 42 = .ok (.bipush 99, 2) := dk_16 99 (dk_at dksX4_grade_1 20 rfl rfl)
theorem dX4_grade_44 : decode cX4_grade 44 = .ok (.goto 16, 3) := dk_167 0 16 (dk_at dksX4_grade_2 0 rfl rfl)
theorem dX4_grade_47 : decode cX4_grade 47 = .ok (.iload_n 1, 1) := dk_27 (dk_at dksX4_grade_2 3 rfl rfl)
theorem dX4_grade_48 : decode cX4_grade 48 = .ok (.bipush 20, 2) := dk_16 20 (dk_at dksX4_grade_2 4 rfl rfl)
theorem dX4_grade_50 : decode cX4_grade 50 = .ok (.if_icmp .lt 8, 3) := dk_161 0 8 (dk_at dksX4_grade_2 6 rfl rfl)
theorem dX4_grade_53 : decode cX4_grade 53 = .ok (.bipush 100, 2) := dk_16 100 (dk_at dksX4_grade_2 9 rfl rfl)
theorem dX4_grade_55 : decode cX4_grade 55 = .ok (.goto 5, 3) := dk_167 0 5 (dk_at dksX4_grade_2 11 rfl rfl)
theorem dX4_grade_58 : decode cX4_grade 58 = .ok (.bipush 101, 2) := dk_16 101 (dk_at dksX4_grade_2 14 rfl rfl)
theorem dX4_grade_60 : decode cX4_grade 60 = .ok (.ireturn, 1) := dk_172 (dk_at dksX4_grade_2 16 rfl rfl)
abbrev cX4_told : ByteArray := prog_7_method_10_code
def yX4_told : MethodName := ⟨RX4, "told", "()Ljava/lang/String;"⟩
def dkwX4_told_6 : List UInt8 := [182, 0, 83, 182, 0, 92, 176]
abbrev dktX4_told_6 : List UInt8 := dkwX4_told_6 ++ []
def dkwX4_told_5 : List UInt8 := [183, 0, 76, 18, 105, 182, 0, 83, 42, 180, 0, 15, 182, 0, 77, 182, 0, 92, 167, 0, 5, 18, 88]
abbrev dktX4_told_5 : List UInt8 := dkwX4_told_5 ++ dktX4_told_6
def dkwX4_told_4 : List UInt8 := [182, 0, 96, 153, 0, 8, 18, 100, 167, 0, 37, 42, 182, 0, 102, 153, 0, 28, 187, 0, 74, 89]
abbrev dktX4_told_4 : List UInt8 := dkwX4_told_4 ++ dktX4_told_5
def dkwX4_told_3 : List UInt8 := [182, 0, 92, 182, 0, 83, 182, 0, 92, 76, 187, 0, 74, 89, 183, 0, 76, 43, 182, 0, 83, 42]
abbrev dktX4_told_3 : List UInt8 := dkwX4_told_3 ++ dktX4_told_4
def dkwX4_told_2 : List UInt8 := [18, 88, 167, 0, 25, 187, 0, 74, 89, 183, 0, 76, 18, 90, 182, 0, 83, 42, 180, 0, 9, 182, 0, 77]
abbrev dktX4_told_2 : List UInt8 := dkwX4_told_2 ++ dktX4_told_3
def dkwX4_told_1 : List UInt8 := [182, 0, 77, 18, 86, 182, 0, 83, 42, 180, 0, 30, 182, 0, 77, 42, 180, 0, 9, 2, 160, 0, 8]
abbrev dktX4_told_1 : List UInt8 := dkwX4_told_1 ++ dktX4_told_2
def dkwX4_told_0 : List UInt8 := [187, 0, 74, 89, 183, 0, 76, 42, 180, 0, 21, 182, 0, 77, 18, 81, 182, 0, 83, 42, 180, 0, 24]
abbrev dktX4_told_0 : List UInt8 := dkwX4_told_0 ++ dktX4_told_1
theorem dksX4_told_0 : cX4_told.data.toList.drop 0 = dktX4_told_0 := by decide +kernel
theorem dksX4_told_1 : cX4_told.data.toList.drop 23 = dktX4_told_1 := dk_seg dksX4_told_0 23 rfl rfl
theorem dksX4_told_2 : cX4_told.data.toList.drop 46 = dktX4_told_2 := dk_seg dksX4_told_1 23 rfl rfl
theorem dksX4_told_3 : cX4_told.data.toList.drop 70 = dktX4_told_3 := dk_seg dksX4_told_2 24 rfl rfl
theorem dksX4_told_4 : cX4_told.data.toList.drop 92 = dktX4_told_4 := dk_seg dksX4_told_3 22 rfl rfl
theorem dksX4_told_5 : cX4_told.data.toList.drop 114 = dktX4_told_5 := dk_seg dksX4_told_4 22 rfl rfl
theorem dksX4_told_6 : cX4_told.data.toList.drop 137 = dktX4_told_6 := dk_seg dksX4_told_5 23 rfl rfl
theorem dX4_told_0 : decode cX4_told 0 = .ok (.new 74, 3) := dk_187 0 74 (dk_at dksX4_told_0 0 rfl rfl)
theorem dX4_told_3 : decode cX4_told 3 = .ok (.dup, 1) := dk_89 (dk_at dksX4_told_0 3 rfl rfl)
theorem dX4_told_4 : decode cX4_told 4 = .ok (.invokespecial 76, 3) := dk_183 0 76 (dk_at dksX4_told_0 4 rfl rfl)
theorem dX4_told_7 : decode cX4_told 7 = .ok (.aload_n 0, 1) := dk_42 (dk_at dksX4_told_0 7 rfl rfl)
theorem dX4_told_8 : decode cX4_told 8 = .ok (.getfield 21, 3) := dk_180 0 21 (dk_at dksX4_told_0 8 rfl rfl)
theorem dX4_told_11 : decode cX4_told 11 = .ok (.invokevirtual 77, 3) := dk_182 0 77 (dk_at dksX4_told_0 11 rfl rfl)
theorem dX4_told_14 : decode cX4_told 14 = .ok (.ldc 81, 2) := dk_18 81 (dk_at dksX4_told_0 14 rfl rfl)
theorem dX4_told_16 : decode cX4_told 16 = .ok (.invokevirtual 83, 3) := dk_182 0 83 (dk_at dksX4_told_0 16 rfl rfl)
theorem dX4_told_19 : decode cX4_told 19 = .ok (.aload_n 0, 1) := dk_42 (dk_at dksX4_told_0 19 rfl rfl)
theorem dX4_told_20 : decode cX4_told 20 = .ok (.getfield 24, 3) := dk_180 0 24 (dk_at dksX4_told_0 20 rfl rfl)
theorem dX4_told_23 : decode cX4_told 23 = .ok (.invokevirtual 77, 3) := dk_182 0 77 (dk_at dksX4_told_1 0 rfl rfl)
theorem dX4_told_26 : decode cX4_told 26 = .ok (.ldc 86, 2) := dk_18 86 (dk_at dksX4_told_1 3 rfl rfl)
theorem dX4_told_28 : decode cX4_told 28 = .ok (.invokevirtual 83, 3) := dk_182 0 83 (dk_at dksX4_told_1 5 rfl rfl)
theorem dX4_told_31 : decode cX4_told 31 = .ok (.aload_n 0, 1) := dk_42 (dk_at dksX4_told_1 8 rfl rfl)
theorem dX4_told_32 : decode cX4_told 32 = .ok (.getfield 30, 3) := dk_180 0 30 (dk_at dksX4_told_1 9 rfl rfl)
theorem dX4_told_35 : decode cX4_told 35 = .ok (.invokevirtual 77, 3) := dk_182 0 77 (dk_at dksX4_told_1 12 rfl rfl)
theorem dX4_told_38 : decode cX4_told 38 = .ok (.aload_n 0, 1) := dk_42 (dk_at dksX4_told_1 15 rfl rfl)
theorem dX4_told_39 : decode cX4_told 39 = .ok (.getfield 9, 3) := dk_180 0 9 (dk_at dksX4_told_1 16 rfl rfl)
theorem dX4_told_42 : decode cX4_told 42 = .ok (.iconst (-1), 1) := dk_2 (dk_at dksX4_told_1 19 rfl rfl)
theorem dX4_told_43 : decode cX4_told 43 = .ok (.if_icmp .ne 8, 3) := dk_160 0 8 (dk_at dksX4_told_1 20 rfl rfl)
theorem dX4_told_46 : decode cX4_told 46 = .ok (.ldc 88, 2) := dk_18 88 (dk_at dksX4_told_2 0 rfl rfl)
theorem dX4_told_48 : decode cX4_told 48 = .ok (.goto 25, 3) := dk_167 0 25 (dk_at dksX4_told_2 2 rfl rfl)
theorem dX4_told_51 : decode cX4_told 51 = .ok (.new 74, 3) := dk_187 0 74 (dk_at dksX4_told_2 5 rfl rfl)
theorem dX4_told_54 : decode cX4_told 54 = .ok (.dup, 1) := dk_89 (dk_at dksX4_told_2 8 rfl rfl)
theorem dX4_told_55 : decode cX4_told 55 = .ok (.invokespecial 76, 3) := dk_183 0 76 (dk_at dksX4_told_2 9 rfl rfl)
theorem dX4_told_58 : decode cX4_told 58 = .ok (.ldc 90, 2) := dk_18 90 (dk_at dksX4_told_2 12 rfl rfl)
theorem dX4_told_60 : decode cX4_told 60 = .ok (.invokevirtual 83, 3) := dk_182 0 83 (dk_at dksX4_told_2 14 rfl rfl)
theorem dX4_told_63 : decode cX4_told 63 = .ok (.aload_n 0, 1) := dk_42 (dk_at dksX4_told_2 17 rfl rfl)
theorem dX4_told_64 : decode cX4_told 64 = .ok (.getfield 9, 3) := dk_180 0 9 (dk_at dksX4_told_2 18 rfl rfl)
theorem dX4_told_67 : decode cX4_told 67 = .ok (.invokevirtual 77, 3) := dk_182 0 77 (dk_at dksX4_told_2 21 rfl rfl)
theorem dX4_told_70 : decode cX4_told 70 = .ok (.invokevirtual 92, 3) := dk_182 0 92 (dk_at dksX4_told_3 0 rfl rfl)
theorem dX4_told_73 : decode cX4_told 73 = .ok (.invokevirtual 83, 3) := dk_182 0 83 (dk_at dksX4_told_3 3 rfl rfl)
theorem dX4_told_76 : decode cX4_told 76 = .ok (.invokevirtual 92, 3) := dk_182 0 92 (dk_at dksX4_told_3 6 rfl rfl)
theorem dX4_told_79 : decode cX4_told 79 = .ok (.astore_n 1, 1) := dk_76 (dk_at dksX4_told_3 9 rfl rfl)
theorem dX4_told_80 : decode cX4_told 80 = .ok (.new 74, 3) := dk_187 0 74 (dk_at dksX4_told_3 10 rfl rfl)
theorem dX4_told_83 : decode cX4_told 83 = .ok (.dup, 1) := dk_89 (dk_at dksX4_told_3 13 rfl rfl)
theorem dX4_told_84 : decode cX4_told 84 = .ok (.invokespecial 76, 3) := dk_183 0 76 (dk_at dksX4_told_3 14 rfl rfl)
theorem dX4_told_87 : decode cX4_told 87 = .ok (.aload_n 1, 1) := dk_43 (dk_at dksX4_told_3 17 rfl rfl)
theorem dX4_told_88 : decode cX4_told 88 = .ok (.invokevirtual 83, 3) := dk_182 0 83 (dk_at dksX4_told_3 18 rfl rfl)
theorem dX4_told_91 : decode cX4_told 91 = .ok (.aload_n 0, 1) := dk_42 (dk_at dksX4_told_3 21 rfl rfl)
theorem dX4_told_92 : decode cX4_told 92 = .ok (.invokevirtual 96, 3) := dk_182 0 96 (dk_at dksX4_told_4 0 rfl rfl)
theorem dX4_told_95 : decode cX4_told 95 = .ok (.ifCond .eq 8, 3) := dk_153 0 8 (dk_at dksX4_told_4 3 rfl rfl)
theorem dX4_told_98 : decode cX4_told 98 = .ok (.ldc 100, 2) := dk_18 100 (dk_at dksX4_told_4 6 rfl rfl)
theorem dX4_told_100 : decode cX4_told 100 = .ok (.goto 37, 3) := dk_167 0 37 (dk_at dksX4_told_4 8 rfl rfl)
theorem dX4_told_103 : decode cX4_told 103 = .ok (.aload_n 0, 1) := dk_42 (dk_at dksX4_told_4 11 rfl rfl)
theorem dX4_told_104 : decode cX4_told 104 = .ok (.invokevirtual 102, 3) := dk_182 0 102 (dk_at dksX4_told_4 12 rfl rfl)
theorem dX4_told_107 : decode cX4_told 107 = .ok (.ifCond .eq 28, 3) := dk_153 0 28 (dk_at dksX4_told_4 15 rfl rfl)
theorem dX4_told_110 : decode cX4_told 110 = .ok (.new 74, 3) := dk_187 0 74 (dk_at dksX4_told_4 18 rfl rfl)
theorem dX4_told_113 : decode cX4_told 113 = .ok (.dup, 1) := dk_89 (dk_at dksX4_told_4 21 rfl rfl)
theorem dX4_told_114 : decode cX4_told 114 = .ok (.invokespecial 76, 3) := dk_183 0 76 (dk_at dksX4_told_5 0 rfl rfl)
theorem dX4_told_117 : decode cX4_told 117 = .ok (.ldc 105, 2) := dk_18 105 (dk_at dksX4_told_5 3 rfl rfl)
theorem dX4_told_119 : decode cX4_told 119 = .ok (.invokevirtual 83, 3) := dk_182 0 83 (dk_at dksX4_told_5 5 rfl rfl)
theorem dX4_told_122 : decode cX4_told 122 = .ok (.aload_n 0, 1) := dk_42 (dk_at dksX4_told_5 8 rfl rfl)
theorem dX4_told_123 : decode cX4_told 123 = .ok (.getfield 15, 3) := dk_180 0 15 (dk_at dksX4_told_5 9 rfl rfl)
theorem dX4_told_126 : decode cX4_told 126 = .ok (.invokevirtual 77, 3) := dk_182 0 77 (dk_at dksX4_told_5 12 rfl rfl)
theorem dX4_told_129 : decode cX4_told 129 = .ok (.invokevirtual 92, 3) := dk_182 0 92 (dk_at dksX4_told_5 15 rfl rfl)
theorem dX4_told_132 : decode cX4_told 132 = .ok (.goto 5, 3) := dk_167 0 5 (dk_at dksX4_told_5 18 rfl rfl)
theorem dX4_told_135 : decode cX4_told 135 = .ok (.ldc 88, 2) := dk_18 88 (dk_at dksX4_told_5 21 rfl rfl)
theorem dX4_told_137 : decode cX4_told 137 = .ok (.invokevirtual 83, 3) := dk_182 0 83 (dk_at dksX4_told_6 0 rfl rfl)
theorem dX4_told_140 : decode cX4_told 140 = .ok (.invokevirtual 92, 3) := dk_182 0 92 (dk_at dksX4_told_6 3 rfl rfl)
theorem dX4_told_143 : decode cX4_told 143 = .ok (.areturn, 1) := dk_176 (dk_at dksX4_told_6 6 rfl rfl)
theorem q100 : (Jvm.Cond.initialized "SkipSchool$Stone") ∈ lw_all := lw_g (lw_at lw_m1 30 rfl) rfl
theorem q785 : (Jvm.Cond.selects "SkipSchool$Stone" ({ cls := "java/lang/Object", name := "getClass", desc := "()Ljava/lang/Class;" } : Jvm.MethodName) ({ cls := "java/lang/Object", name := "getClass", desc := "()Ljava/lang/Class;" } : Jvm.MethodName)) ∈ lw_all := lw_g (lw_at lw_m3 235 rfl) rfl
theorem q881 : (Jvm.Cond.instanceMethod ({ cls := "SkipSchool$Stone", name := "copy", desc := "()LSkipSchool$Stone;" } : Jvm.MethodName)) ∈ lw_all := lw_g (lw_at lw_m4 91 rfl) rfl
theorem q882 : (Jvm.Cond.selects "SkipSchool$Stone" ({ cls := "SkipSchool$Stone", name := "copy", desc := "()LSkipSchool$Stone;" } : Jvm.MethodName) ({ cls := "SkipSchool$Stone", name := "copy", desc := "()LSkipSchool$Stone;" } : Jvm.MethodName)) ∈ lw_all := lw_g (lw_at lw_m4 92 rfl) rfl
theorem q883 : (Jvm.Cond.code ({ cls := "SkipSchool$Stone", name := "copy", desc := "()LSkipSchool$Stone;" } : Jvm.MethodName) prog_7_method_2_code (2 : Nat) (Option.some (Jvm.ClassFile.FieldType.object "SkipSchool$Stone"))) ∈ lw_all := lw_g (lw_at lw_m4 93 rfl) rfl
theorem q884 : (Jvm.Cond.classLink "SkipSchool$Stone" (10 : Nat) "SkipSchool$Stone") ∈ lw_all := lw_g (lw_at lw_m4 94 rfl) rfl
theorem q885 : (Jvm.Cond.instantiable "SkipSchool$Stone" (11 : Nat)) ∈ lw_all := lw_g (lw_at lw_m4 95 rfl) rfl
theorem q886 : (Jvm.Cond.methodLink "SkipSchool$Stone" (27 : Nat) ({ cls := "SkipSchool$Stone", name := "<init>", desc := "(II)V" } : Jvm.MethodName)) ∈ lw_all := lw_g (lw_at lw_m4 96 rfl) rfl
theorem q887 : (Jvm.Cond.instanceMethod ({ cls := "SkipSchool$Stone", name := "<init>", desc := "(II)V" } : Jvm.MethodName)) ∈ lw_all := lw_g (lw_at lw_m4 97 rfl) rfl
theorem q888 : (Jvm.Cond.code ({ cls := "SkipSchool$Stone", name := "<init>", desc := "(II)V" } : Jvm.MethodName) prog_7_method_1_code (3 : Nat) (Option.none : Option Jvm.ClassFile.FieldType)) ∈ lw_all := lw_g (lw_at lw_m4 98 rfl) rfl
theorem q889 : (Jvm.Cond.methodLink "SkipSchool$Stone" (3 : Nat) ({ cls := "java/lang/Object", name := "<init>", desc := "()V" } : Jvm.MethodName)) ∈ lw_all := lw_g (lw_at lw_m4 99 rfl) rfl
theorem q890 : (Jvm.Cond.fieldLink "SkipSchool$Stone" (21 : Nat) "SkipSchool$Stone" "flatness" "I") ∈ lw_all := lw_g (lw_at lw_m4 100 rfl) rfl
theorem q892 : (Jvm.Cond.fieldLink "SkipSchool$Stone" (24 : Nat) "SkipSchool$Stone" "weight" "I") ∈ lw_all := lw_g (lw_at lw_m4 102 rfl) rfl
theorem q893 : (Jvm.Cond.fieldLink "SkipSchool$Stone" (30 : Nat) "SkipSchool$Stone" "skill" "I") ∈ lw_all := lw_g (lw_at lw_m4 103 rfl) rfl
theorem q895 : (Jvm.Cond.fieldLink "SkipSchool$Stone" (9 : Nat) "SkipSchool$Stone" "kept" "I") ∈ lw_all := lw_g (lw_at lw_m4 105 rfl) rfl
theorem q897 : (Jvm.Cond.fieldLink "SkipSchool$Stone" (33 : Nat) "SkipSchool$Stone" "most" "I") ∈ lw_all := lw_g (lw_at lw_m4 107 rfl) rfl
theorem q899 : (Jvm.Cond.fieldLink "SkipSchool$Stone" (15 : Nat) "SkipSchool$Stone" "at" "I") ∈ lw_all := lw_g (lw_at lw_m4 109 rfl) rfl
theorem q901 : (Jvm.Cond.fieldLink "SkipSchool$Stone" (18 : Nat) "SkipSchool$Stone" "sankOn" "I") ∈ lw_all := lw_g (lw_at lw_m4 111 rfl) rfl
theorem q904 : (Jvm.Cond.fieldLink "SkipSchool$Stone" (36 : Nat) "SkipSchool$Stone" "thrown" "I") ∈ lw_all := lw_g (lw_at lw_m4 114 rfl) rfl
theorem q906 : (Jvm.Cond.fieldLink "SkipSchool$Stone" (39 : Nat) "SkipSchool$Stone" "skipped" "I") ∈ lw_all := lw_g (lw_at lw_m4 116 rfl) rfl
theorem q908 : (Jvm.Cond.fieldLink "SkipSchool$Stone" (42 : Nat) "SkipSchool$Stone" "hadLesson" "Z") ∈ lw_all := lw_g (lw_at lw_m4 118 rfl) rfl
theorem q910 : (Jvm.Cond.fieldLink "SkipSchool$Stone" (46 : Nat) "SkipSchool$Stone" "hadTrial" "Z") ∈ lw_all := lw_g (lw_at lw_m4 120 rfl) rfl
theorem q912 : (Jvm.Cond.laysFinal "SkipSchool$Stone" "SkipSchool$Stone" "flatness" "I") ∈ lw_all := lw_g (lw_at lw_m4 122 rfl) rfl
theorem q913 : (Jvm.Cond.soleField "SkipSchool$Stone" "flatness") ∈ lw_all := lw_g (lw_at lw_m4 123 rfl) rfl
theorem q914 : (Jvm.Cond.laysFinal "SkipSchool$Stone" "SkipSchool$Stone" "weight" "I") ∈ lw_all := lw_g (lw_at lw_m4 124 rfl) rfl
theorem q915 : (Jvm.Cond.soleField "SkipSchool$Stone" "weight") ∈ lw_all := lw_g (lw_at lw_m4 125 rfl) rfl
theorem q916 : (Jvm.Cond.lays "SkipSchool$Stone" "SkipSchool$Stone" "skill" "I") ∈ lw_all := lw_g (lw_at lw_m4 126 rfl) rfl
theorem q917 : (Jvm.Cond.soleField "SkipSchool$Stone" "skill") ∈ lw_all := lw_g (lw_at lw_m4 127 rfl) rfl
theorem q918 : (Jvm.Cond.lays "SkipSchool$Stone" "SkipSchool$Stone" "kept" "I") ∈ lw_all := lw_g (lw_at lw_m4 128 rfl) rfl
theorem q919 : (Jvm.Cond.soleField "SkipSchool$Stone" "kept") ∈ lw_all := lw_g (lw_at lw_m4 129 rfl) rfl
theorem q920 : (Jvm.Cond.lays "SkipSchool$Stone" "SkipSchool$Stone" "most" "I") ∈ lw_all := lw_g (lw_at lw_m4 130 rfl) rfl
theorem q921 : (Jvm.Cond.soleField "SkipSchool$Stone" "most") ∈ lw_all := lw_g (lw_at lw_m4 131 rfl) rfl
theorem q922 : (Jvm.Cond.lays "SkipSchool$Stone" "SkipSchool$Stone" "at" "I") ∈ lw_all := lw_g (lw_at lw_m4 132 rfl) rfl
theorem q923 : (Jvm.Cond.soleField "SkipSchool$Stone" "at") ∈ lw_all := lw_g (lw_at lw_m4 133 rfl) rfl
theorem q924 : (Jvm.Cond.lays "SkipSchool$Stone" "SkipSchool$Stone" "sankOn" "I") ∈ lw_all := lw_g (lw_at lw_m4 134 rfl) rfl
theorem q925 : (Jvm.Cond.soleField "SkipSchool$Stone" "sankOn") ∈ lw_all := lw_g (lw_at lw_m4 135 rfl) rfl
theorem q926 : (Jvm.Cond.lays "SkipSchool$Stone" "SkipSchool$Stone" "thrown" "I") ∈ lw_all := lw_g (lw_at lw_m4 136 rfl) rfl
theorem q927 : (Jvm.Cond.soleField "SkipSchool$Stone" "thrown") ∈ lw_all := lw_g (lw_at lw_m4 137 rfl) rfl
theorem q928 : (Jvm.Cond.lays "SkipSchool$Stone" "SkipSchool$Stone" "skipped" "I") ∈ lw_all := lw_g (lw_at lw_m4 138 rfl) rfl
theorem q929 : (Jvm.Cond.soleField "SkipSchool$Stone" "skipped") ∈ lw_all := lw_g (lw_at lw_m4 139 rfl) rfl
theorem q930 : (Jvm.Cond.lays "SkipSchool$Stone" "SkipSchool$Stone" "hadLesson" "Z") ∈ lw_all := lw_g (lw_at lw_m4 140 rfl) rfl
theorem q931 : (Jvm.Cond.soleField "SkipSchool$Stone" "hadLesson") ∈ lw_all := lw_g (lw_at lw_m4 141 rfl) rfl
theorem q932 : (Jvm.Cond.lays "SkipSchool$Stone" "SkipSchool$Stone" "hadTrial" "Z") ∈ lw_all := lw_g (lw_at lw_m4 142 rfl) rfl
theorem q933 : (Jvm.Cond.soleField "SkipSchool$Stone" "hadTrial") ∈ lw_all := lw_g (lw_at lw_m4 143 rfl) rfl
theorem q934 : (Jvm.Cond.superclass "SkipSchool$Stone" "java/lang/Object") ∈ lw_all := lw_g (lw_at lw_m4 144 rfl) rfl
theorem q1002 : (Jvm.Cond.fieldLinkNest "SkipSchool$Stone" (65 : Nat) "SkipSchool$River" "calm" "I" "SkipSchool") ∈ lw_tbl := lw_at lw_m4 212 rfl
theorem q1309 : (Jvm.Cond.instanceMethod ({ cls := "SkipSchool$Stone", name := "isSunk", desc := "()Z" } : Jvm.MethodName)) ∈ lw_all := lw_g (lw_at lw_m6 39 rfl) rfl
theorem q1310 : (Jvm.Cond.selects "SkipSchool$Stone" ({ cls := "SkipSchool$Stone", name := "isSunk", desc := "()Z" } : Jvm.MethodName) ({ cls := "SkipSchool$Stone", name := "isSunk", desc := "()Z" } : Jvm.MethodName)) ∈ lw_all := lw_g (lw_at lw_m6 40 rfl) rfl
theorem q1311 : (Jvm.Cond.code ({ cls := "SkipSchool$Stone", name := "isSunk", desc := "()Z" } : Jvm.MethodName) prog_7_method_4_code (1 : Nat) (Option.some Jvm.ClassFile.FieldType.boolean)) ∈ lw_all := lw_g (lw_at lw_m6 41 rfl) rfl
theorem q1369 : (Jvm.Cond.instanceMethod ({ cls := "SkipSchool$Stone", name := "learn", desc := "(I)V" } : Jvm.MethodName)) ∈ lw_all := lw_g (lw_at lw_m6 99 rfl) rfl
theorem q1370 : (Jvm.Cond.selects "SkipSchool$Stone" ({ cls := "SkipSchool$Stone", name := "learn", desc := "(I)V" } : Jvm.MethodName) ({ cls := "SkipSchool$Stone", name := "learn", desc := "(I)V" } : Jvm.MethodName)) ∈ lw_all := lw_g (lw_at lw_m6 100 rfl) rfl
theorem q1371 : (Jvm.Cond.code ({ cls := "SkipSchool$Stone", name := "learn", desc := "(I)V" } : Jvm.MethodName) prog_7_method_6_code (2 : Nat) (Option.none : Option Jvm.ClassFile.FieldType)) ∈ lw_all := lw_g (lw_at lw_m6 101 rfl) rfl
theorem q1372 : (Jvm.Cond.methodLink "SkipSchool$Stone" (49 : Nat) ({ cls := "java/lang/Math", name := "min", desc := "(II)I" } : Jvm.MethodName)) ∈ lw_all := lw_g (lw_at lw_m6 102 rfl) rfl
theorem q1390 : (Jvm.Cond.instanceMethod ({ cls := "SkipSchool$Stone", name := "thrown", desc := "(LSkipSchool$River;II)LSkipSchool$Throw;" } : Jvm.MethodName)) ∈ lw_all := lw_g (lw_at lw_m6 120 rfl) rfl
theorem q1391 : (Jvm.Cond.selects "SkipSchool$Stone" ({ cls := "SkipSchool$Stone", name := "thrown", desc := "(LSkipSchool$River;II)LSkipSchool$Throw;" } : Jvm.MethodName) ({ cls := "SkipSchool$Stone", name := "thrown", desc := "(LSkipSchool$River;II)LSkipSchool$Throw;" } : Jvm.MethodName)) ∈ lw_all := lw_g (lw_at lw_m6 121 rfl) rfl
theorem q1392 : (Jvm.Cond.code ({ cls := "SkipSchool$Stone", name := "thrown", desc := "(LSkipSchool$River;II)LSkipSchool$Throw;" } : Jvm.MethodName) prog_7_method_8_code (5 : Nat) (Option.some (Jvm.ClassFile.FieldType.object "SkipSchool$Throw"))) ∈ lw_all := lw_g (lw_at lw_m6 122 rfl) rfl
theorem q1393 : (Jvm.Cond.classLink "SkipSchool$Stone" (55 : Nat) "SkipSchool$Throw") ∈ lw_all := lw_g (lw_at lw_m6 123 rfl) rfl
theorem q1395 : (Jvm.Cond.methodLink "SkipSchool$Stone" (57 : Nat) ({ cls := "SkipSchool$Stone", name := "ownAngle", desc := "()I" } : Jvm.MethodName)) ∈ lw_all := lw_g (lw_at lw_m6 125 rfl) rfl
theorem q1396 : (Jvm.Cond.instanceMethod ({ cls := "SkipSchool$Stone", name := "ownAngle", desc := "()I" } : Jvm.MethodName)) ∈ lw_all := lw_g (lw_at lw_m6 126 rfl) rfl
theorem q1397 : (Jvm.Cond.selects "SkipSchool$Stone" ({ cls := "SkipSchool$Stone", name := "ownAngle", desc := "()I" } : Jvm.MethodName) ({ cls := "SkipSchool$Stone", name := "ownAngle", desc := "()I" } : Jvm.MethodName)) ∈ lw_all := lw_g (lw_at lw_m6 127 rfl) rfl
theorem q1398 : (Jvm.Cond.code ({ cls := "SkipSchool$Stone", name := "ownAngle", desc := "()I" } : Jvm.MethodName) prog_7_method_3_code (1 : Nat) (Option.some Jvm.ClassFile.FieldType.int)) ∈ lw_all := lw_g (lw_at lw_m6 128 rfl) rfl
theorem q1399 : (Jvm.Cond.methodLink "SkipSchool$Stone" (61 : Nat) ({ cls := "java/lang/Math", name := "abs", desc := "(I)I" } : Jvm.MethodName)) ∈ lw_all := lw_g (lw_at lw_m6 129 rfl) rfl
theorem q1402 : (Jvm.Cond.methodLink "SkipSchool$Stone" (70 : Nat) ({ cls := "SkipSchool$Throw", name := "<init>", desc := "(II)V" } : Jvm.MethodName)) ∈ lw_all := lw_g (lw_at lw_m6 132 rfl) rfl
theorem q1422 : (Jvm.Cond.instanceMethod ({ cls := "SkipSchool$Stone", name := "isAway", desc := "()Z" } : Jvm.MethodName)) ∈ lw_all := lw_g (lw_at lw_m6 152 rfl) rfl
theorem q1423 : (Jvm.Cond.selects "SkipSchool$Stone" ({ cls := "SkipSchool$Stone", name := "isAway", desc := "()Z" } : Jvm.MethodName) ({ cls := "SkipSchool$Stone", name := "isAway", desc := "()Z" } : Jvm.MethodName)) ∈ lw_all := lw_g (lw_at lw_m6 153 rfl) rfl
theorem q1424 : (Jvm.Cond.code ({ cls := "SkipSchool$Stone", name := "isAway", desc := "()Z" } : Jvm.MethodName) prog_7_method_5_code (1 : Nat) (Option.some Jvm.ClassFile.FieldType.boolean)) ∈ lw_all := lw_g (lw_at lw_m6 154 rfl) rfl
theorem q1756 : (Jvm.Cond.instanceMethod ({ cls := "SkipSchool$Stone", name := "number", desc := "(I)I" } : Jvm.MethodName)) ∈ lw_all := lw_g (lw_at lw_m8 6 rfl) rfl
theorem q1757 : (Jvm.Cond.selects "SkipSchool$Stone" ({ cls := "SkipSchool$Stone", name := "number", desc := "(I)I" } : Jvm.MethodName) ({ cls := "SkipSchool$Stone", name := "number", desc := "(I)I" } : Jvm.MethodName)) ∈ lw_all := lw_g (lw_at lw_m8 7 rfl) rfl
theorem q1758 : (Jvm.Cond.code ({ cls := "SkipSchool$Stone", name := "number", desc := "(I)I" } : Jvm.MethodName) prog_7_method_9_code (2 : Nat) (Option.some Jvm.ClassFile.FieldType.int)) ∈ lw_all := lw_g (lw_at lw_m8 8 rfl) rfl
theorem q1759 : (Jvm.Cond.classLink "SkipSchool$Stone" (71 : Nat) "java/lang/IllegalArgumentException") ∈ lw_all := lw_g (lw_at lw_m8 9 rfl) rfl
theorem q1760 : (Jvm.Cond.methodLink "SkipSchool$Stone" (73 : Nat) ({ cls := "java/lang/IllegalArgumentException", name := "<init>", desc := "()V" } : Jvm.MethodName)) ∈ lw_all := lw_g (lw_at lw_m8 10 rfl) rfl
theorem q1769 : (Jvm.Cond.instanceMethod ({ cls := "SkipSchool$Stone", name := "grade", desc := "()C" } : Jvm.MethodName)) ∈ lw_all := lw_g (lw_at lw_m8 19 rfl) rfl
theorem q1770 : (Jvm.Cond.selects "SkipSchool$Stone" ({ cls := "SkipSchool$Stone", name := "grade", desc := "()C" } : Jvm.MethodName) ({ cls := "SkipSchool$Stone", name := "grade", desc := "()C" } : Jvm.MethodName)) ∈ lw_all := lw_g (lw_at lw_m8 20 rfl) rfl
theorem q1771 : (Jvm.Cond.code ({ cls := "SkipSchool$Stone", name := "grade", desc := "()C" } : Jvm.MethodName) prog_7_method_7_code (2 : Nat) (Option.some Jvm.ClassFile.FieldType.char)) ∈ lw_all := lw_g (lw_at lw_m8 21 rfl) rfl
theorem q1968 : (Jvm.Cond.instanceMethod ({ cls := "SkipSchool$Stone", name := "told", desc := "()Ljava/lang/String;" } : Jvm.MethodName)) ∈ lw_all := lw_g (lw_at lw_m8 218 rfl) rfl
theorem q1969 : (Jvm.Cond.selects "SkipSchool$Stone" ({ cls := "SkipSchool$Stone", name := "told", desc := "()Ljava/lang/String;" } : Jvm.MethodName) ({ cls := "SkipSchool$Stone", name := "told", desc := "()Ljava/lang/String;" } : Jvm.MethodName)) ∈ lw_all := lw_g (lw_at lw_m8 219 rfl) rfl
theorem q1970 : (Jvm.Cond.code ({ cls := "SkipSchool$Stone", name := "told", desc := "()Ljava/lang/String;" } : Jvm.MethodName) prog_7_method_10_code (2 : Nat) (Option.some (Jvm.ClassFile.FieldType.object "java/lang/String"))) ∈ lw_all := lw_g (lw_at lw_m8 220 rfl) rfl
theorem q1971 : (Jvm.Cond.classLink "SkipSchool$Stone" (74 : Nat) "java/lang/StringBuilder") ∈ lw_all := lw_g (lw_at lw_m8 221 rfl) rfl
theorem q1972 : (Jvm.Cond.methodLink "SkipSchool$Stone" (76 : Nat) ({ cls := "java/lang/StringBuilder", name := "<init>", desc := "()V" } : Jvm.MethodName)) ∈ lw_all := lw_g (lw_at lw_m8 222 rfl) rfl
theorem q1973 : (Jvm.Cond.methodLink "SkipSchool$Stone" (77 : Nat) ({ cls := "java/lang/StringBuilder", name := "append", desc := "(I)Ljava/lang/StringBuilder;" } : Jvm.MethodName)) ∈ lw_all := lw_g (lw_at lw_m8 223 rfl) rfl
theorem q1974 : (Jvm.Cond.stringRef "SkipSchool$Stone" (81 : Nat) "/") ∈ lw_tbl := lw_at lw_m8 224 rfl
theorem q1975 : (Jvm.Cond.methodLink "SkipSchool$Stone" (83 : Nat) ({ cls := "java/lang/StringBuilder", name := "append", desc := "(Ljava/lang/String;)Ljava/lang/StringBuilder;" } : Jvm.MethodName)) ∈ lw_all := lw_g (lw_at lw_m8 225 rfl) rfl
theorem q1976 : (Jvm.Cond.stringRef "SkipSchool$Stone" (86 : Nat) "*") ∈ lw_tbl := lw_at lw_m8 226 rfl
theorem q1977 : (Jvm.Cond.stringRef "SkipSchool$Stone" (88 : Nat) "") ∈ lw_tbl := lw_at lw_m8 227 rfl
theorem q1978 : (Jvm.Cond.stringRef "SkipSchool$Stone" (90 : Nat) "@") ∈ lw_tbl := lw_at lw_m8 228 rfl
theorem q1979 : (Jvm.Cond.methodLink "SkipSchool$Stone" (92 : Nat) ({ cls := "java/lang/StringBuilder", name := "toString", desc := "()Ljava/lang/String;" } : Jvm.MethodName)) ∈ lw_all := lw_g (lw_at lw_m8 229 rfl) rfl
theorem q1980 : (Jvm.Cond.methodLink "SkipSchool$Stone" (96 : Nat) ({ cls := "SkipSchool$Stone", name := "isSunk", desc := "()Z" } : Jvm.MethodName)) ∈ lw_all := lw_g (lw_at lw_m8 230 rfl) rfl
theorem q1981 : (Jvm.Cond.stringRef "SkipSchool$Stone" (100 : Nat) "!") ∈ lw_tbl := lw_at lw_m8 231 rfl
theorem q1982 : (Jvm.Cond.methodLink "SkipSchool$Stone" (102 : Nat) ({ cls := "SkipSchool$Stone", name := "isAway", desc := "()Z" } : Jvm.MethodName)) ∈ lw_all := lw_g (lw_at lw_m8 232 rfl) rfl
theorem q1983 : (Jvm.Cond.stringRef "SkipSchool$Stone" (105 : Nat) ">") ∈ lw_tbl := lw_at lw_m8 233 rfl
theorem q2744 : (Jvm.Cond.castable "SkipSchool$Stone" "java/lang/Object") ∈ lw_tbl := lw_at lw_m12 34 rfl
theorem in_X4 : ∀ w ∈ wsX40, w ∈ lw_all := lw_in wsX40 [912, 914, 916, 918, 920, 922, 924, 926, 928, 930, 932] (by decide +kernel) (by decide +kernel)

/-! SkipSchool$River -/
set_option maxRecDepth 100000
def RX5 : String := "SkipSchool$River"
def TX5 : u_T := fun k => match k with
  | 0 => ("SkipSchool$River", "width", "I", true)
  | 1 => ("SkipSchool$River", "calm", "I", false)
  | 2 => ("SkipSchool$River", "days", "Ljava/util/BitSet;", false)
  | 3 => ("SkipSchool$River", "stones", "[I", false)
  | 4 => ("SkipSchool$River", "record", "I", false)
  | 5 => ("SkipSchool$River", "holder", "I", false)
  | _ => ("SkipSchool$River", "sunk", "I", false)
def tyX5 : Nat → FieldType := fun k => match k with
  | 0 => .int
  | 1 => .int
  | 2 => .object "java/util/BitSet"
  | 3 => .array .int
  | 4 => .int
  | 5 => .int
  | _ => .int
abbrev wsX50 : List Cond := u_ws RX5 TX5 7
theorem nmX5 : ∀ a, a < 7 → ∀ b, b < 7 → a ≠ b → (TX5 a).2.1 ≠ (TX5 b).2.1 := by decide +kernel
theorem tyX5_ok : ∀ k, k < 7 → parseFieldDescriptor (TX5 k).2.2.1 = some (tyX5 k) := by decide +kernel
abbrev cX5_copy : ByteArray := prog_5_method_2_code
def yX5_copy : MethodName := ⟨RX5, "copy", "()LSkipSchool$River;"⟩
def dkwX5_copy_2 : List UInt8 := [181, 0, 47, 43, 42, 180, 0, 24, 181, 0, 24, 43, 42, 180, 0, 50, 181, 0, 50, 43, 176]
abbrev dktX5_copy_2 : List UInt8 := dkwX5_copy_2 ++ []
def dkwX5_copy_1 : List UInt8 := [182, 0, 37, 42, 180, 0, 20, 3, 43, 180, 0, 20, 3, 16, 30, 184, 0, 41, 43, 42, 180, 0, 47]
abbrev dktX5_copy_1 : List UInt8 := dkwX5_copy_1 ++ dktX5_copy_2
def dkwX5_copy_0 : List UInt8 := [187, 0, 15, 89, 42, 180, 0, 28, 42, 180, 0, 31, 183, 0, 34, 76, 43, 180, 0, 14, 42, 180, 0, 14]
abbrev dktX5_copy_0 : List UInt8 := dkwX5_copy_0 ++ dktX5_copy_1
theorem dksX5_copy_0 : cX5_copy.data.toList.drop 0 = dktX5_copy_0 := by decide +kernel
theorem dksX5_copy_1 : cX5_copy.data.toList.drop 24 = dktX5_copy_1 := dk_seg dksX5_copy_0 24 rfl rfl
theorem dksX5_copy_2 : cX5_copy.data.toList.drop 47 = dktX5_copy_2 := dk_seg dksX5_copy_1 23 rfl rfl
theorem dX5_copy_0 : decode cX5_copy 0 = .ok (.new 15, 3) := dk_187 0 15 (dk_at dksX5_copy_0 0 rfl rfl)
theorem dX5_copy_3 : decode cX5_copy 3 = .ok (.dup, 1) := dk_89 (dk_at dksX5_copy_0 3 rfl rfl)
theorem dX5_copy_4 : decode cX5_copy 4 = .ok (.aload_n 0, 1) := dk_42 (dk_at dksX5_copy_0 4 rfl rfl)
theorem dX5_copy_5 : decode cX5_copy 5 = .ok (.getfield 28, 3) := dk_180 0 28 (dk_at dksX5_copy_0 5 rfl rfl)
theorem dX5_copy_8 : decode cX5_copy 8 = .ok (.aload_n 0, 1) := dk_42 (dk_at dksX5_copy_0 8 rfl rfl)
theorem dX5_copy_9 : decode cX5_copy 9 = .ok (.getfield 31, 3) := dk_180 0 31 (dk_at dksX5_copy_0 9 rfl rfl)
theorem dX5_copy_12 : decode cX5_copy 12 = .ok (.invokespecial 34, 3) := dk_183 0 34 (dk_at dksX5_copy_0 12 rfl rfl)
theorem dX5_copy_15 : decode cX5_copy 15 = .ok (.astore_n 1, 1) := dk_76 (dk_at dksX5_copy_0 15 rfl rfl)
theorem dX5_copy_16 : decode cX5_copy 16 = .ok (.aload_n 1, 1) := dk_43 (dk_at dksX5_copy_0 16 rfl rfl)
theorem dX5_copy_17 : decode cX5_copy 17 = .ok (.getfield 14, 3) := dk_180 0 14 (dk_at dksX5_copy_0 17 rfl rfl)
theorem dX5_copy_20 : decode cX5_copy 20 = .ok (.aload_n 0, 1) := dk_42 (dk_at dksX5_copy_0 20 rfl rfl)
theorem dX5_copy_21 : decode cX5_copy 21 = .ok (.getfield 14, 3) := dk_180 0 14 (dk_at dksX5_copy_0 21 rfl rfl)
theorem dX5_copy_24 : decode cX5_copy 24 = .ok (.invokevirtual 37, 3) := dk_182 0 37 (dk_at dksX5_copy_1 0 rfl rfl)
theorem dX5_copy_27 : decode cX5_copy 27 = .ok (.aload_n 0, 1) := dk_42 (dk_at dksX5_copy_1 3 rfl rfl)
theorem dX5_copy_28 : decode cX5_copy 28 = .ok (.getfield 20, 3) := dk_180 0 20 (dk_at dksX5_copy_1 4 rfl rfl)
theorem dX5_copy_31 : decode cX5_copy 31 = .ok (.iconst 0, 1) := dk_3 (dk_at dksX5_copy_1 7 rfl rfl)
theorem dX5_copy_32 : decode cX5_copy 32 = .ok (.aload_n 1, 1) := dk_43 (dk_at dksX5_copy_1 8 rfl rfl)
theorem dX5_copy_33 : decode cX5_copy 33 = .ok (.getfield 20, 3) := dk_180 0 20 (dk_at dksX5_copy_1 9 rfl rfl)
theorem dX5_copy_36 : decode cX5_copy 36 = .ok (.iconst 0, 1) := dk_3 (dk_at dksX5_copy_1 12 rfl rfl)
theorem dX5_copy_37 : decode cX5_copy 37 = .ok (.bipush 30, 2) := dk_16 30 (dk_at dksX5_copy_1 13 rfl rfl)
theorem dX5_copy_39 : decode cX5_copy 39 = .ok (.invokestatic 41, 3) := dk_184 0 41 (dk_at dksX5_copy_1 15 rfl rfl)
theorem dX5_copy_42 : decode cX5_copy 42 = .ok (.aload_n 1, 1) := dk_43 (dk_at dksX5_copy_1 18 rfl rfl)
theorem dX5_copy_43 : decode cX5_copy 43 = .ok (.aload_n 0, 1) := dk_42 (dk_at dksX5_copy_1 19 rfl rfl)
theorem dX5_copy_44 : decode cX5_copy 44 = .ok (.getfield 47, 3) := dk_180 0 47 (dk_at dksX5_copy_1 20 rfl rfl)
theorem dX5_copy_47 : decode cX5_copy 47 = .ok (.putfield 47, 3) := dk_181 0 47 (dk_at dksX5_copy_2 0 rfl rfl)
theorem dX5_copy_50 : decode cX5_copy 50 = .ok (.aload_n 1, 1) := dk_43 (dk_at dksX5_copy_2 3 rfl rfl)
theorem dX5_copy_51 : decode cX5_copy 51 = .ok (.aload_n 0, 1) := dk_42 (dk_at dksX5_copy_2 4 rfl rfl)
theorem dX5_copy_52 : decode cX5_copy 52 = .ok (.getfield 24, 3) := dk_180 0 24 (dk_at dksX5_copy_2 5 rfl rfl)
theorem dX5_copy_55 : decode cX5_copy 55 = .ok (.putfield 24, 3) := dk_181 0 24 (dk_at dksX5_copy_2 8 rfl rfl)
theorem dX5_copy_58 : decode cX5_copy 58 = .ok (.aload_n 1, 1) := dk_43 (dk_at dksX5_copy_2 11 rfl rfl)
theorem dX5_copy_59 : decode cX5_copy 59 = .ok (.aload_n 0, 1) := dk_42 (dk_at dksX5_copy_2 12 rfl rfl)
theorem dX5_copy_60 : decode cX5_copy 60 = .ok (.getfield 50, 3) := dk_180 0 50 (dk_at dksX5_copy_2 13 rfl rfl)
theorem dX5_copy_63 : decode cX5_copy 63 = .ok (.putfield 50, 3) := dk_181 0 50 (dk_at dksX5_copy_2 16 rfl rfl)
theorem dX5_copy_66 : decode cX5_copy 66 = .ok (.aload_n 1, 1) := dk_43 (dk_at dksX5_copy_2 19 rfl rfl)
theorem dX5_copy_67 : decode cX5_copy 67 = .ok (.areturn, 1) := dk_176 (dk_at dksX5_copy_2 20 rfl rfl)
abbrev cX5_init : ByteArray := prog_5_method_1_code
def yX5_init : MethodName := ⟨RX5, "<init>", "(II)V"⟩
def dkwX5_init_1 : List UInt8 := [181, 0, 20, 42, 2, 181, 0, 24, 42, 27, 181, 0, 28, 42, 28, 181, 0, 31, 177]
abbrev dktX5_init_1 : List UInt8 := dkwX5_init_1 ++ []
def dkwX5_init_0 : List UInt8 := [42, 183, 0, 3, 42, 187, 0, 9, 89, 16, 30, 183, 0, 11, 181, 0, 14, 42, 16, 30, 188, 10]
abbrev dktX5_init_0 : List UInt8 := dkwX5_init_0 ++ dktX5_init_1
theorem dksX5_init_0 : cX5_init.data.toList.drop 0 = dktX5_init_0 := by decide +kernel
theorem dksX5_init_1 : cX5_init.data.toList.drop 22 = dktX5_init_1 := dk_seg dksX5_init_0 22 rfl rfl
theorem dX5_init_0 : decode cX5_init 0 = .ok (.aload_n 0, 1) := dk_42 (dk_at dksX5_init_0 0 rfl rfl)
theorem dX5_init_1 : decode cX5_init 1 = .ok (.invokespecial 3, 3) := dk_183 0 3 (dk_at dksX5_init_0 1 rfl rfl)
theorem dX5_init_4 : decode cX5_init 4 = .ok (.aload_n 0, 1) := dk_42 (dk_at dksX5_init_0 4 rfl rfl)
theorem dX5_init_5 : decode cX5_init 5 = .ok (.new 9, 3) := dk_187 0 9 (dk_at dksX5_init_0 5 rfl rfl)
theorem dX5_init_8 : decode cX5_init 8 = .ok (.dup, 1) := dk_89 (dk_at dksX5_init_0 8 rfl rfl)
theorem dX5_init_9 : decode cX5_init 9 = .ok (.bipush 30, 2) := dk_16 30 (dk_at dksX5_init_0 9 rfl rfl)
theorem dX5_init_11 : decode cX5_init 11 = .ok (.invokespecial 11, 3) := dk_183 0 11 (dk_at dksX5_init_0 11 rfl rfl)
theorem dX5_init_14 : decode cX5_init 14 = .ok (.putfield 14, 3) := dk_181 0 14 (dk_at dksX5_init_0 14 rfl rfl)
theorem dX5_init_17 : decode cX5_init 17 = .ok (.aload_n 0, 1) := dk_42 (dk_at dksX5_init_0 17 rfl rfl)
theorem dX5_init_18 : decode cX5_init 18 = .ok (.bipush 30, 2) := dk_16 30 (dk_at dksX5_init_0 18 rfl rfl)
theorem dX5_init_20 : decode cX5_init 20 = .ok (.newarray .int, 2) := dk_188_10 (dk_at dksX5_init_0 20 rfl rfl)
theorem dX5_init_22 : decode cX5_init 22 = .ok (.putfield 20, 3) := dk_181 0 20 (dk_at dksX5_init_1 0 rfl rfl)
theorem dX5_init_25 : decode cX5_init 25 = .ok (.aload_n 0, 1) := dk_42 (dk_at dksX5_init_1 3 rfl rfl)
theorem dX5_init_26 : decode cX5_init 26 = .ok (.iconst (-1), 1) := dk_2 (dk_at dksX5_init_1 4 rfl rfl)
theorem dX5_init_27 : decode cX5_init 27 = .ok (.putfield 24, 3) := dk_181 0 24 (dk_at dksX5_init_1 5 rfl rfl)
theorem dX5_init_30 : decode cX5_init 30 = .ok (.aload_n 0, 1) := dk_42 (dk_at dksX5_init_1 8 rfl rfl)
theorem dX5_init_31 : decode cX5_init 31 = .ok (.iload_n 1, 1) := dk_27 (dk_at dksX5_init_1 9 rfl rfl)
theorem dX5_init_32 : decode cX5_init 32 = .ok (.putfield 28, 3) := dk_181 0 28 (dk_at dksX5_init_1 10 rfl rfl)
theorem dX5_init_35 : decode cX5_init 35 = .ok (.aload_n 0, 1) := dk_42 (dk_at dksX5_init_1 13 rfl rfl)
theorem dX5_init_36 : decode cX5_init 36 = .ok (.iload_n 2, 1) := dk_28 (dk_at dksX5_init_1 14 rfl rfl)
theorem dX5_init_37 : decode cX5_init 37 = .ok (.putfield 31, 3) := dk_181 0 31 (dk_at dksX5_init_1 15 rfl rfl)
theorem dX5_init_40 : decode cX5_init 40 = .ok (.return_, 1) := dk_177 (dk_at dksX5_init_1 18 rfl rfl)
abbrev cX5_booked : ByteArray := prog_5_method_3_code
def yX5_booked : MethodName := ⟨RX5, "booked", "(I)I"⟩
def dkwX5_booked_0 : List UInt8 := [42, 180, 0, 14, 27, 182, 0, 53, 153, 0, 12, 42, 180, 0, 20, 27, 46, 167, 0, 4, 2, 172]
abbrev dktX5_booked_0 : List UInt8 := dkwX5_booked_0 ++ []
theorem dksX5_booked_0 : cX5_booked.data.toList.drop 0 = dktX5_booked_0 := by decide +kernel
theorem dX5_booked_0 : decode cX5_booked 0 = .ok (.aload_n 0, 1) := dk_42 (dk_at dksX5_booked_0 0 rfl rfl)
theorem dX5_booked_1 : decode cX5_booked 1 = .ok (.getfield 14, 3) := dk_180 0 14 (dk_at dksX5_booked_0 1 rfl rfl)
theorem dX5_booked_4 : decode cX5_booked 4 = .ok (.iload_n 1, 1) := dk_27 (dk_at dksX5_booked_0 4 rfl rfl)
theorem dX5_booked_5 : decode cX5_booked 5 = .ok (.invokevirtual 53, 3) := dk_182 0 53 (dk_at dksX5_booked_0 5 rfl rfl)
theorem dX5_booked_8 : decode cX5_booked 8 = .ok (.ifCond .eq 12, 3) := dk_153 0 12 (dk_at dksX5_booked_0 8 rfl rfl)
theorem dX5_booked_11 : decode cX5_booked 11 = .ok (.aload_n 0, 1) := dk_42 (dk_at dksX5_booked_0 11 rfl rfl)
theorem dX5_booked_12 : decode cX5_booked 12 = .ok (.getfield 20, 3) := dk_180 0 20 (dk_at dksX5_booked_0 12 rfl rfl)
theorem dX5_booked_15 : decode cX5_booked 15 = .ok (.iload_n 1, 1) := dk_27 (dk_at dksX5_booked_0 15 rfl rfl)
theorem dX5_booked_16 : decode cX5_booked 16 = .ok (.iaload, 1) := dk_46 (dk_at dksX5_booked_0 16 rfl rfl)
theorem dX5_booked_17 : decode cX5_booked 17 = .ok (.goto 4, 3) := dk_167 0 4 (dk_at dksX5_booked_0 17 rfl rfl)
theorem dX5_booked_20 : decode cX5_booked 20 = .ok (.iconst (-1), 1) := dk_2 (dk_at dksX5_booked_0 20 rfl rfl)
theorem dX5_booked_21 : decode cX5_booked 21 = .ok (.ireturn, 1) := dk_172 (dk_at dksX5_booked_0 21 rfl rfl)
abbrev cX5_bookings : ByteArray := prog_5_method_4_code
def yX5_bookings : MethodName := ⟨RX5, "bookings", "()I"⟩
def dkwX5_bookings_0 : List UInt8 := [42, 180, 0, 14, 182, 0, 57, 172]
abbrev dktX5_bookings_0 : List UInt8 := dkwX5_bookings_0 ++ []
theorem dksX5_bookings_0 : cX5_bookings.data.toList.drop 0 = dktX5_bookings_0 := by decide +kernel
theorem dX5_bookings_0 : decode cX5_bookings 0 = .ok (.aload_n 0, 1) := dk_42 (dk_at dksX5_bookings_0 0 rfl rfl)
theorem dX5_bookings_1 : decode cX5_bookings 1 = .ok (.getfield 14, 3) := dk_180 0 14 (dk_at dksX5_bookings_0 1 rfl rfl)
theorem dX5_bookings_4 : decode cX5_bookings 4 = .ok (.invokevirtual 57, 3) := dk_182 0 57 (dk_at dksX5_bookings_0 4 rfl rfl)
theorem dX5_bookings_7 : decode cX5_bookings 7 = .ok (.ireturn, 1) := dk_172 (dk_at dksX5_bookings_0 7 rfl rfl)
abbrev cX5_saw : ByteArray := prog_5_method_8_code
def yX5_saw : MethodName := ⟨RX5, "saw", "(II)V"⟩
def dkwX5_saw_1 : List UInt8 := [181, 0, 24, 177]
abbrev dktX5_saw_1 : List UInt8 := dkwX5_saw_1 ++ []
def dkwX5_saw_0 : List UInt8 := [42, 180, 0, 24, 2, 159, 0, 11, 28, 42, 180, 0, 47, 164, 0, 13, 42, 28, 181, 0, 47, 42, 27]
abbrev dktX5_saw_0 : List UInt8 := dkwX5_saw_0 ++ dktX5_saw_1
theorem dksX5_saw_0 : cX5_saw.data.toList.drop 0 = dktX5_saw_0 := by decide +kernel
theorem dksX5_saw_1 : cX5_saw.data.toList.drop 23 = dktX5_saw_1 := dk_seg dksX5_saw_0 23 rfl rfl
theorem dX5_saw_0 : decode cX5_saw 0 = .ok (.aload_n 0, 1) := dk_42 (dk_at dksX5_saw_0 0 rfl rfl)
theorem dX5_saw_1 : decode cX5_saw 1 = .ok (.getfield 24, 3) := dk_180 0 24 (dk_at dksX5_saw_0 1 rfl rfl)
theorem dX5_saw_4 : decode cX5_saw 4 = .ok (.iconst (-1), 1) := dk_2 (dk_at dksX5_saw_0 4 rfl rfl)
theorem dX5_saw_5 : decode cX5_saw 5 = .ok (.if_icmp .eq 11, 3) := dk_159 0 11 (dk_at dksX5_saw_0 5 rfl rfl)
theorem dX5_saw_8 : decode cX5_saw 8 = .ok (.iload_n 2, 1) := dk_28 (dk_at dksX5_saw_0 8 rfl rfl)
theorem dX5_saw_9 : decode cX5_saw 9 = .ok (.aload_n 0, 1) := dk_42 (dk_at dksX5_saw_0 9 rfl rfl)
theorem dX5_saw_10 : decode cX5_saw 10 = .ok (.getfield 47, 3) := dk_180 0 47 (dk_at dksX5_saw_0 10 rfl rfl)
theorem dX5_saw_13 : decode cX5_saw 13 = .ok (.if_icmp .le 13, 3) := dk_164 0 13 (dk_at dksX5_saw_0 13 rfl rfl)
theorem dX5_saw_16 : decode cX5_saw 16 = .ok (.aload_n 0, 1) := dk_42 (dk_at dksX5_saw_0 16 rfl rfl)
theorem dX5_saw_17 : decode cX5_saw 17 = .ok (.iload_n 2, 1) := dk_28 (dk_at dksX5_saw_0 17 rfl rfl)
theorem dX5_saw_18 : decode cX5_saw 18 = .ok (.putfield 47, 3) := dk_181 0 47 (dk_at dksX5_saw_0 18 rfl rfl)
theorem dX5_saw_21 : decode cX5_saw 21 = .ok (.aload_n 0, 1) := dk_42 (dk_at dksX5_saw_0 21 rfl rfl)
theorem dX5_saw_22 : decode cX5_saw 22 = .ok (.iload_n 1, 1) := dk_27 (dk_at dksX5_saw_0 22 rfl rfl)
theorem dX5_saw_23 : decode cX5_saw 23 = .ok (.putfield 24, 3) := dk_181 0 24 (dk_at dksX5_saw_1 0 rfl rfl)
theorem dX5_saw_26 : decode cX5_saw 26 = .ok (.return_, 1) := dk_177 (dk_at dksX5_saw_1 3 rfl rfl)
abbrev cX5_goDay : ByteArray := prog_5_method_7_code
def yX5_goDay : MethodName := ⟨RX5, "goDay", "()V"⟩
def dkwX5_goDay_1 : List UInt8 := [43, 3, 16, 29, 184, 0, 41, 42, 43, 181, 0, 20, 177]
abbrev dktX5_goDay_1 : List UInt8 := dkwX5_goDay_1 ++ []
def dkwX5_goDay_0 : List UInt8 := [42, 42, 180, 0, 14, 4, 16, 30, 182, 0, 68, 181, 0, 14, 16, 30, 188, 10, 76, 42, 180, 0, 20, 4]
abbrev dktX5_goDay_0 : List UInt8 := dkwX5_goDay_0 ++ dktX5_goDay_1
theorem dksX5_goDay_0 : cX5_goDay.data.toList.drop 0 = dktX5_goDay_0 := by decide +kernel
theorem dksX5_goDay_1 : cX5_goDay.data.toList.drop 24 = dktX5_goDay_1 := dk_seg dksX5_goDay_0 24 rfl rfl
theorem dX5_goDay_0 : decode cX5_goDay 0 = .ok (.aload_n 0, 1) := dk_42 (dk_at dksX5_goDay_0 0 rfl rfl)
theorem dX5_goDay_1 : decode cX5_goDay 1 = .ok (.aload_n 0, 1) := dk_42 (dk_at dksX5_goDay_0 1 rfl rfl)
theorem dX5_goDay_2 : decode cX5_goDay 2 = .ok (.getfield 14, 3) := dk_180 0 14 (dk_at dksX5_goDay_0 2 rfl rfl)
theorem dX5_goDay_5 : decode cX5_goDay 5 = .ok (.iconst 1, 1) := dk_4 (dk_at dksX5_goDay_0 5 rfl rfl)
theorem dX5_goDay_6 : decode cX5_goDay 6 = .ok (.bipush 30, 2) := dk_16 30 (dk_at dksX5_goDay_0 6 rfl rfl)
theorem dX5_goDay_8 : decode cX5_goDay 8 = .ok (.invokevirtual 68, 3) := dk_182 0 68 (dk_at dksX5_goDay_0 8 rfl rfl)
theorem dX5_goDay_11 : decode cX5_goDay 11 = .ok (.putfield 14, 3) := dk_181 0 14 (dk_at dksX5_goDay_0 11 rfl rfl)
theorem dX5_goDay_14 : decode cX5_goDay 14 = .ok (.bipush 30, 2) := dk_16 30 (dk_at dksX5_goDay_0 14 rfl rfl)
theorem dX5_goDay_16 : decode cX5_goDay 16 = .ok (.newarray .int, 2) := dk_188_10 (dk_at dksX5_goDay_0 16 rfl rfl)
theorem dX5_goDay_18 : decode cX5_goDay 18 = .ok (.astore_n 1, 1) := dk_76 (dk_at dksX5_goDay_0 18 rfl rfl)
theorem dX5_goDay_19 : decode cX5_goDay 19 = .ok (.aload_n 0, 1) := dk_42 (dk_at dksX5_goDay_0 19 rfl rfl)
theorem dX5_goDay_20 : decode cX5_goDay 20 = .ok (.getfield 20, 3) := dk_180 0 20 (dk_at dksX5_goDay_0 20 rfl rfl)
theorem dX5_goDay_23 : decode cX5_goDay 23 = .ok (.iconst 1, 1) := dk_4 (dk_at dksX5_goDay_0 23 rfl rfl)
theorem dX5_goDay_24 : decode cX5_goDay 24 = .ok (.aload_n 1, 1) := dk_43 (dk_at dksX5_goDay_1 0 rfl rfl)
theorem dX5_goDay_25 : decode cX5_goDay 25 = .ok (.iconst 0, 1) := dk_3 (dk_at dksX5_goDay_1 1 rfl rfl)
theorem dX5_goDay_26 : decode cX5_goDay 26 = .ok (.bipush 29, 2) := dk_16 29 (dk_at dksX5_goDay_1 2 rfl rfl)
theorem dX5_goDay_28 : decode cX5_goDay 28 = .ok (.invokestatic 41, 3) := dk_184 0 41 (dk_at dksX5_goDay_1 4 rfl rfl)
theorem dX5_goDay_31 : decode cX5_goDay 31 = .ok (.aload_n 0, 1) := dk_42 (dk_at dksX5_goDay_1 7 rfl rfl)
theorem dX5_goDay_32 : decode cX5_goDay 32 = .ok (.aload_n 1, 1) := dk_43 (dk_at dksX5_goDay_1 8 rfl rfl)
theorem dX5_goDay_33 : decode cX5_goDay 33 = .ok (.putfield 20, 3) := dk_181 0 20 (dk_at dksX5_goDay_1 9 rfl rfl)
theorem dX5_goDay_36 : decode cX5_goDay 36 = .ok (.return_, 1) := dk_177 (dk_at dksX5_goDay_1 12 rfl rfl)
abbrev cX5_bookingsOf : ByteArray := prog_5_method_5_code
def yX5_bookingsOf : MethodName := ⟨RX5, "bookingsOf", "(I)I"⟩
def dkwX5_bookingsOf_2 : List UInt8 := [28, 172]
abbrev dktX5_bookingsOf_2 : List UInt8 := dkwX5_bookingsOf_2 ++ []
def dkwX5_bookingsOf_1 : List UInt8 := [160, 0, 7, 4, 167, 0, 4, 3, 96, 61, 42, 180, 0, 14, 29, 4, 96, 182, 0, 61, 62, 167, 255, 223]
abbrev dktX5_bookingsOf_1 : List UInt8 := dkwX5_bookingsOf_1 ++ dktX5_bookingsOf_2
def dkwX5_bookingsOf_0 : List UInt8 := [3, 61, 42, 180, 0, 14, 3, 182, 0, 61, 62, 29, 155, 0, 35, 28, 42, 180, 0, 20, 29, 46, 27]
abbrev dktX5_bookingsOf_0 : List UInt8 := dkwX5_bookingsOf_0 ++ dktX5_bookingsOf_1
theorem dksX5_bookingsOf_0 : cX5_bookingsOf.data.toList.drop 0 = dktX5_bookingsOf_0 := by decide +kernel
theorem dksX5_bookingsOf_1 : cX5_bookingsOf.data.toList.drop 23 = dktX5_bookingsOf_1 := dk_seg dksX5_bookingsOf_0 23 rfl rfl
theorem dksX5_bookingsOf_2 : cX5_bookingsOf.data.toList.drop 47 = dktX5_bookingsOf_2 := dk_seg dksX5_bookingsOf_1 24 rfl rfl
theorem dX5_bookingsOf_0 : decode cX5_bookingsOf 0 = .ok (.iconst 0, 1) := dk_3 (dk_at dksX5_bookingsOf_0 0 rfl rfl)
theorem dX5_bookingsOf_1 : decode cX5_bookingsOf 1 = .ok (.istore_n 2, 1) := dk_61 (dk_at dksX5_bookingsOf_0 1 rfl rfl)
theorem dX5_bookingsOf_2 : decode cX5_bookingsOf 2 = .ok (.aload_n 0, 1) := dk_42 (dk_at dksX5_bookingsOf_0 2 rfl rfl)
theorem dX5_bookingsOf_3 : decode cX5_bookingsOf 3 = .ok (.getfield 14, 3) := dk_180 0 14 (dk_at dksX5_bookingsOf_0 3 rfl rfl)
theorem dX5_bookingsOf_6 : decode cX5_bookingsOf 6 = .ok (.iconst 0, 1) := dk_3 (dk_at dksX5_bookingsOf_0 6 rfl rfl)
theorem dX5_bookingsOf_7 : decode cX5_bookingsOf 7 = .ok (.invokevirtual 61, 3) := dk_182 0 61 (dk_at dksX5_bookingsOf_0 7 rfl rfl)
theorem dX5_bookingsOf_10 : decode cX5_bookingsOf 10 = .ok (.istore_n 3, 1) := dk_62 (dk_at dksX5_bookingsOf_0 10 rfl rfl)
theorem dX5_bookingsOf_11 : decode cX5_bookingsOf 11 = .ok (.iload_n 3, 1) := dk_29 (dk_at dksX5_bookingsOf_0 11 rfl rfl)
theorem dX5_bookingsOf_12 : decode cX5_bookingsOf 12 = .ok (.ifCond .lt 35, 3) := dk_155 0 35 (dk_at dksX5_bookingsOf_0 12 rfl rfl)
theorem dX5_bookingsOf_15 : decode cX5_bookingsOf 15 = .ok (.iload_n 2, 1) := dk_28 (dk_at dksX5_bookingsOf_0 15 rfl rfl)
theorem dX5_bookingsOf_16 : decode cX5_bookingsOf 16 = .ok (.aload_n 0, 1) := dk_42 (dk_at dksX5_bookingsOf_0 16 rfl rfl)
theorem dX5_bookingsOf_17 : decode cX5_bookingsOf 17 = .ok (.getfield 20, 3) := dk_180 0 20 (dk_at dksX5_bookingsOf_0 17 rfl rfl)
theorem dX5_bookingsOf_20 : decode cX5_bookingsOf 20 = .ok (.iload_n 3, 1) := dk_29 (dk_at dksX5_bookingsOf_0 20 rfl rfl)
theorem dX5_bookingsOf_21 : decode cX5_bookingsOf 21 = .ok (.iaload, 1) := dk_46 (dk_at dksX5_bookingsOf_0 21 rfl rfl)
theorem dX5_bookingsOf_22 : decode cX5_bookingsOf 22 = .ok (.iload_n 1, 1) := dk_27 (dk_at dksX5_bookingsOf_0 22 rfl rfl)
theorem dX5_bookingsOf_23 : decode cX5_bookingsOf 23 = .ok (.if_icmp .ne 7, 3) := dk_160 0 7 (dk_at dksX5_bookingsOf_1 0 rfl rfl)
theorem dX5_bookingsOf_26 : decode cX5_bookingsOf 26 = .ok (.iconst 1, 1) := dk_4 (dk_at dksX5_bookingsOf_1 3 rfl rfl)
theorem dX5_bookingsOf_27 : decode cX5_bookingsOf 27 = .ok (.goto 4, 3) := dk_167 0 4 (dk_at dksX5_bookingsOf_1 4 rfl rfl)
theorem dX5_bookingsOf_30 : decode cX5_bookingsOf 30 = .ok (.iconst 0, 1) := dk_3 (dk_at dksX5_bookingsOf_1 7 rfl rfl)
theorem dX5_bookingsOf_31 : decode cX5_bookingsOf 31 = .ok (.iadd, 1) := dk_96 (dk_at dksX5_bookingsOf_1 8 rfl rfl)
theorem dX5_bookingsOf_32 : decode cX5_bookingsOf 32 = .ok (.istore_n 2, 1) := dk_61 (dk_at dksX5_bookingsOf_1 9 rfl rfl)
theorem dX5_bookingsOf_33 : decode cX5_bookingsOf 33 = .ok (.aload_n 0, 1) := dk_42 (dk_at dksX5_bookingsOf_1 10 rfl rfl)
theorem dX5_bookingsOf_34 : decode cX5_bookingsOf 34 = .ok (.getfield 14, 3) := dk_180 0 14 (dk_at dksX5_bookingsOf_1 11 rfl rfl)
theorem dX5_bookingsOf_37 : decode cX5_bookingsOf 37 = .ok (.iload_n 3, 1) := dk_29 (dk_at dksX5_bookingsOf_1 14 rfl rfl)
theorem dX5_bookingsOf_38 : decode cX5_bookingsOf 38 = .ok (.iconst 1, 1) := dk_4 (dk_at dksX5_bookingsOf_1 15 rfl rfl)
theorem dX5_bookingsOf_39 : decode cX5_bookingsOf 39 = .ok (.iadd, 1) := dk_96 (dk_at dksX5_bookingsOf_1 16 rfl rfl)
theorem dX5_bookingsOf_40 : decode cX5_bookingsOf 40 = .ok (.invokevirtual 61, 3) := dk_182 0 61 (dk_at dksX5_bookingsOf_1 17 rfl rfl)
theorem dX5_bookingsOf_43 : decode cX5_bookingsOf 43 = .ok (.istore_n 3, 1) := dk_62 (dk_at dksX5_bookingsOf_1 20 rfl rfl)
theorem dX5_bookingsOf_44 : decode cX5_bookingsOf 44 = .ok (.goto (-33), 3) := dk_167 255 223 (dk_at dksX5_bookingsOf_1 21 rfl rfl)
theorem dX5_bookingsOf_47 : decode cX5_bookingsOf 47 = .ok (.iload_n 2, 1) := dk_28 (dk_at dksX5_bookingsOf_2 0 rfl rfl)
theorem dX5_bookingsOf_48 : decode cX5_bookingsOf 48 = .ok (.ireturn, 1) := dk_172 (dk_at dksX5_bookingsOf_2 1 rfl rfl)
abbrev cX5_nextFree : ByteArray := prog_5_method_6_code
def yX5_nextFree : MethodName := ⟨RX5, "nextFree", "(I)I"⟩
def dkwX5_nextFree_2 : List UInt8 := [182, 0, 65, 61, 167, 255, 217, 2, 172]
abbrev dktX5_nextFree_2 : List UInt8 := dkwX5_nextFree_2 ++ []
def dkwX5_nextFree_1 : List UInt8 := [182, 0, 61, 62, 29, 155, 0, 10, 29, 28, 27, 96, 161, 0, 5, 28, 172, 42, 180, 0, 14, 29]
abbrev dktX5_nextFree_1 : List UInt8 := dkwX5_nextFree_1 ++ dktX5_nextFree_2
def dkwX5_nextFree_0 : List UInt8 := [42, 180, 0, 14, 3, 182, 0, 65, 61, 28, 27, 96, 16, 30, 163, 0, 37, 42, 180, 0, 14, 28]
abbrev dktX5_nextFree_0 : List UInt8 := dkwX5_nextFree_0 ++ dktX5_nextFree_1
theorem dksX5_nextFree_0 : cX5_nextFree.data.toList.drop 0 = dktX5_nextFree_0 := by decide +kernel
theorem dksX5_nextFree_1 : cX5_nextFree.data.toList.drop 22 = dktX5_nextFree_1 := dk_seg dksX5_nextFree_0 22 rfl rfl
theorem dksX5_nextFree_2 : cX5_nextFree.data.toList.drop 44 = dktX5_nextFree_2 := dk_seg dksX5_nextFree_1 22 rfl rfl
theorem dX5_nextFree_0 : decode cX5_nextFree 0 = .ok (.aload_n 0, 1) := dk_42 (dk_at dksX5_nextFree_0 0 rfl rfl)
theorem dX5_nextFree_1 : decode cX5_nextFree 1 = .ok (.getfield 14, 3) := dk_180 0 14 (dk_at dksX5_nextFree_0 1 rfl rfl)
theorem dX5_nextFree_4 : decode cX5_nextFree 4 = .ok (.iconst 0, 1) := dk_3 (dk_at dksX5_nextFree_0 4 rfl rfl)
theorem dX5_nextFree_5 : decode cX5_nextFree 5 = .ok (.invokevirtual 65, 3) := dk_182 0 65 (dk_at dksX5_nextFree_0 5 rfl rfl)
theorem dX5_nextFree_8 : decode cX5_nextFree 8 = .ok (.istore_n 2, 1) := dk_61 (dk_at dksX5_nextFree_0 8 rfl rfl)
theorem dX5_nextFree_9 : decode cX5_nextFree 9 = .ok (.iload_n 2, 1) := dk_28 (dk_at dksX5_nextFree_0 9 rfl rfl)
theorem dX5_nextFree_10 : decode cX5_nextFree 10 = .ok (.iload_n 1, 1) := dk_27 (dk_at dksX5_nextFree_0 10 rfl rfl)
theorem dX5_nextFree_11 : decode cX5_nextFree 11 = .ok (.iadd, 1) := dk_96 (dk_at dksX5_nextFree_0 11 rfl rfl)
theorem dX5_nextFree_12 : decode cX5_nextFree 12 = .ok (.bipush 30, 2) := dk_16 30 (dk_at dksX5_nextFree_0 12 rfl rfl)
theorem dX5_nextFree_14 : decode cX5_nextFree 14 = .ok (.if_icmp .gt 37, 3) := dk_163 0 37 (dk_at dksX5_nextFree_0 14 rfl rfl)
theorem dX5_nextFree_17 : decode cX5_nextFree 17 = .ok (.aload_n 0, 1) := dk_42 (dk_at dksX5_nextFree_0 17 rfl rfl)
theorem dX5_nextFree_18 : decode cX5_nextFree 18 = .ok (.getfield 14, 3) := dk_180 0 14 (dk_at dksX5_nextFree_0 18 rfl rfl)
theorem dX5_nextFree_21 : decode cX5_nextFree 21 = .ok (.iload_n 2, 1) := dk_28 (dk_at dksX5_nextFree_0 21 rfl rfl)
theorem dX5_nextFree_22 : decode cX5_nextFree 22 = .ok (.invokevirtual 61, 3) := dk_182 0 61 (dk_at dksX5_nextFree_1 0 rfl rfl)
theorem dX5_nextFree_25 : decode cX5_nextFree 25 = .ok (.istore_n 3, 1) := dk_62 (dk_at dksX5_nextFree_1 3 rfl rfl)
theorem dX5_nextFree_26 : decode cX5_nextFree 26 = .ok (.iload_n 3, 1) := dk_29 (dk_at dksX5_nextFree_1 4 rfl rfl)
theorem dX5_nextFree_27 : decode cX5_nextFree 27 = .ok (.ifCond .lt 10, 3) := dk_155 0 10 (dk_at dksX5_nextFree_1 5 rfl rfl)
theorem dX5_nextFree_30 : decode cX5_nextFree 30 = .ok (.iload_n 3, 1) := dk_29 (dk_at dksX5_nextFree_1 8 rfl rfl)
theorem dX5_nextFree_31 : decode cX5_nextFree 31 = .ok (.iload_n 2, 1) := dk_28 (dk_at dksX5_nextFree_1 9 rfl rfl)
theorem dX5_nextFree_32 : decode cX5_nextFree 32 = .ok (.iload_n 1, 1) := dk_27 (dk_at dksX5_nextFree_1 10 rfl rfl)
theorem dX5_nextFree_33 : decode cX5_nextFree 33 = .ok (.iadd, 1) := dk_96 (dk_at dksX5_nextFree_1 11 rfl rfl)
theorem dX5_nextFree_34 : decode cX5_nextFree 34 = .ok (.if_icmp .lt 5, 3) := dk_161 0 5 (dk_at dksX5_nextFree_1 12 rfl rfl)
theorem dX5_nextFree_37 : decode cX5_nextFree 37 = .ok (.iload_n 2, 1) := dk_28 (dk_at dksX5_nextFree_1 15 rfl rfl)
theorem dX5_nextFree_38 : decode cX5_nextFree 38 = .ok (.ireturn, 1) := dk_172 (dk_at dksX5_nextFree_1 16 rfl rfl)
theorem dX5_nextFree_39 : decode cX5_nextFree 39 = .ok (.aload_n 0, 1) := dk_42 (dk_at dksX5_nextFree_1 17 rfl rfl)
theorem dX5_nextFree_40 : decode cX5_nextFree 40 = .ok (.getfield 14, 3) := dk_180 0 14 (dk_at dksX5_nextFree_1 18 rfl rfl)
theorem dX5_nextFree_43 : decode cX5_nextFree 43 = .ok (.iload_n 3, 1) := dk_29 (dk_at dksX5_nextFree_1 21 rfl rfl)
theorem dX5_nextFree_44 : decode cX5_nextFree 44 = .ok (.invokevirtual 65, 3) := dk_182 0 65 (dk_at dksX5_nextFree_2 0 rfl rfl)
theorem dX5_nextFree_47 : decode cX5_nextFree 47 = .ok (.istore_n 2, 1) := dk_61 (dk_at dksX5_nextFree_2 3 rfl rfl)
theorem dX5_nextFree_48 : decode cX5_nextFree 48 = .ok (.goto (-39), 3) := dk_167 255 217 (dk_at dksX5_nextFree_2 4 rfl rfl)
theorem dX5_nextFree_51 : decode cX5_nextFree 51 = .ok (.iconst (-1), 1) := dk_2 (dk_at dksX5_nextFree_2 7 rfl rfl)
theorem dX5_nextFree_52 : decode cX5_nextFree 52 = .ok (.ireturn, 1) := dk_172 (dk_at dksX5_nextFree_2 8 rfl rfl)
abbrev cX5_told : ByteArray := prog_5_method_9_code
def yX5_told : MethodName := ⟨RX5, "told", "()Ljava/lang/String;"⟩
def dkwX5_told_2 : List UInt8 := [78, 132, 2, 1, 167, 255, 216, 43, 182, 0, 78, 176]
abbrev dktX5_told_2 : List UInt8 := dkwX5_told_2 ++ []
def dkwX5_told_1 : List UInt8 := [182, 0, 53, 153, 0, 16, 16, 48, 42, 180, 0, 20, 28, 46, 96, 146, 167, 0, 5, 16, 46, 182, 0, 74]
abbrev dktX5_told_1 : List UInt8 := dkwX5_told_1 ++ dktX5_told_2
def dkwX5_told_0 : List UInt8 := [187, 0, 71, 89, 183, 0, 73, 76, 3, 61, 28, 16, 30, 162, 0, 40, 43, 42, 180, 0, 14, 28]
abbrev dktX5_told_0 : List UInt8 := dkwX5_told_0 ++ dktX5_told_1
theorem dksX5_told_0 : cX5_told.data.toList.drop 0 = dktX5_told_0 := by decide +kernel
theorem dksX5_told_1 : cX5_told.data.toList.drop 22 = dktX5_told_1 := dk_seg dksX5_told_0 22 rfl rfl
theorem dksX5_told_2 : cX5_told.data.toList.drop 46 = dktX5_told_2 := dk_seg dksX5_told_1 24 rfl rfl
theorem dX5_told_0 : decode cX5_told 0 = .ok (.new 71, 3) := dk_187 0 71 (dk_at dksX5_told_0 0 rfl rfl)
theorem dX5_told_3 : decode cX5_told 3 = .ok (.dup, 1) := dk_89 (dk_at dksX5_told_0 3 rfl rfl)
theorem dX5_told_4 : decode cX5_told 4 = .ok (.invokespecial 73, 3) := dk_183 0 73 (dk_at dksX5_told_0 4 rfl rfl)
theorem dX5_told_7 : decode cX5_told 7 = .ok (.astore_n 1, 1) := dk_76 (dk_at dksX5_told_0 7 rfl rfl)
theorem dX5_told_8 : decode cX5_told 8 = .ok (.iconst 0, 1) := dk_3 (dk_at dksX5_told_0 8 rfl rfl)
theorem dX5_told_9 : decode cX5_told 9 = .ok (.istore_n 2, 1) := dk_61 (dk_at dksX5_told_0 9 rfl rfl)
theorem dX5_told_10 : decode cX5_told 10 = .ok (.iload_n 2, 1) := dk_28 (dk_at dksX5_told_0 10 rfl rfl)
theorem dX5_told_11 : decode cX5_told 11 = .ok (.bipush 30, 2) := dk_16 30 (dk_at dksX5_told_0 11 rfl rfl)
theorem dX5_told_13 : decode cX5_told 13 = .ok (.if_icmp .ge 40, 3) := dk_162 0 40 (dk_at dksX5_told_0 13 rfl rfl)
theorem dX5_told_16 : decode cX5_told 16 = .ok (.aload_n 1, 1) := dk_43 (dk_at dksX5_told_0 16 rfl rfl)
theorem dX5_told_17 : decode cX5_told 17 = .ok (.aload_n 0, 1) := dk_42 (dk_at dksX5_told_0 17 rfl rfl)
theorem dX5_told_18 : decode cX5_told 18 = .ok (.getfield 14, 3) := dk_180 0 14 (dk_at dksX5_told_0 18 rfl rfl)
theorem dX5_told_21 : decode cX5_told 21 = .ok (.iload_n 2, 1) := dk_28 (dk_at dksX5_told_0 21 rfl rfl)
theorem dX5_told_22 : decode cX5_told 22 = .ok (.invokevirtual 53, 3) := dk_182 0 53 (dk_at dksX5_told_1 0 rfl rfl)
theorem dX5_told_25 : decode cX5_told 25 = .ok (.ifCond .eq 16, 3) := dk_153 0 16 (dk_at dksX5_told_1 3 rfl rfl)
theorem dX5_told_28 : decode cX5_told 28 = .ok (.bipush 48, 2) := dk_16 48 (dk_at dksX5_told_1 6 rfl rfl)
theorem dX5_told_30 : decode cX5_told 30 = .ok (.aload_n 0, 1) := dk_42 (dk_at dksX5_told_1 8 rfl rfl)
theorem dX5_told_31 : decode cX5_told 31 = .ok (.getfield 20, 3) := dk_180 0 20 (dk_at dksX5_told_1 9 rfl rfl)
theorem dX5_told_34 : decode cX5_told 34 = .ok (.iload_n 2, 1) := dk_28 (dk_at dksX5_told_1 12 rfl rfl)
theorem dX5_told_35 : decode cX5_told 35 = .ok (.iaload, 1) := dk_46 (dk_at dksX5_told_1 13 rfl rfl)
theorem dX5_told_36 : decode cX5_told 36 = .ok (.iadd, 1) := dk_96 (dk_at dksX5_told_1 14 rfl rfl)
theorem dX5_told_37 : decode cX5_told 37 = .ok (.i2c, 1) := dk_146 (dk_at dksX5_told_1 15 rfl rfl)
theorem dX5_told_38 : decode cX5_told 38 = .ok (.goto 5, 3) := dk_167 0 5 (dk_at dksX5_told_1 16 rfl rfl)
theorem dX5_told_41 : decode cX5_told 41 = .ok (.bipush 46, 2) := dk_16 46 (dk_at dksX5_told_1 19 rfl rfl)
theorem dX5_told_43 : decode cX5_told 43 = .ok (.invokevirtual 74, 3) := dk_182 0 74 (dk_at dksX5_told_1 21 rfl rfl)
theorem dX5_told_46 : decode cX5_told 46 = .ok (.astore_n 3, 1) := dk_78 (dk_at dksX5_told_2 0 rfl rfl)
theorem dX5_told_47 : decode cX5_told 47 = .ok (.iinc 2 1, 3) := dk_132 2 1 (dk_at dksX5_told_2 1 rfl rfl)
theorem dX5_told_50 : decode cX5_told 50 = .ok (.goto (-40), 3) := dk_167 255 216 (dk_at dksX5_told_2 4 rfl rfl)
theorem dX5_told_53 : decode cX5_told 53 = .ok (.aload_n 1, 1) := dk_43 (dk_at dksX5_told_2 7 rfl rfl)
theorem dX5_told_54 : decode cX5_told 54 = .ok (.invokevirtual 78, 3) := dk_182 0 78 (dk_at dksX5_told_2 8 rfl rfl)
theorem dX5_told_57 : decode cX5_told 57 = .ok (.areturn, 1) := dk_176 (dk_at dksX5_told_2 11 rfl rfl)
theorem q101 : (Jvm.Cond.initialized "SkipSchool$River") ∈ lw_all := lw_g (lw_at lw_m1 31 rfl) rfl
theorem q783 : (Jvm.Cond.selects "SkipSchool$River" ({ cls := "java/lang/Object", name := "getClass", desc := "()Ljava/lang/Class;" } : Jvm.MethodName) ({ cls := "java/lang/Object", name := "getClass", desc := "()Ljava/lang/Class;" } : Jvm.MethodName)) ∈ lw_all := lw_g (lw_at lw_m3 233 rfl) rfl
theorem q965 : (Jvm.Cond.instanceMethod ({ cls := "SkipSchool$River", name := "copy", desc := "()LSkipSchool$River;" } : Jvm.MethodName)) ∈ lw_all := lw_g (lw_at lw_m4 175 rfl) rfl
theorem q966 : (Jvm.Cond.selects "SkipSchool$River" ({ cls := "SkipSchool$River", name := "copy", desc := "()LSkipSchool$River;" } : Jvm.MethodName) ({ cls := "SkipSchool$River", name := "copy", desc := "()LSkipSchool$River;" } : Jvm.MethodName)) ∈ lw_all := lw_g (lw_at lw_m4 176 rfl) rfl
theorem q967 : (Jvm.Cond.code ({ cls := "SkipSchool$River", name := "copy", desc := "()LSkipSchool$River;" } : Jvm.MethodName) prog_5_method_2_code (2 : Nat) (Option.some (Jvm.ClassFile.FieldType.object "SkipSchool$River"))) ∈ lw_all := lw_g (lw_at lw_m4 177 rfl) rfl
theorem q968 : (Jvm.Cond.classLink "SkipSchool$River" (15 : Nat) "SkipSchool$River") ∈ lw_all := lw_g (lw_at lw_m4 178 rfl) rfl
theorem q969 : (Jvm.Cond.instantiable "SkipSchool$River" (7 : Nat)) ∈ lw_all := lw_g (lw_at lw_m4 179 rfl) rfl
theorem q970 : (Jvm.Cond.methodLink "SkipSchool$River" (34 : Nat) ({ cls := "SkipSchool$River", name := "<init>", desc := "(II)V" } : Jvm.MethodName)) ∈ lw_all := lw_g (lw_at lw_m4 180 rfl) rfl
theorem q971 : (Jvm.Cond.instanceMethod ({ cls := "SkipSchool$River", name := "<init>", desc := "(II)V" } : Jvm.MethodName)) ∈ lw_all := lw_g (lw_at lw_m4 181 rfl) rfl
theorem q972 : (Jvm.Cond.code ({ cls := "SkipSchool$River", name := "<init>", desc := "(II)V" } : Jvm.MethodName) prog_5_method_1_code (3 : Nat) (Option.none : Option Jvm.ClassFile.FieldType)) ∈ lw_all := lw_g (lw_at lw_m4 182 rfl) rfl
theorem q973 : (Jvm.Cond.methodLink "SkipSchool$River" (3 : Nat) ({ cls := "java/lang/Object", name := "<init>", desc := "()V" } : Jvm.MethodName)) ∈ lw_all := lw_g (lw_at lw_m4 183 rfl) rfl
theorem q974 : (Jvm.Cond.classLink "SkipSchool$River" (9 : Nat) "java/util/BitSet") ∈ lw_all := lw_g (lw_at lw_m4 184 rfl) rfl
theorem q976 : (Jvm.Cond.methodLink "SkipSchool$River" (11 : Nat) ({ cls := "java/util/BitSet", name := "<init>", desc := "(I)V" } : Jvm.MethodName)) ∈ lw_all := lw_g (lw_at lw_m4 186 rfl) rfl
theorem q998 : (Jvm.Cond.fieldLink "SkipSchool$River" (28 : Nat) "SkipSchool$River" "width" "I") ∈ lw_all := lw_g (lw_at lw_m4 208 rfl) rfl
theorem q1000 : (Jvm.Cond.fieldLink "SkipSchool$River" (31 : Nat) "SkipSchool$River" "calm" "I") ∈ lw_all := lw_g (lw_at lw_m4 210 rfl) rfl
theorem q1003 : (Jvm.Cond.fieldLink "SkipSchool$River" (14 : Nat) "SkipSchool$River" "days" "Ljava/util/BitSet;") ∈ lw_all := lw_g (lw_at lw_m4 213 rfl) rfl
theorem q1005 : (Jvm.Cond.fieldLink "SkipSchool$River" (20 : Nat) "SkipSchool$River" "stones" "[I") ∈ lw_all := lw_g (lw_at lw_m4 215 rfl) rfl
theorem q1007 : (Jvm.Cond.fieldLink "SkipSchool$River" (47 : Nat) "SkipSchool$River" "record" "I") ∈ lw_all := lw_g (lw_at lw_m4 217 rfl) rfl
theorem q1009 : (Jvm.Cond.fieldLink "SkipSchool$River" (24 : Nat) "SkipSchool$River" "holder" "I") ∈ lw_all := lw_g (lw_at lw_m4 219 rfl) rfl
theorem q1011 : (Jvm.Cond.fieldLink "SkipSchool$River" (50 : Nat) "SkipSchool$River" "sunk" "I") ∈ lw_all := lw_g (lw_at lw_m4 221 rfl) rfl
theorem q1013 : (Jvm.Cond.laysFinal "SkipSchool$River" "SkipSchool$River" "width" "I") ∈ lw_all := lw_g (lw_at lw_m4 223 rfl) rfl
theorem q1014 : (Jvm.Cond.soleField "SkipSchool$River" "width") ∈ lw_all := lw_g (lw_at lw_m4 224 rfl) rfl
theorem q1015 : (Jvm.Cond.lays "SkipSchool$River" "SkipSchool$River" "calm" "I") ∈ lw_all := lw_g (lw_at lw_m4 225 rfl) rfl
theorem q1016 : (Jvm.Cond.soleField "SkipSchool$River" "calm") ∈ lw_all := lw_g (lw_at lw_m4 226 rfl) rfl
theorem q1017 : (Jvm.Cond.lays "SkipSchool$River" "SkipSchool$River" "days" "Ljava/util/BitSet;") ∈ lw_all := lw_g (lw_at lw_m4 227 rfl) rfl
theorem q1018 : (Jvm.Cond.soleField "SkipSchool$River" "days") ∈ lw_all := lw_g (lw_at lw_m4 228 rfl) rfl
theorem q1019 : (Jvm.Cond.lays "SkipSchool$River" "SkipSchool$River" "stones" "[I") ∈ lw_all := lw_g (lw_at lw_m4 229 rfl) rfl
theorem q1020 : (Jvm.Cond.soleField "SkipSchool$River" "stones") ∈ lw_all := lw_g (lw_at lw_m4 230 rfl) rfl
theorem q1021 : (Jvm.Cond.lays "SkipSchool$River" "SkipSchool$River" "record" "I") ∈ lw_all := lw_g (lw_at lw_m4 231 rfl) rfl
theorem q1022 : (Jvm.Cond.soleField "SkipSchool$River" "record") ∈ lw_all := lw_g (lw_at lw_m4 232 rfl) rfl
theorem q1023 : (Jvm.Cond.lays "SkipSchool$River" "SkipSchool$River" "holder" "I") ∈ lw_all := lw_g (lw_at lw_m4 233 rfl) rfl
theorem q1024 : (Jvm.Cond.soleField "SkipSchool$River" "holder") ∈ lw_all := lw_g (lw_at lw_m4 234 rfl) rfl
theorem q1025 : (Jvm.Cond.lays "SkipSchool$River" "SkipSchool$River" "sunk" "I") ∈ lw_all := lw_g (lw_at lw_m4 235 rfl) rfl
theorem q1026 : (Jvm.Cond.soleField "SkipSchool$River" "sunk") ∈ lw_all := lw_g (lw_at lw_m4 236 rfl) rfl
theorem q1027 : (Jvm.Cond.superclass "SkipSchool$River" "java/lang/Object") ∈ lw_all := lw_g (lw_at lw_m4 237 rfl) rfl
theorem q1028 : (Jvm.Cond.methodLink "SkipSchool$River" (37 : Nat) ({ cls := "java/util/BitSet", name := "or", desc := "(Ljava/util/BitSet;)V" } : Jvm.MethodName)) ∈ lw_all := lw_g (lw_at lw_m4 238 rfl) rfl
theorem q1053 : (Jvm.Cond.methodLink "SkipSchool$River" (41 : Nat) ({ cls := "java/lang/System", name := "arraycopy", desc := "(Ljava/lang/Object;ILjava/lang/Object;II)V" } : Jvm.MethodName)) ∈ lw_all := lw_g (lw_at lw_m5 23 rfl) rfl
theorem q1325 : (Jvm.Cond.instanceMethod ({ cls := "SkipSchool$River", name := "booked", desc := "(I)I" } : Jvm.MethodName)) ∈ lw_all := lw_g (lw_at lw_m6 55 rfl) rfl
theorem q1326 : (Jvm.Cond.selects "SkipSchool$River" ({ cls := "SkipSchool$River", name := "booked", desc := "(I)I" } : Jvm.MethodName) ({ cls := "SkipSchool$River", name := "booked", desc := "(I)I" } : Jvm.MethodName)) ∈ lw_all := lw_g (lw_at lw_m6 56 rfl) rfl
theorem q1327 : (Jvm.Cond.code ({ cls := "SkipSchool$River", name := "booked", desc := "(I)I" } : Jvm.MethodName) prog_5_method_3_code (2 : Nat) (Option.some Jvm.ClassFile.FieldType.int)) ∈ lw_all := lw_g (lw_at lw_m6 57 rfl) rfl
theorem q1328 : (Jvm.Cond.methodLink "SkipSchool$River" (53 : Nat) ({ cls := "java/util/BitSet", name := "get", desc := "(I)Z" } : Jvm.MethodName)) ∈ lw_all := lw_g (lw_at lw_m6 58 rfl) rfl
theorem q1338 : (Jvm.Cond.instanceMethod ({ cls := "SkipSchool$River", name := "bookings", desc := "()I" } : Jvm.MethodName)) ∈ lw_all := lw_g (lw_at lw_m6 68 rfl) rfl
theorem q1339 : (Jvm.Cond.selects "SkipSchool$River" ({ cls := "SkipSchool$River", name := "bookings", desc := "()I" } : Jvm.MethodName) ({ cls := "SkipSchool$River", name := "bookings", desc := "()I" } : Jvm.MethodName)) ∈ lw_all := lw_g (lw_at lw_m6 69 rfl) rfl
theorem q1340 : (Jvm.Cond.code ({ cls := "SkipSchool$River", name := "bookings", desc := "()I" } : Jvm.MethodName) prog_5_method_4_code (1 : Nat) (Option.some Jvm.ClassFile.FieldType.int)) ∈ lw_all := lw_g (lw_at lw_m6 70 rfl) rfl
theorem q1341 : (Jvm.Cond.methodLink "SkipSchool$River" (57 : Nat) ({ cls := "java/util/BitSet", name := "cardinality", desc := "()I" } : Jvm.MethodName)) ∈ lw_all := lw_g (lw_at lw_m6 71 rfl) rfl
theorem q1430 : (Jvm.Cond.instanceMethod ({ cls := "SkipSchool$River", name := "saw", desc := "(II)V" } : Jvm.MethodName)) ∈ lw_all := lw_g (lw_at lw_m6 160 rfl) rfl
theorem q1431 : (Jvm.Cond.selects "SkipSchool$River" ({ cls := "SkipSchool$River", name := "saw", desc := "(II)V" } : Jvm.MethodName) ({ cls := "SkipSchool$River", name := "saw", desc := "(II)V" } : Jvm.MethodName)) ∈ lw_all := lw_g (lw_at lw_m6 161 rfl) rfl
theorem q1432 : (Jvm.Cond.code ({ cls := "SkipSchool$River", name := "saw", desc := "(II)V" } : Jvm.MethodName) prog_5_method_8_code (3 : Nat) (Option.none : Option Jvm.ClassFile.FieldType)) ∈ lw_all := lw_g (lw_at lw_m6 162 rfl) rfl
theorem q1474 : (Jvm.Cond.instanceMethod ({ cls := "SkipSchool$River", name := "goDay", desc := "()V" } : Jvm.MethodName)) ∈ lw_all := lw_g (lw_at lw_m6 204 rfl) rfl
theorem q1475 : (Jvm.Cond.selects "SkipSchool$River" ({ cls := "SkipSchool$River", name := "goDay", desc := "()V" } : Jvm.MethodName) ({ cls := "SkipSchool$River", name := "goDay", desc := "()V" } : Jvm.MethodName)) ∈ lw_all := lw_g (lw_at lw_m6 205 rfl) rfl
theorem q1476 : (Jvm.Cond.code ({ cls := "SkipSchool$River", name := "goDay", desc := "()V" } : Jvm.MethodName) prog_5_method_7_code (2 : Nat) (Option.none : Option Jvm.ClassFile.FieldType)) ∈ lw_all := lw_g (lw_at lw_m6 206 rfl) rfl
theorem q1477 : (Jvm.Cond.methodLink "SkipSchool$River" (68 : Nat) ({ cls := "java/util/BitSet", name := "get", desc := "(II)Ljava/util/BitSet;" } : Jvm.MethodName)) ∈ lw_all := lw_g (lw_at lw_m6 207 rfl) rfl
theorem q1742 : (Jvm.Cond.instanceMethod ({ cls := "SkipSchool$River", name := "bookingsOf", desc := "(I)I" } : Jvm.MethodName)) ∈ lw_all := lw_g (lw_at lw_m7 232 rfl) rfl
theorem q1743 : (Jvm.Cond.selects "SkipSchool$River" ({ cls := "SkipSchool$River", name := "bookingsOf", desc := "(I)I" } : Jvm.MethodName) ({ cls := "SkipSchool$River", name := "bookingsOf", desc := "(I)I" } : Jvm.MethodName)) ∈ lw_all := lw_g (lw_at lw_m7 233 rfl) rfl
theorem q1744 : (Jvm.Cond.code ({ cls := "SkipSchool$River", name := "bookingsOf", desc := "(I)I" } : Jvm.MethodName) prog_5_method_5_code (4 : Nat) (Option.some Jvm.ClassFile.FieldType.int)) ∈ lw_all := lw_g (lw_at lw_m7 234 rfl) rfl
theorem q1745 : (Jvm.Cond.methodLink "SkipSchool$River" (61 : Nat) ({ cls := "java/util/BitSet", name := "nextSetBit", desc := "(I)I" } : Jvm.MethodName)) ∈ lw_all := lw_g (lw_at lw_m7 235 rfl) rfl
theorem q1825 : (Jvm.Cond.instanceMethod ({ cls := "SkipSchool$River", name := "nextFree", desc := "(I)I" } : Jvm.MethodName)) ∈ lw_all := lw_g (lw_at lw_m8 75 rfl) rfl
theorem q1826 : (Jvm.Cond.selects "SkipSchool$River" ({ cls := "SkipSchool$River", name := "nextFree", desc := "(I)I" } : Jvm.MethodName) ({ cls := "SkipSchool$River", name := "nextFree", desc := "(I)I" } : Jvm.MethodName)) ∈ lw_all := lw_g (lw_at lw_m8 76 rfl) rfl
theorem q1827 : (Jvm.Cond.code ({ cls := "SkipSchool$River", name := "nextFree", desc := "(I)I" } : Jvm.MethodName) prog_5_method_6_code (4 : Nat) (Option.some Jvm.ClassFile.FieldType.int)) ∈ lw_all := lw_g (lw_at lw_m8 77 rfl) rfl
theorem q1828 : (Jvm.Cond.methodLink "SkipSchool$River" (65 : Nat) ({ cls := "java/util/BitSet", name := "nextClearBit", desc := "(I)I" } : Jvm.MethodName)) ∈ lw_all := lw_g (lw_at lw_m8 78 rfl) rfl
theorem q1997 : (Jvm.Cond.instanceMethod ({ cls := "SkipSchool$River", name := "told", desc := "()Ljava/lang/String;" } : Jvm.MethodName)) ∈ lw_all := lw_g (lw_at lw_m9 7 rfl) rfl
theorem q1998 : (Jvm.Cond.selects "SkipSchool$River" ({ cls := "SkipSchool$River", name := "told", desc := "()Ljava/lang/String;" } : Jvm.MethodName) ({ cls := "SkipSchool$River", name := "told", desc := "()Ljava/lang/String;" } : Jvm.MethodName)) ∈ lw_all := lw_g (lw_at lw_m9 8 rfl) rfl
theorem q1999 : (Jvm.Cond.code ({ cls := "SkipSchool$River", name := "told", desc := "()Ljava/lang/String;" } : Jvm.MethodName) prog_5_method_9_code (4 : Nat) (Option.some (Jvm.ClassFile.FieldType.object "java/lang/String"))) ∈ lw_all := lw_g (lw_at lw_m9 9 rfl) rfl
theorem q2000 : (Jvm.Cond.classLink "SkipSchool$River" (71 : Nat) "java/lang/StringBuilder") ∈ lw_all := lw_g (lw_at lw_m9 10 rfl) rfl
theorem q2001 : (Jvm.Cond.methodLink "SkipSchool$River" (73 : Nat) ({ cls := "java/lang/StringBuilder", name := "<init>", desc := "()V" } : Jvm.MethodName)) ∈ lw_all := lw_g (lw_at lw_m9 11 rfl) rfl
theorem q2002 : (Jvm.Cond.methodLink "SkipSchool$River" (74 : Nat) ({ cls := "java/lang/StringBuilder", name := "append", desc := "(C)Ljava/lang/StringBuilder;" } : Jvm.MethodName)) ∈ lw_all := lw_g (lw_at lw_m9 12 rfl) rfl
theorem q2022 : (Jvm.Cond.methodLink "SkipSchool$River" (78 : Nat) ({ cls := "java/lang/StringBuilder", name := "toString", desc := "()Ljava/lang/String;" } : Jvm.MethodName)) ∈ lw_all := lw_g (lw_at lw_m9 32 rfl) rfl
theorem q2745 : (Jvm.Cond.castable "SkipSchool$River" "java/lang/Object") ∈ lw_tbl := lw_at lw_m12 35 rfl
theorem in_X5 : ∀ w ∈ wsX50, w ∈ lw_all := lw_in wsX50 [1013, 1015, 1017, 1019, 1021, 1023, 1025] (by decide +kernel) (by decide +kernel)

/-! SkipSchool$Order -/
set_option maxRecDepth 100000
def RX6 : String := "SkipSchool$Order"
def TX6 : u_T := fun k => match k with
  | 0 => ("SkipSchool$Order", "word", "Ljava/lang/String;", true)
  | _ => ("SkipSchool$Order", "numbers", "[I", true)
def tyX6 : Nat → FieldType := fun k => match k with
  | 0 => .object "java/lang/String"
  | _ => .array .int
abbrev wsX60 : List Cond := u_ws RX6 TX6 2
theorem nmX6 : ∀ a, a < 2 → ∀ b, b < 2 → a ≠ b → (TX6 a).2.1 ≠ (TX6 b).2.1 := by decide +kernel
theorem tyX6_ok : ∀ k, k < 2 → parseFieldDescriptor (TX6 k).2.2.1 = some (tyX6 k) := by decide +kernel
abbrev cX6_init : ByteArray := prog_2_method_1_code
def yX6_init : MethodName := ⟨RX6, "<init>", "(Ljava/lang/String;[I)V"⟩
def dkwX6_init_0 : List UInt8 := [42, 183, 0, 1, 42, 43, 181, 0, 7, 42, 44, 181, 0, 13, 177]
abbrev dktX6_init_0 : List UInt8 := dkwX6_init_0 ++ []
theorem dksX6_init_0 : cX6_init.data.toList.drop 0 = dktX6_init_0 := by decide +kernel
theorem dX6_init_0 : decode cX6_init 0 = .ok (.aload_n 0, 1) := dk_42 (dk_at dksX6_init_0 0 rfl rfl)
theorem dX6_init_1 : decode cX6_init 1 = .ok (.invokespecial 1, 3) := dk_183 0 1 (dk_at dksX6_init_0 1 rfl rfl)
theorem dX6_init_4 : decode cX6_init 4 = .ok (.aload_n 0, 1) := dk_42 (dk_at dksX6_init_0 4 rfl rfl)
theorem dX6_init_5 : decode cX6_init 5 = .ok (.aload_n 1, 1) := dk_43 (dk_at dksX6_init_0 5 rfl rfl)
theorem dX6_init_6 : decode cX6_init 6 = .ok (.putfield 7, 3) := dk_181 0 7 (dk_at dksX6_init_0 6 rfl rfl)
theorem dX6_init_9 : decode cX6_init 9 = .ok (.aload_n 0, 1) := dk_42 (dk_at dksX6_init_0 9 rfl rfl)
theorem dX6_init_10 : decode cX6_init 10 = .ok (.aload_n 2, 1) := dk_44 (dk_at dksX6_init_0 10 rfl rfl)
theorem dX6_init_11 : decode cX6_init 11 = .ok (.putfield 13, 3) := dk_181 0 13 (dk_at dksX6_init_0 11 rfl rfl)
theorem dX6_init_14 : decode cX6_init 14 = .ok (.return_, 1) := dk_177 (dk_at dksX6_init_0 14 rfl rfl)
abbrev cX6_make : ByteArray := prog_2_method_2_code
def yX6_make : MethodName := ⟨RX6, "make", "(LSkipSchool$School;)I"⟩
def dkwX6_make_16 : List UInt8 := [180, 0, 13, 3, 46, 182, 0, 72, 172, 43, 182, 0, 74, 172]
abbrev dktX6_make_16 : List UInt8 := dkwX6_make_16 ++ []
def dkwX6_make_15 : List UInt8 := [180, 0, 13, 4, 46, 42, 180, 0, 13, 5, 46, 42, 180, 0, 13, 6, 46, 182, 0, 69, 172, 43, 42]
abbrev dktX6_make_15 : List UInt8 := dkwX6_make_15 ++ dktX6_make_16
def dkwX6_make_14 : List UInt8 := [180, 0, 13, 5, 46, 42, 180, 0, 13, 6, 46, 182, 0, 65, 172, 43, 42, 180, 0, 13, 3, 46, 42]
abbrev dktX6_make_14 : List UInt8 := dkwX6_make_14 ++ dktX6_make_15
def dkwX6_make_13 : List UInt8 := [180, 0, 13, 3, 46, 182, 0, 62, 172, 43, 42, 180, 0, 13, 3, 46, 42, 180, 0, 13, 4, 46, 42]
abbrev dktX6_make_13 : List UInt8 := dkwX6_make_13 ++ dktX6_make_14
def dkwX6_make_12 : List UInt8 := [182, 0, 57, 172, 43, 42, 180, 0, 13, 3, 46, 42, 180, 0, 13, 4, 46, 182, 0, 60, 172, 43, 42]
abbrev dktX6_make_12 : List UInt8 := dkwX6_make_12 ++ dktX6_make_13
def dkwX6_make_11 : List UInt8 := [182, 0, 54, 172, 43, 42, 180, 0, 13, 3, 46, 42, 180, 0, 13, 4, 46, 42, 180, 0, 13, 5, 46]
abbrev dktX6_make_11 : List UInt8 := dkwX6_make_11 ++ dktX6_make_12
def dkwX6_make_10 : List UInt8 := [42, 180, 0, 13, 4, 46, 182, 0, 51, 172, 43, 42, 180, 0, 13, 3, 46, 42, 180, 0, 13, 4, 46]
abbrev dktX6_make_10 : List UInt8 := dkwX6_make_10 ++ dktX6_make_11
def dkwX6_make_9 : List UInt8 := [43, 42, 180, 0, 13, 3, 46, 42, 180, 0, 13, 4, 46, 182, 0, 45, 172, 43, 42, 180, 0, 13, 3, 46]
abbrev dktX6_make_9 : List UInt8 := dkwX6_make_9 ++ dktX6_make_10
def dkwX6_make_8 : List UInt8 := [170, 0, 0, 0, 220, 0, 0, 0, 0, 0, 0, 0, 8, 0, 0, 0, 49, 0, 0, 0, 66, 0, 0, 0, 83, 0, 0, 0, 100, 0, 0, 0, 123, 0, 0, 0, 140, 0, 0, 0, 151, 0, 0, 0, 180, 0, 0, 0, 209]
abbrev dktX6_make_8 : List UInt8 := dkwX6_make_8 ++ dktX6_make_9
def dkwX6_make_7 : List UInt8 := [182, 0, 25, 153, 0, 6, 16, 8, 62, 29]
abbrev dktX6_make_7 : List UInt8 := dkwX6_make_7 ++ dktX6_make_8
def dkwX6_make_6 : List UInt8 := [62, 167, 0, 30, 44, 18, 41, 182, 0, 25, 153, 0, 21, 16, 7, 62, 167, 0, 15, 44, 18, 43]
abbrev dktX6_make_6 : List UInt8 := dkwX6_make_6 ++ dktX6_make_7
def dkwX6_make_5 : List UInt8 := [18, 37, 182, 0, 25, 153, 0, 50, 8, 62, 167, 0, 45, 44, 18, 39, 182, 0, 25, 153, 0, 36, 16, 6]
abbrev dktX6_make_5 : List UInt8 := dkwX6_make_5 ++ dktX6_make_6
def dkwX6_make_4 : List UInt8 := [153, 0, 78, 6, 62, 167, 0, 73, 44, 18, 35, 182, 0, 25, 153, 0, 64, 7, 62, 167, 0, 59, 44]
abbrev dktX6_make_4 : List UInt8 := dkwX6_make_4 ++ dktX6_make_5
def dkwX6_make_3 : List UInt8 := [62, 167, 0, 101, 44, 18, 31, 182, 0, 25, 153, 0, 92, 5, 62, 167, 0, 87, 44, 18, 33, 182, 0, 25]
abbrev dktX6_make_3 : List UInt8 := dkwX6_make_3 ++ dktX6_make_4
def dkwX6_make_2 : List UInt8 := [44, 18, 23, 182, 0, 25, 153, 0, 120, 3, 62, 167, 0, 115, 44, 18, 29, 182, 0, 25, 153, 0, 106, 4]
abbrev dktX6_make_2 : List UInt8 := dkwX6_make_2 ++ dktX6_make_3
def dkwX6_make_1 : List UInt8 := [171, 0, 0, 0, 207, 0, 0, 0, 9, 0, 1, 193, 187, 0, 0, 0, 165, 0, 46, 58, 233, 0, 0, 0, 123, 0, 46, 122, 95, 0, 0, 0, 109, 0, 48, 22, 108, 0, 0, 0, 137, 5, 205, 6, 186, 0, 0, 0, 195, 6, 119, 250, 12, 0, 0, 0, 95, 6, 138, 248, 101, 0, 0, 0, 81, 6, 146, 8, 117, 0, 0, 0, 151, 6, 147, 166, 230, 0, 0, 0, 180]
abbrev dktX6_make_1 : List UInt8 := dkwX6_make_1 ++ dktX6_make_2
def dkwX6_make_0 : List UInt8 := [42, 180, 0, 7, 77, 2, 62, 44, 182, 0, 17]
abbrev dktX6_make_0 : List UInt8 := dkwX6_make_0 ++ dktX6_make_1
theorem dksX6_make_0 : cX6_make.data.toList.drop 0 = dktX6_make_0 := by decide +kernel
theorem dksX6_make_1 : cX6_make.data.toList.drop 11 = dktX6_make_1 := dk_seg dksX6_make_0 11 rfl rfl
theorem dksX6_make_2 : cX6_make.data.toList.drop 92 = dktX6_make_2 := dk_seg dksX6_make_1 81 rfl rfl
theorem dksX6_make_3 : cX6_make.data.toList.drop 116 = dktX6_make_3 := dk_seg dksX6_make_2 24 rfl rfl
theorem dksX6_make_4 : cX6_make.data.toList.drop 140 = dktX6_make_4 := dk_seg dksX6_make_3 24 rfl rfl
theorem dksX6_make_5 : cX6_make.data.toList.drop 163 = dktX6_make_5 := dk_seg dksX6_make_4 23 rfl rfl
theorem dksX6_make_6 : cX6_make.data.toList.drop 187 = dktX6_make_6 := dk_seg dksX6_make_5 24 rfl rfl
theorem dksX6_make_7 : cX6_make.data.toList.drop 209 = dktX6_make_7 := dk_seg dksX6_make_6 22 rfl rfl
theorem dksX6_make_8 : cX6_make.data.toList.drop 219 = dktX6_make_8 := dk_seg dksX6_make_7 10 rfl rfl
theorem dksX6_make_9 : cX6_make.data.toList.drop 268 = dktX6_make_9 := dk_seg dksX6_make_8 49 rfl rfl
theorem dksX6_make_10 : cX6_make.data.toList.drop 292 = dktX6_make_10 := dk_seg dksX6_make_9 24 rfl rfl
theorem dksX6_make_11 : cX6_make.data.toList.drop 315 = dktX6_make_11 := dk_seg dksX6_make_10 23 rfl rfl
theorem dksX6_make_12 : cX6_make.data.toList.drop 338 = dktX6_make_12 := dk_seg dksX6_make_11 23 rfl rfl
theorem dksX6_make_13 : cX6_make.data.toList.drop 361 = dktX6_make_13 := dk_seg dksX6_make_12 23 rfl rfl
theorem dksX6_make_14 : cX6_make.data.toList.drop 384 = dktX6_make_14 := dk_seg dksX6_make_13 23 rfl rfl
theorem dksX6_make_15 : cX6_make.data.toList.drop 407 = dktX6_make_15 := dk_seg dksX6_make_14 23 rfl rfl
theorem dksX6_make_16 : cX6_make.data.toList.drop 430 = dktX6_make_16 := dk_seg dksX6_make_15 23 rfl rfl
theorem dX6_make_0 : decode cX6_make 0 = .ok (.aload_n 0, 1) := dk_42 (dk_at dksX6_make_0 0 rfl rfl)
theorem dX6_make_1 : decode cX6_make 1 = .ok (.getfield 7, 3) := dk_180 0 7 (dk_at dksX6_make_0 1 rfl rfl)
theorem dX6_make_4 : decode cX6_make 4 = .ok (.astore_n 2, 1) := dk_77 (dk_at dksX6_make_0 4 rfl rfl)
theorem dX6_make_5 : decode cX6_make 5 = .ok (.iconst (-1), 1) := dk_2 (dk_at dksX6_make_0 5 rfl rfl)
theorem dX6_make_6 : decode cX6_make 6 = .ok (.istore_n 3, 1) := dk_62 (dk_at dksX6_make_0 6 rfl rfl)
theorem dX6_make_7 : decode cX6_make 7 = .ok (.aload_n 2, 1) := dk_44 (dk_at dksX6_make_0 7 rfl rfl)
theorem dX6_make_8 : decode cX6_make 8 = .ok (.invokevirtual 17, 3) := dk_182 0 17 (dk_at dksX6_make_0 8 rfl rfl)
theorem dX6_make_11 : decode cX6_make 11 = .ok (.lookupswitch 207 #[(115131, 165), (3029737, 123), (3045983, 109), (3151468, 137), (97322682, 195), (108526092, 95), (109770853, 81), (110233717, 151), (110339814, 180)], 81) := by decide +kernel
theorem dX6_make_92 : decode cX6_make 92 = .ok (.aload_n 2, 1) := dk_44 (dk_at dksX6_make_2 0 rfl rfl)
theorem dX6_make_93 : decode cX6_make 93 = .ok (.ldc 23, 2) := dk_18 23 (dk_at dksX6_make_2 1 rfl rfl)
theorem dX6_make_95 : decode cX6_make 95 = .ok (.invokevirtual 25, 3) := dk_182 0 25 (dk_at dksX6_make_2 3 rfl rfl)
theorem dX6_make_98 : decode cX6_make 98 = .ok (.ifCond .eq 120, 3) := dk_153 0 120 (dk_at dksX6_make_2 6 rfl rfl)
theorem dX6_make_101 : decode cX6_make 101 = .ok (.iconst 0, 1) := dk_3 (dk_at dksX6_make_2 9 rfl rfl)
theorem dX6_make_102 : decode cX6_make 102 = .ok (.istore_n 3, 1) := dk_62 (dk_at dksX6_make_2 10 rfl rfl)
theorem dX6_make_103 : decode cX6_make 103 = .ok (.goto 115, 3) := dk_167 0 115 (dk_at dksX6_make_2 11 rfl rfl)
theorem dX6_make_106 : decode cX6_make 106 = .ok (.aload_n 2, 1) := dk_44 (dk_at dksX6_make_2 14 rfl rfl)
theorem dX6_make_107 : decode cX6_make 107 = .ok (.ldc 29, 2) := dk_18 29 (dk_at dksX6_make_2 15 rfl rfl)
theorem dX6_make_109 : decode cX6_make 109 = .ok (.invokevirtual 25, 3) := dk_182 0 25 (dk_at dksX6_make_2 17 rfl rfl)
theorem dX6_make_112 : decode cX6_make 112 = .ok (.ifCond .eq 106, 3) := dk_153 0 106 (dk_at dksX6_make_2 20 rfl rfl)
theorem dX6_make_115 : decode cX6_make 115 = .ok (.iconst 1, 1) := dk_4 (dk_at dksX6_make_2 23 rfl rfl)
theorem dX6_make_116 : decode cX6_make 116 = .ok (.istore_n 3, 1) := dk_62 (dk_at dksX6_make_3 0 rfl rfl)
theorem dX6_make_117 : decode cX6_make 117 = .ok (.goto 101, 3) := dk_167 0 101 (dk_at dksX6_make_3 1 rfl rfl)
theorem dX6_make_120 : decode cX6_make 120 = .ok (.aload_n 2, 1) := dk_44 (dk_at dksX6_make_3 4 rfl rfl)
theorem dX6_make_121 : decode cX6_make 121 = .ok (.ldc 31, 2) := dk_18 31 (dk_at dksX6_make_3 5 rfl rfl)
theorem dX6_make_123 : decode cX6_make 123 = .ok (.invokevirtual 25, 3) := dk_182 0 25 (dk_at dksX6_make_3 7 rfl rfl)
theorem dX6_make_126 : decode cX6_make 126 = .ok (.ifCond .eq 92, 3) := dk_153 0 92 (dk_at dksX6_make_3 10 rfl rfl)
theorem dX6_make_129 : decode cX6_make 129 = .ok (.iconst 2, 1) := dk_5 (dk_at dksX6_make_3 13 rfl rfl)
theorem dX6_make_130 : decode cX6_make 130 = .ok (.istore_n 3, 1) := dk_62 (dk_at dksX6_make_3 14 rfl rfl)
theorem dX6_make_131 : decode cX6_make 131 = .ok (.goto 87, 3) := dk_167 0 87 (dk_at dksX6_make_3 15 rfl rfl)
theorem dX6_make_134 : decode cX6_make 134 = .ok (.aload_n 2, 1) := dk_44 (dk_at dksX6_make_3 18 rfl rfl)
theorem dX6_make_135 : decode cX6_make 135 = .ok (.ldc 33, 2) := dk_18 33 (dk_at dksX6_make_3 19 rfl rfl)
theorem dX6_make_137 : decode cX6_make 137 = .ok (.invokevirtual 25, 3) := dk_182 0 25 (dk_at dksX6_make_3 21 rfl rfl)
theorem dX6_make_140 : decode cX6_make 140 = .ok (.ifCond .eq 78, 3) := dk_153 0 78 (dk_at dksX6_make_4 0 rfl rfl)
theorem dX6_make_143 : decode cX6_make 143 = .ok (.iconst 3, 1) := dk_6 (dk_at dksX6_make_4 3 rfl rfl)
theorem dX6_make_144 : decode cX6_make 144 = .ok (.istore_n 3, 1) := dk_62 (dk_at dksX6_make_4 4 rfl rfl)
theorem dX6_make_145 : decode cX6_make 145 = .ok (.goto 73, 3) := dk_167 0 73 (dk_at dksX6_make_4 5 rfl rfl)
theorem dX6_make_148 : decode cX6_make 148 = .ok (.aload_n 2, 1) := dk_44 (dk_at dksX6_make_4 8 rfl rfl)
theorem dX6_make_149 : decode cX6_make 149 = .ok (.ldc 35, 2) := dk_18 35 (dk_at dksX6_make_4 9 rfl rfl)
theorem dX6_make_151 : decode cX6_make 151 = .ok (.invokevirtual 25, 3) := dk_182 0 25 (dk_at dksX6_make_4 11 rfl rfl)
theorem dX6_make_154 : decode cX6_make 154 = .ok (.ifCond .eq 64, 3) := dk_153 0 64 (dk_at dksX6_make_4 14 rfl rfl)
theorem dX6_make_157 : decode cX6_make 157 = .ok (.iconst 4, 1) := dk_7 (dk_at dksX6_make_4 17 rfl rfl)
theorem dX6_make_158 : decode cX6_make 158 = .ok (.istore_n 3, 1) := dk_62 (dk_at dksX6_make_4 18 rfl rfl)
theorem dX6_make_159 : decode cX6_make 159 = .ok (.goto 59, 3) := dk_167 0 59 (dk_at dksX6_make_4 19 rfl rfl)
theorem dX6_make_162 : decode cX6_make 162 = .ok (.aload_n 2, 1) := dk_44 (dk_at dksX6_make_4 22 rfl rfl)
theorem dX6_make_163 : decode cX6_make 163 = .ok (.ldc 37, 2) := dk_18 37 (dk_at dksX6_make_5 0 rfl rfl)
theorem dX6_make_165 : decode cX6_make 165 = .ok (.invokevirtual 25, 3) := dk_182 0 25 (dk_at dksX6_make_5 2 rfl rfl)
theorem dX6_make_168 : decode cX6_make 168 = .ok (.ifCond .eq 50, 3) := dk_153 0 50 (dk_at dksX6_make_5 5 rfl rfl)
theorem dX6_make_171 : decode cX6_make 171 = .ok (.iconst 5, 1) := dk_8 (dk_at dksX6_make_5 8 rfl rfl)
theorem dX6_make_172 : decode cX6_make 172 = .ok (.istore_n 3, 1) := dk_62 (dk_at dksX6_make_5 9 rfl rfl)
theorem dX6_make_173 : decode cX6_make 173 = .ok (.goto 45, 3) := dk_167 0 45 (dk_at dksX6_make_5 10 rfl rfl)
theorem dX6_make_176 : decode cX6_make 176 = .ok (.aload_n 2, 1) := dk_44 (dk_at dksX6_make_5 13 rfl rfl)
theorem dX6_make_177 : decode cX6_make 177 = .ok (.ldc 39, 2) := dk_18 39 (dk_at dksX6_make_5 14 rfl rfl)
theorem dX6_make_179 : decode cX6_make 179 = .ok (.invokevirtual 25, 3) := dk_182 0 25 (dk_at dksX6_make_5 16 rfl rfl)
theorem dX6_make_182 : decode cX6_make 182 = .ok (.ifCond .eq 36, 3) := dk_153 0 36 (dk_at dksX6_make_5 19 rfl rfl)
theorem dX6_make_185 : decode cX6_make 185 = .ok (.bipush 6, 2) := dk_16 6 (dk_at dksX6_make_5 22 rfl rfl)
theorem dX6_make_187 : decode cX6_make 187 = .ok (.istore_n 3, 1) := dk_62 (dk_at dksX6_make_6 0 rfl rfl)
theorem dX6_make_188 : decode cX6_make 188 = .ok (.goto 30, 3) := dk_167 0 30 (dk_at dksX6_make_6 1 rfl rfl)
theorem dX6_make_191 : decode cX6_make 191 = .ok (.aload_n 2, 1) := dk_44 (dk_at dksX6_make_6 4 rfl rfl)
theorem dX6_make_192 : decode cX6_make 192 = .ok (.ldc 41, 2) := dk_18 41 (dk_at dksX6_make_6 5 rfl rfl)
theorem dX6_make_194 : decode cX6_make 194 = .ok (.invokevirtual 25, 3) := dk_182 0 25 (dk_at dksX6_make_6 7 rfl rfl)
theorem dX6_make_197 : decode cX6_make 197 = .ok (.ifCond .eq 21, 3) := dk_153 0 21 (dk_at dksX6_make_6 10 rfl rfl)
theorem dX6_make_200 : decode cX6_make 200 = .ok (.bipush 7, 2) := dk_16 7 (dk_at dksX6_make_6 13 rfl rfl)
theorem dX6_make_202 : decode cX6_make 202 = .ok (.istore_n 3, 1) := dk_62 (dk_at dksX6_make_6 15 rfl rfl)
theorem dX6_make_203 : decode cX6_make 203 = .ok (.goto 15, 3) := dk_167 0 15 (dk_at dksX6_make_6 16 rfl rfl)
theorem dX6_make_206 : decode cX6_make 206 = .ok (.aload_n 2, 1) := dk_44 (dk_at dksX6_make_6 19 rfl rfl)
theorem dX6_make_207 : decode cX6_make 207 = .ok (.ldc 43, 2) := dk_18 43 (dk_at dksX6_make_6 20 rfl rfl)
theorem dX6_make_209 : decode cX6_make 209 = .ok (.invokevirtual 25, 3) := dk_182 0 25 (dk_at dksX6_make_7 0 rfl rfl)
theorem dX6_make_212 : decode cX6_make 212 = .ok (.ifCond .eq 6, 3) := dk_153 0 6 (dk_at dksX6_make_7 3 rfl rfl)
theorem dX6_make_215 : decode cX6_make 215 = .ok (.bipush 8, 2) := dk_16 8 (dk_at dksX6_make_7 6 rfl rfl)
theorem dX6_make_217 : decode cX6_make 217 = .ok (.istore_n 3, 1) := dk_62 (dk_at dksX6_make_7 8 rfl rfl)
theorem dX6_make_218 : decode cX6_make 218 = .ok (.iload_n 3, 1) := dk_29 (dk_at dksX6_make_7 9 rfl rfl)
theorem dX6_make_219 : decode cX6_make 219 = .ok (.tableswitch 220 0 8 #[49, 66, 83, 100, 123, 140, 151, 180, 209], 49) := by decide +kernel
theorem dX6_make_268 : decode cX6_make 268 = .ok (.aload_n 1, 1) := dk_43 (dk_at dksX6_make_9 0 rfl rfl)
theorem dX6_make_269 : decode cX6_make 269 = .ok (.aload_n 0, 1) := dk_42 (dk_at dksX6_make_9 1 rfl rfl)
theorem dX6_make_270 : decode cX6_make 270 = .ok (.getfield 13, 3) := dk_180 0 13 (dk_at dksX6_make_9 2 rfl rfl)
theorem dX6_make_273 : decode cX6_make 273 = .ok (.iconst 0, 1) := dk_3 (dk_at dksX6_make_9 5 rfl rfl)
theorem dX6_make_274 : decode cX6_make 274 = .ok (.iaload, 1) := dk_46 (dk_at dksX6_make_9 6 rfl rfl)
theorem dX6_make_275 : decode cX6_make 275 = .ok (.aload_n 0, 1) := dk_42 (dk_at dksX6_make_9 7 rfl rfl)
theorem dX6_make_276 : decode cX6_make 276 = .ok (.getfield 13, 3) := dk_180 0 13 (dk_at dksX6_make_9 8 rfl rfl)
theorem dX6_make_279 : decode cX6_make 279 = .ok (.iconst 1, 1) := dk_4 (dk_at dksX6_make_9 11 rfl rfl)
theorem dX6_make_280 : decode cX6_make 280 = .ok (.iaload, 1) := dk_46 (dk_at dksX6_make_9 12 rfl rfl)
theorem dX6_make_281 : decode cX6_make 281 = .ok (.invokevirtual 45, 3) := dk_182 0 45 (dk_at dksX6_make_9 13 rfl rfl)
theorem dX6_make_284 : decode cX6_make 284 = .ok (.ireturn, 1) := dk_172 (dk_at dksX6_make_9 16 rfl rfl)
theorem dX6_make_285 : decode cX6_make 285 = .ok (.aload_n 1, 1) := dk_43 (dk_at dksX6_make_9 17 rfl rfl)
theorem dX6_make_286 : decode cX6_make 286 = .ok (.aload_n 0, 1) := dk_42 (dk_at dksX6_make_9 18 rfl rfl)
theorem dX6_make_287 : decode cX6_make 287 = .ok (.getfield 13, 3) := dk_180 0 13 (dk_at dksX6_make_9 19 rfl rfl)
theorem dX6_make_290 : decode cX6_make 290 = .ok (.iconst 0, 1) := dk_3 (dk_at dksX6_make_9 22 rfl rfl)
theorem dX6_make_291 : decode cX6_make 291 = .ok (.iaload, 1) := dk_46 (dk_at dksX6_make_9 23 rfl rfl)
theorem dX6_make_292 : decode cX6_make 292 = .ok (.aload_n 0, 1) := dk_42 (dk_at dksX6_make_10 0 rfl rfl)
theorem dX6_make_293 : decode cX6_make 293 = .ok (.getfield 13, 3) := dk_180 0 13 (dk_at dksX6_make_10 1 rfl rfl)
theorem dX6_make_296 : decode cX6_make 296 = .ok (.iconst 1, 1) := dk_4 (dk_at dksX6_make_10 4 rfl rfl)
theorem dX6_make_297 : decode cX6_make 297 = .ok (.iaload, 1) := dk_46 (dk_at dksX6_make_10 5 rfl rfl)
theorem dX6_make_298 : decode cX6_make 298 = .ok (.invokevirtual 51, 3) := dk_182 0 51 (dk_at dksX6_make_10 6 rfl rfl)
theorem dX6_make_301 : decode cX6_make 301 = .ok (.ireturn, 1) := dk_172 (dk_at dksX6_make_10 9 rfl rfl)
theorem dX6_make_302 : decode cX6_make 302 = .ok (.aload_n 1, 1) := dk_43 (dk_at dksX6_make_10 10 rfl rfl)
theorem dX6_make_303 : decode cX6_make 303 = .ok (.aload_n 0, 1) := dk_42 (dk_at dksX6_make_10 11 rfl rfl)
theorem dX6_make_304 : decode cX6_make 304 = .ok (.getfield 13, 3) := dk_180 0 13 (dk_at dksX6_make_10 12 rfl rfl)
theorem dX6_make_307 : decode cX6_make 307 = .ok (.iconst 0, 1) := dk_3 (dk_at dksX6_make_10 15 rfl rfl)
theorem dX6_make_308 : decode cX6_make 308 = .ok (.iaload, 1) := dk_46 (dk_at dksX6_make_10 16 rfl rfl)
theorem dX6_make_309 : decode cX6_make 309 = .ok (.aload_n 0, 1) := dk_42 (dk_at dksX6_make_10 17 rfl rfl)
theorem dX6_make_310 : decode cX6_make 310 = .ok (.getfield 13, 3) := dk_180 0 13 (dk_at dksX6_make_10 18 rfl rfl)
theorem dX6_make_313 : decode cX6_make 313 = .ok (.iconst 1, 1) := dk_4 (dk_at dksX6_make_10 21 rfl rfl)
theorem dX6_make_314 : decode cX6_make 314 = .ok (.iaload, 1) := dk_46 (dk_at dksX6_make_10 22 rfl rfl)
theorem dX6_make_315 : decode cX6_make 315 = .ok (.invokevirtual 54, 3) := dk_182 0 54 (dk_at dksX6_make_11 0 rfl rfl)
theorem dX6_make_318 : decode cX6_make 318 = .ok (.ireturn, 1) := dk_172 (dk_at dksX6_make_11 3 rfl rfl)
theorem dX6_make_319 : decode cX6_make 319 = .ok (.aload_n 1, 1) := dk_43 (dk_at dksX6_make_11 4 rfl rfl)
theorem dX6_make_320 : decode cX6_make 320 = .ok (.aload_n 0, 1) := dk_42 (dk_at dksX6_make_11 5 rfl rfl)
theorem dX6_make_321 : decode cX6_make 321 = .ok (.getfield 13, 3) := dk_180 0 13 (dk_at dksX6_make_11 6 rfl rfl)
theorem dX6_make_324 : decode cX6_make 324 = .ok (.iconst 0, 1) := dk_3 (dk_at dksX6_make_11 9 rfl rfl)
theorem dX6_make_325 : decode cX6_make 325 = .ok (.iaload, 1) := dk_46 (dk_at dksX6_make_11 10 rfl rfl)
theorem dX6_make_326 : decode cX6_make 326 = .ok (.aload_n 0, 1) := dk_42 (dk_at dksX6_make_11 11 rfl rfl)
theorem dX6_make_327 : decode cX6_make 327 = .ok (.getfield 13, 3) := dk_180 0 13 (dk_at dksX6_make_11 12 rfl rfl)
theorem dX6_make_330 : decode cX6_make 330 = .ok (.iconst 1, 1) := dk_4 (dk_at dksX6_make_11 15 rfl rfl)
theorem dX6_make_331 : decode cX6_make 331 = .ok (.iaload, 1) := dk_46 (dk_at dksX6_make_11 16 rfl rfl)
theorem dX6_make_332 : decode cX6_make 332 = .ok (.aload_n 0, 1) := dk_42 (dk_at dksX6_make_11 17 rfl rfl)
theorem dX6_make_333 : decode cX6_make 333 = .ok (.getfield 13, 3) := dk_180 0 13 (dk_at dksX6_make_11 18 rfl rfl)
theorem dX6_make_336 : decode cX6_make 336 = .ok (.iconst 2, 1) := dk_5 (dk_at dksX6_make_11 21 rfl rfl)
theorem dX6_make_337 : decode cX6_make 337 = .ok (.iaload, 1) := dk_46 (dk_at dksX6_make_11 22 rfl rfl)
theorem dX6_make_338 : decode cX6_make 338 = .ok (.invokevirtual 57, 3) := dk_182 0 57 (dk_at dksX6_make_12 0 rfl rfl)
theorem dX6_make_341 : decode cX6_make 341 = .ok (.ireturn, 1) := dk_172 (dk_at dksX6_make_12 3 rfl rfl)
theorem dX6_make_342 : decode cX6_make 342 = .ok (.aload_n 1, 1) := dk_43 (dk_at dksX6_make_12 4 rfl rfl)
theorem dX6_make_343 : decode cX6_make 343 = .ok (.aload_n 0, 1) := dk_42 (dk_at dksX6_make_12 5 rfl rfl)
theorem dX6_make_344 : decode cX6_make 344 = .ok (.getfield 13, 3) := dk_180 0 13 (dk_at dksX6_make_12 6 rfl rfl)
theorem dX6_make_347 : decode cX6_make 347 = .ok (.iconst 0, 1) := dk_3 (dk_at dksX6_make_12 9 rfl rfl)
theorem dX6_make_348 : decode cX6_make 348 = .ok (.iaload, 1) := dk_46 (dk_at dksX6_make_12 10 rfl rfl)
theorem dX6_make_349 : decode cX6_make 349 = .ok (.aload_n 0, 1) := dk_42 (dk_at dksX6_make_12 11 rfl rfl)
theorem dX6_make_350 : decode cX6_make 350 = .ok (.getfield 13, 3) := dk_180 0 13 (dk_at dksX6_make_12 12 rfl rfl)
theorem dX6_make_353 : decode cX6_make 353 = .ok (.iconst 1, 1) := dk_4 (dk_at dksX6_make_12 15 rfl rfl)
theorem dX6_make_354 : decode cX6_make 354 = .ok (.iaload, 1) := dk_46 (dk_at dksX6_make_12 16 rfl rfl)
theorem dX6_make_355 : decode cX6_make 355 = .ok (.invokevirtual 60, 3) := dk_182 0 60 (dk_at dksX6_make_12 17 rfl rfl)
theorem dX6_make_358 : decode cX6_make 358 = .ok (.ireturn, 1) := dk_172 (dk_at dksX6_make_12 20 rfl rfl)
theorem dX6_make_359 : decode cX6_make 359 = .ok (.aload_n 1, 1) := dk_43 (dk_at dksX6_make_12 21 rfl rfl)
theorem dX6_make_360 : decode cX6_make 360 = .ok (.aload_n 0, 1) := dk_42 (dk_at dksX6_make_12 22 rfl rfl)
theorem dX6_make_361 : decode cX6_make 361 = .ok (.getfield 13, 3) := dk_180 0 13 (dk_at dksX6_make_13 0 rfl rfl)
theorem dX6_make_364 : decode cX6_make 364 = .ok (.iconst 0, 1) := dk_3 (dk_at dksX6_make_13 3 rfl rfl)
theorem dX6_make_365 : decode cX6_make 365 = .ok (.iaload, 1) := dk_46 (dk_at dksX6_make_13 4 rfl rfl)
theorem dX6_make_366 : decode cX6_make 366 = .ok (.invokevirtual 62, 3) := dk_182 0 62 (dk_at dksX6_make_13 5 rfl rfl)
theorem dX6_make_369 : decode cX6_make 369 = .ok (.ireturn, 1) := dk_172 (dk_at dksX6_make_13 8 rfl rfl)
theorem dX6_make_370 : decode cX6_make 370 = .ok (.aload_n 1, 1) := dk_43 (dk_at dksX6_make_13 9 rfl rfl)
theorem dX6_make_371 : decode cX6_make 371 = .ok (.aload_n 0, 1) := dk_42 (dk_at dksX6_make_13 10 rfl rfl)
theorem dX6_make_372 : decode cX6_make 372 = .ok (.getfield 13, 3) := dk_180 0 13 (dk_at dksX6_make_13 11 rfl rfl)
theorem dX6_make_375 : decode cX6_make 375 = .ok (.iconst 0, 1) := dk_3 (dk_at dksX6_make_13 14 rfl rfl)
theorem dX6_make_376 : decode cX6_make 376 = .ok (.iaload, 1) := dk_46 (dk_at dksX6_make_13 15 rfl rfl)
theorem dX6_make_377 : decode cX6_make 377 = .ok (.aload_n 0, 1) := dk_42 (dk_at dksX6_make_13 16 rfl rfl)
theorem dX6_make_378 : decode cX6_make 378 = .ok (.getfield 13, 3) := dk_180 0 13 (dk_at dksX6_make_13 17 rfl rfl)
theorem dX6_make_381 : decode cX6_make 381 = .ok (.iconst 1, 1) := dk_4 (dk_at dksX6_make_13 20 rfl rfl)
theorem dX6_make_382 : decode cX6_make 382 = .ok (.iaload, 1) := dk_46 (dk_at dksX6_make_13 21 rfl rfl)
theorem dX6_make_383 : decode cX6_make 383 = .ok (.aload_n 0, 1) := dk_42 (dk_at dksX6_make_13 22 rfl rfl)
theorem dX6_make_384 : decode cX6_make 384 = .ok (.getfield 13, 3) := dk_180 0 13 (dk_at dksX6_make_14 0 rfl rfl)
theorem dX6_make_387 : decode cX6_make 387 = .ok (.iconst 2, 1) := dk_5 (dk_at dksX6_make_14 3 rfl rfl)
theorem dX6_make_388 : decode cX6_make 388 = .ok (.iaload, 1) := dk_46 (dk_at dksX6_make_14 4 rfl rfl)
theorem dX6_make_389 : decode cX6_make 389 = .ok (.aload_n 0, 1) := dk_42 (dk_at dksX6_make_14 5 rfl rfl)
theorem dX6_make_390 : decode cX6_make 390 = .ok (.getfield 13, 3) := dk_180 0 13 (dk_at dksX6_make_14 6 rfl rfl)
theorem dX6_make_393 : decode cX6_make 393 = .ok (.iconst 3, 1) := dk_6 (dk_at dksX6_make_14 9 rfl rfl)
theorem dX6_make_394 : decode cX6_make 394 = .ok (.iaload, 1) := dk_46 (dk_at dksX6_make_14 10 rfl rfl)
theorem dX6_make_395 : decode cX6_make 395 = .ok (.invokevirtual 65, 3) := dk_182 0 65 (dk_at dksX6_make_14 11 rfl rfl)
theorem dX6_make_398 : decode cX6_make 398 = .ok (.ireturn, 1) := dk_172 (dk_at dksX6_make_14 14 rfl rfl)
theorem dX6_make_399 : decode cX6_make 399 = .ok (.aload_n 1, 1) := dk_43 (dk_at dksX6_make_14 15 rfl rfl)
theorem dX6_make_400 : decode cX6_make 400 = .ok (.aload_n 0, 1) := dk_42 (dk_at dksX6_make_14 16 rfl rfl)
theorem dX6_make_401 : decode cX6_make 401 = .ok (.getfield 13, 3) := dk_180 0 13 (dk_at dksX6_make_14 17 rfl rfl)
theorem dX6_make_404 : decode cX6_make 404 = .ok (.iconst 0, 1) := dk_3 (dk_at dksX6_make_14 20 rfl rfl)
theorem dX6_make_405 : decode cX6_make 405 = .ok (.iaload, 1) := dk_46 (dk_at dksX6_make_14 21 rfl rfl)
theorem dX6_make_406 : decode cX6_make 406 = .ok (.aload_n 0, 1) := dk_42 (dk_at dksX6_make_14 22 rfl rfl)
theorem dX6_make_407 : decode cX6_make 407 = .ok (.getfield 13, 3) := dk_180 0 13 (dk_at dksX6_make_15 0 rfl rfl)
theorem dX6_make_410 : decode cX6_make 410 = .ok (.iconst 1, 1) := dk_4 (dk_at dksX6_make_15 3 rfl rfl)
theorem dX6_make_411 : decode cX6_make 411 = .ok (.iaload, 1) := dk_46 (dk_at dksX6_make_15 4 rfl rfl)
theorem dX6_make_412 : decode cX6_make 412 = .ok (.aload_n 0, 1) := dk_42 (dk_at dksX6_make_15 5 rfl rfl)
theorem dX6_make_413 : decode cX6_make 413 = .ok (.getfield 13, 3) := dk_180 0 13 (dk_at dksX6_make_15 6 rfl rfl)
theorem dX6_make_416 : decode cX6_make 416 = .ok (.iconst 2, 1) := dk_5 (dk_at dksX6_make_15 9 rfl rfl)
theorem dX6_make_417 : decode cX6_make 417 = .ok (.iaload, 1) := dk_46 (dk_at dksX6_make_15 10 rfl rfl)
theorem dX6_make_418 : decode cX6_make 418 = .ok (.aload_n 0, 1) := dk_42 (dk_at dksX6_make_15 11 rfl rfl)
theorem dX6_make_419 : decode cX6_make 419 = .ok (.getfield 13, 3) := dk_180 0 13 (dk_at dksX6_make_15 12 rfl rfl)
theorem dX6_make_422 : decode cX6_make 422 = .ok (.iconst 3, 1) := dk_6 (dk_at dksX6_make_15 15 rfl rfl)
theorem dX6_make_423 : decode cX6_make 423 = .ok (.iaload, 1) := dk_46 (dk_at dksX6_make_15 16 rfl rfl)
theorem dX6_make_424 : decode cX6_make 424 = .ok (.invokevirtual 69, 3) := dk_182 0 69 (dk_at dksX6_make_15 17 rfl rfl)
theorem dX6_make_427 : decode cX6_make 427 = .ok (.ireturn, 1) := dk_172 (dk_at dksX6_make_15 20 rfl rfl)
theorem dX6_make_428 : decode cX6_make 428 = .ok (.aload_n 1, 1) := dk_43 (dk_at dksX6_make_15 21 rfl rfl)
theorem dX6_make_429 : decode cX6_make 429 = .ok (.aload_n 0, 1) := dk_42 (dk_at dksX6_make_15 22 rfl rfl)
theorem dX6_make_430 : decode cX6_make 430 = .ok (.getfield 13, 3) := dk_180 0 13 (dk_at dksX6_make_16 0 rfl rfl)
theorem dX6_make_433 : decode cX6_make 433 = .ok (.iconst 0, 1) := dk_3 (dk_at dksX6_make_16 3 rfl rfl)
theorem dX6_make_434 : decode cX6_make 434 = .ok (.iaload, 1) := dk_46 (dk_at dksX6_make_16 4 rfl rfl)
theorem dX6_make_435 : decode cX6_make 435 = .ok (.invokevirtual 72, 3) := dk_182 0 72 (dk_at dksX6_make_16 5 rfl rfl)
theorem dX6_make_438 : decode cX6_make 438 = .ok (.ireturn, 1) := dk_172 (dk_at dksX6_make_16 8 rfl rfl)
theorem dX6_make_439 : decode cX6_make 439 = .ok (.aload_n 1, 1) := dk_43 (dk_at dksX6_make_16 9 rfl rfl)
theorem dX6_make_440 : decode cX6_make 440 = .ok (.invokevirtual 74, 3) := dk_182 0 74 (dk_at dksX6_make_16 10 rfl rfl)
theorem dX6_make_443 : decode cX6_make 443 = .ok (.ireturn, 1) := dk_172 (dk_at dksX6_make_16 13 rfl rfl)
theorem q104 : (Jvm.Cond.initialized "SkipSchool$Order") ∈ lw_all := lw_g (lw_at lw_m1 34 rfl) rfl
theorem q780 : (Jvm.Cond.selects "SkipSchool$Order" ({ cls := "java/lang/Object", name := "getClass", desc := "()Ljava/lang/Class;" } : Jvm.MethodName) ({ cls := "java/lang/Object", name := "getClass", desc := "()Ljava/lang/Class;" } : Jvm.MethodName)) ∈ lw_all := lw_g (lw_at lw_m3 230 rfl) rfl
theorem q1124 : (Jvm.Cond.instantiable "SkipSchool$Order" (2 : Nat)) ∈ lw_all := lw_g (lw_at lw_m5 94 rfl) rfl
theorem q1126 : (Jvm.Cond.instanceMethod ({ cls := "SkipSchool$Order", name := "<init>", desc := "(Ljava/lang/String;[I)V" } : Jvm.MethodName)) ∈ lw_all := lw_g (lw_at lw_m5 96 rfl) rfl
theorem q1127 : (Jvm.Cond.code ({ cls := "SkipSchool$Order", name := "<init>", desc := "(Ljava/lang/String;[I)V" } : Jvm.MethodName) prog_2_method_1_code (3 : Nat) (Option.none : Option Jvm.ClassFile.FieldType)) ∈ lw_all := lw_g (lw_at lw_m5 97 rfl) rfl
theorem q1128 : (Jvm.Cond.methodLink "SkipSchool$Order" (1 : Nat) ({ cls := "java/lang/Object", name := "<init>", desc := "()V" } : Jvm.MethodName)) ∈ lw_all := lw_g (lw_at lw_m5 98 rfl) rfl
theorem q1129 : (Jvm.Cond.fieldLink "SkipSchool$Order" (7 : Nat) "SkipSchool$Order" "word" "Ljava/lang/String;") ∈ lw_all := lw_g (lw_at lw_m5 99 rfl) rfl
theorem q1130 : (Jvm.Cond.fieldLink "SkipSchool$Order" (13 : Nat) "SkipSchool$Order" "numbers" "[I") ∈ lw_all := lw_g (lw_at lw_m5 100 rfl) rfl
theorem q1131 : (Jvm.Cond.laysFinal "SkipSchool$Order" "SkipSchool$Order" "word" "Ljava/lang/String;") ∈ lw_all := lw_g (lw_at lw_m5 101 rfl) rfl
theorem q1132 : (Jvm.Cond.soleField "SkipSchool$Order" "word") ∈ lw_all := lw_g (lw_at lw_m5 102 rfl) rfl
theorem q1133 : (Jvm.Cond.laysFinal "SkipSchool$Order" "SkipSchool$Order" "numbers" "[I") ∈ lw_all := lw_g (lw_at lw_m5 103 rfl) rfl
theorem q1134 : (Jvm.Cond.soleField "SkipSchool$Order" "numbers") ∈ lw_all := lw_g (lw_at lw_m5 104 rfl) rfl
theorem q1135 : (Jvm.Cond.superclass "SkipSchool$Order" "java/lang/Object") ∈ lw_all := lw_g (lw_at lw_m5 105 rfl) rfl
theorem q1137 : (Jvm.Cond.instanceMethod ({ cls := "SkipSchool$Order", name := "make", desc := "(LSkipSchool$School;)I" } : Jvm.MethodName)) ∈ lw_all := lw_g (lw_at lw_m5 107 rfl) rfl
theorem q1138 : (Jvm.Cond.selects "SkipSchool$Order" ({ cls := "SkipSchool$Order", name := "make", desc := "(LSkipSchool$School;)I" } : Jvm.MethodName) ({ cls := "SkipSchool$Order", name := "make", desc := "(LSkipSchool$School;)I" } : Jvm.MethodName)) ∈ lw_all := lw_g (lw_at lw_m5 108 rfl) rfl
theorem q1139 : (Jvm.Cond.code ({ cls := "SkipSchool$Order", name := "make", desc := "(LSkipSchool$School;)I" } : Jvm.MethodName) prog_2_method_2_code (4 : Nat) (Option.some Jvm.ClassFile.FieldType.int)) ∈ lw_all := lw_g (lw_at lw_m5 109 rfl) rfl
theorem q1140 : (Jvm.Cond.methodLink "SkipSchool$Order" (17 : Nat) ({ cls := "java/lang/String", name := "hashCode", desc := "()I" } : Jvm.MethodName)) ∈ lw_all := lw_g (lw_at lw_m5 110 rfl) rfl
theorem q1201 : (Jvm.Cond.stringRef "SkipSchool$Order" (23 : Nat) "stone") ∈ lw_tbl := lw_at lw_m5 171 rfl
theorem q1202 : (Jvm.Cond.methodLink "SkipSchool$Order" (25 : Nat) ({ cls := "java/lang/String", name := "equals", desc := "(Ljava/lang/Object;)Z" } : Jvm.MethodName)) ∈ lw_all := lw_g (lw_at lw_m5 172 rfl) rfl
theorem q1210 : (Jvm.Cond.stringRef "SkipSchool$Order" (29 : Nat) "river") ∈ lw_tbl := lw_at lw_m5 180 rfl
theorem q1211 : (Jvm.Cond.stringRef "SkipSchool$Order" (31 : Nat) "calm") ∈ lw_tbl := lw_at lw_m5 181 rfl
theorem q1212 : (Jvm.Cond.stringRef "SkipSchool$Order" (33 : Nat) "book") ∈ lw_tbl := lw_at lw_m5 182 rfl
theorem q1213 : (Jvm.Cond.stringRef "SkipSchool$Order" (35 : Nat) "free") ∈ lw_tbl := lw_at lw_m5 183 rfl
theorem q1214 : (Jvm.Cond.stringRef "SkipSchool$Order" (37 : Nat) "teach") ∈ lw_tbl := lw_at lw_m5 184 rfl
theorem q1215 : (Jvm.Cond.stringRef "SkipSchool$Order" (39 : Nat) "try") ∈ lw_tbl := lw_at lw_m5 185 rfl
theorem q1216 : (Jvm.Cond.stringRef "SkipSchool$Order" (41 : Nat) "throw") ∈ lw_tbl := lw_at lw_m5 186 rfl
theorem q1217 : (Jvm.Cond.stringRef "SkipSchool$Order" (43 : Nat) "fetch") ∈ lw_tbl := lw_at lw_m5 187 rfl
theorem q1218 : (Jvm.Cond.methodLink "SkipSchool$Order" (45 : Nat) ({ cls := "SkipSchool$School", name := "comeStone", desc := "(II)I" } : Jvm.MethodName)) ∈ lw_all := lw_g (lw_at lw_m5 188 rfl) rfl
theorem q1267 : (Jvm.Cond.methodLink "SkipSchool$Order" (51 : Nat) ({ cls := "SkipSchool$School", name := "comeRiver", desc := "(II)I" } : Jvm.MethodName)) ∈ lw_all := lw_g (lw_at lw_m5 237 rfl) rfl
theorem q1274 : (Jvm.Cond.methodLink "SkipSchool$Order" (54 : Nat) ({ cls := "SkipSchool$School", name := "tellCalm", desc := "(II)I" } : Jvm.MethodName)) ∈ lw_all := lw_g (lw_at lw_m6 4 rfl) rfl
theorem q1291 : (Jvm.Cond.methodLink "SkipSchool$Order" (57 : Nat) ({ cls := "SkipSchool$School", name := "book", desc := "(III)I" } : Jvm.MethodName)) ∈ lw_all := lw_g (lw_at lw_m6 21 rfl) rfl
theorem q1351 : (Jvm.Cond.methodLink "SkipSchool$Order" (60 : Nat) ({ cls := "SkipSchool$School", name := "free", desc := "(II)I" } : Jvm.MethodName)) ∈ lw_all := lw_g (lw_at lw_m6 81 rfl) rfl
theorem q1364 : (Jvm.Cond.methodLink "SkipSchool$Order" (62 : Nat) ({ cls := "SkipSchool$School", name := "teach", desc := "(I)I" } : Jvm.MethodName)) ∈ lw_all := lw_g (lw_at lw_m6 94 rfl) rfl
theorem q1373 : (Jvm.Cond.methodLink "SkipSchool$Order" (65 : Nat) ({ cls := "SkipSchool$School", name := "trial", desc := "(IIII)I" } : Jvm.MethodName)) ∈ lw_all := lw_g (lw_at lw_m6 103 rfl) rfl
theorem q1417 : (Jvm.Cond.methodLink "SkipSchool$Order" (69 : Nat) ({ cls := "SkipSchool$School", name := "skim", desc := "(IIII)I" } : Jvm.MethodName)) ∈ lw_all := lw_g (lw_at lw_m6 147 rfl) rfl
theorem q1461 : (Jvm.Cond.methodLink "SkipSchool$Order" (72 : Nat) ({ cls := "SkipSchool$School", name := "fetch", desc := "(I)I" } : Jvm.MethodName)) ∈ lw_all := lw_g (lw_at lw_m6 191 rfl) rfl
theorem q1469 : (Jvm.Cond.methodLink "SkipSchool$Order" (74 : Nat) ({ cls := "SkipSchool$School", name := "goDay", desc := "()I" } : Jvm.MethodName)) ∈ lw_all := lw_g (lw_at lw_m6 199 rfl) rfl
theorem q2750 : (Jvm.Cond.castable "SkipSchool$Order" "java/lang/Object") ∈ lw_tbl := lw_at lw_m12 40 rfl
theorem in_X6 : ∀ w ∈ wsX60, w ∈ lw_all := lw_in wsX60 [1131, 1133] (by decide +kernel) (by decide +kernel)

/-! SkipSchool$Refused -/
set_option maxRecDepth 100000
def RX7 : String := "SkipSchool$Refused"
def TX7 : u_T := fun k => match k with
  | 0 => ("java/lang/Throwable", "cause", "Ljava/lang/Throwable;", false)
  | 1 => ("java/lang/Throwable", "stackTrace", "[Ljava/lang/StackTraceElement;", false)
  | 2 => ("java/lang/Throwable", "suppressedExceptions", "Ljava/util/List;", false)
  | 3 => ("java/lang/Throwable", "detailMessage", "Ljava/lang/String;", false)
  | 4 => ("java/lang/Throwable", "backtrace", "Ljava/lang/Object;", false)
  | 5 => ("java/lang/Throwable", "depth", "I", false)
  | 6 => ("SkipSchool$Refused", "reason", "I", true)
  | _ => ("SkipSchool$Refused", "detail", "I", true)
def tyX7 : Nat → FieldType := fun k => match k with
  | 0 => .object "java/lang/Throwable"
  | 1 => .array (.object "java/lang/StackTraceElement")
  | 2 => .object "java/util/List"
  | 3 => .object "java/lang/String"
  | 4 => .object "java/lang/Object"
  | 5 => .int
  | 6 => .int
  | _ => .int
abbrev wsX70 : List Cond := u_ws RX7 TX7 8
theorem nmX7 : ∀ a, a < 8 → ∀ b, b < 8 → a ≠ b → (TX7 a).2.1 ≠ (TX7 b).2.1 := by decide +kernel
theorem tyX7_ok : ∀ k, k < 8 → parseFieldDescriptor (TX7 k).2.2.1 = some (tyX7 k) := by decide +kernel
abbrev cX7_check : ByteArray := prog_4_method_2_code
def yX7_check : MethodName := ⟨RX7, "check", "(ZII)V"⟩
def dkwX7_check_0 : List UInt8 := [26, 154, 0, 13, 187, 0, 8, 89, 27, 28, 183, 0, 16, 191, 177]
abbrev dktX7_check_0 : List UInt8 := dkwX7_check_0 ++ []
theorem dksX7_check_0 : cX7_check.data.toList.drop 0 = dktX7_check_0 := by decide +kernel
theorem dX7_check_0 : decode cX7_check 0 = .ok (.iload_n 0, 1) := dk_26 (dk_at dksX7_check_0 0 rfl rfl)
theorem dX7_check_1 : decode cX7_check 1 = .ok (.ifCond .ne 13, 3) := dk_154 0 13 (dk_at dksX7_check_0 1 rfl rfl)
theorem dX7_check_4 : decode cX7_check 4 = .ok (.new 8, 3) := dk_187 0 8 (dk_at dksX7_check_0 4 rfl rfl)
theorem dX7_check_7 : decode cX7_check 7 = .ok (.dup, 1) := dk_89 (dk_at dksX7_check_0 7 rfl rfl)
theorem dX7_check_8 : decode cX7_check 8 = .ok (.iload_n 1, 1) := dk_27 (dk_at dksX7_check_0 8 rfl rfl)
theorem dX7_check_9 : decode cX7_check 9 = .ok (.iload_n 2, 1) := dk_28 (dk_at dksX7_check_0 9 rfl rfl)
theorem dX7_check_10 : decode cX7_check 10 = .ok (.invokespecial 16, 3) := dk_183 0 16 (dk_at dksX7_check_0 10 rfl rfl)
theorem dX7_check_13 : decode cX7_check 13 = .ok (.athrow, 1) := dk_191 (dk_at dksX7_check_0 13 rfl rfl)
theorem dX7_check_14 : decode cX7_check 14 = .ok (.return_, 1) := dk_177 (dk_at dksX7_check_0 14 rfl rfl)
abbrev cX7_init : ByteArray := prog_4_method_1_code
def yX7_init : MethodName := ⟨RX7, "<init>", "(II)V"⟩
def dkwX7_init_0 : List UInt8 := [42, 1, 1, 3, 3, 183, 0, 1, 42, 27, 181, 0, 7, 42, 28, 181, 0, 13, 177]
abbrev dktX7_init_0 : List UInt8 := dkwX7_init_0 ++ []
theorem dksX7_init_0 : cX7_init.data.toList.drop 0 = dktX7_init_0 := by decide +kernel
theorem dX7_init_0 : decode cX7_init 0 = .ok (.aload_n 0, 1) := dk_42 (dk_at dksX7_init_0 0 rfl rfl)
theorem dX7_init_1 : decode cX7_init 1 = .ok (.aconst_null, 1) := dk_1 (dk_at dksX7_init_0 1 rfl rfl)
theorem dX7_init_2 : decode cX7_init 2 = .ok (.aconst_null, 1) := dk_1 (dk_at dksX7_init_0 2 rfl rfl)
theorem dX7_init_3 : decode cX7_init 3 = .ok (.iconst 0, 1) := dk_3 (dk_at dksX7_init_0 3 rfl rfl)
theorem dX7_init_4 : decode cX7_init 4 = .ok (.iconst 0, 1) := dk_3 (dk_at dksX7_init_0 4 rfl rfl)
theorem dX7_init_5 : decode cX7_init 5 = .ok (.invokespecial 1, 3) := dk_183 0 1 (dk_at dksX7_init_0 5 rfl rfl)
theorem dX7_init_8 : decode cX7_init 8 = .ok (.aload_n 0, 1) := dk_42 (dk_at dksX7_init_0 8 rfl rfl)
theorem dX7_init_9 : decode cX7_init 9 = .ok (.iload_n 1, 1) := dk_27 (dk_at dksX7_init_0 9 rfl rfl)
theorem dX7_init_10 : decode cX7_init 10 = .ok (.putfield 7, 3) := dk_181 0 7 (dk_at dksX7_init_0 10 rfl rfl)
theorem dX7_init_13 : decode cX7_init 13 = .ok (.aload_n 0, 1) := dk_42 (dk_at dksX7_init_0 13 rfl rfl)
theorem dX7_init_14 : decode cX7_init 14 = .ok (.iload_n 2, 1) := dk_28 (dk_at dksX7_init_0 14 rfl rfl)
theorem dX7_init_15 : decode cX7_init 15 = .ok (.putfield 13, 3) := dk_181 0 13 (dk_at dksX7_init_0 15 rfl rfl)
theorem dX7_init_18 : decode cX7_init 18 = .ok (.return_, 1) := dk_177 (dk_at dksX7_init_0 18 rfl rfl)
theorem q105 : (Jvm.Cond.initialized "SkipSchool$Refused") ∈ lw_all := lw_g (lw_at lw_m1 35 rfl) rfl
theorem q463 : (Jvm.Cond.selects "SkipSchool$Refused" ({ cls := "java/lang/Throwable", name := "fillInStackTrace", desc := "()Ljava/lang/Throwable;" } : Jvm.MethodName) ({ cls := "java/lang/Throwable", name := "fillInStackTrace", desc := "()Ljava/lang/Throwable;" } : Jvm.MethodName)) ∈ lw_all := lw_g (lw_at lw_m2 153 rfl) rfl
theorem q766 : (Jvm.Cond.selects "SkipSchool$Refused" ({ cls := "java/lang/Throwable", name := "toString", desc := "()Ljava/lang/String;" } : Jvm.MethodName) ({ cls := "java/lang/Throwable", name := "toString", desc := "()Ljava/lang/String;" } : Jvm.MethodName)) ∈ lw_all := lw_g (lw_at lw_m3 216 rfl) rfl
theorem q782 : (Jvm.Cond.selects "SkipSchool$Refused" ({ cls := "java/lang/Object", name := "getClass", desc := "()Ljava/lang/Class;" } : Jvm.MethodName) ({ cls := "java/lang/Object", name := "getClass", desc := "()Ljava/lang/Class;" } : Jvm.MethodName)) ∈ lw_all := lw_g (lw_at lw_m3 232 rfl) rfl
theorem q813 : (Jvm.Cond.selects "SkipSchool$Refused" ({ cls := "java/lang/Throwable", name := "getLocalizedMessage", desc := "()Ljava/lang/String;" } : Jvm.MethodName) ({ cls := "java/lang/Throwable", name := "getLocalizedMessage", desc := "()Ljava/lang/String;" } : Jvm.MethodName)) ∈ lw_all := lw_g (lw_at lw_m4 23 rfl) rfl
theorem q826 : (Jvm.Cond.selects "SkipSchool$Refused" ({ cls := "java/lang/Throwable", name := "getMessage", desc := "()Ljava/lang/String;" } : Jvm.MethodName) ({ cls := "java/lang/Throwable", name := "getMessage", desc := "()Ljava/lang/String;" } : Jvm.MethodName)) ∈ lw_all := lw_g (lw_at lw_m4 36 rfl) rfl
theorem q1236 : (Jvm.Cond.static ({ cls := "SkipSchool$Refused", name := "check", desc := "(ZII)V" } : Jvm.MethodName)) ∈ lw_all := lw_g (lw_at lw_m5 206 rfl) rfl
theorem q1237 : (Jvm.Cond.code ({ cls := "SkipSchool$Refused", name := "check", desc := "(ZII)V" } : Jvm.MethodName) prog_4_method_2_code (3 : Nat) (Option.none : Option Jvm.ClassFile.FieldType)) ∈ lw_all := lw_g (lw_at lw_m5 207 rfl) rfl
theorem q1238 : (Jvm.Cond.classLink "SkipSchool$Refused" (8 : Nat) "SkipSchool$Refused") ∈ lw_all := lw_g (lw_at lw_m5 208 rfl) rfl
theorem q1239 : (Jvm.Cond.instantiable "SkipSchool$Refused" (8 : Nat)) ∈ lw_all := lw_g (lw_at lw_m5 209 rfl) rfl
theorem q1240 : (Jvm.Cond.castable "SkipSchool$Refused" "SkipSchool$Refused") ∈ lw_tbl := lw_at lw_m5 210 rfl
theorem q1241 : (Jvm.Cond.selects "SkipSchool$Refused" ({ cls := "java/lang/Throwable", name := "fillInStackTrace", desc := "(I)Ljava/lang/Throwable;" } : Jvm.MethodName) ({ cls := "java/lang/Throwable", name := "fillInStackTrace", desc := "(I)Ljava/lang/Throwable;" } : Jvm.MethodName)) ∈ lw_all := lw_g (lw_at lw_m5 211 rfl) rfl
theorem q1242 : (Jvm.Cond.lays "SkipSchool$Refused" "java/lang/Throwable" "cause" "Ljava/lang/Throwable;") ∈ lw_all := lw_g (lw_at lw_m5 212 rfl) rfl
theorem q1243 : (Jvm.Cond.lays "SkipSchool$Refused" "java/lang/Throwable" "stackTrace" "[Ljava/lang/StackTraceElement;") ∈ lw_all := lw_g (lw_at lw_m5 213 rfl) rfl
theorem q1244 : (Jvm.Cond.lays "SkipSchool$Refused" "java/lang/Throwable" "suppressedExceptions" "Ljava/util/List;") ∈ lw_all := lw_g (lw_at lw_m5 214 rfl) rfl
theorem q1245 : (Jvm.Cond.lays "SkipSchool$Refused" "java/lang/Throwable" "detailMessage" "Ljava/lang/String;") ∈ lw_all := lw_g (lw_at lw_m5 215 rfl) rfl
theorem q1246 : (Jvm.Cond.lays "SkipSchool$Refused" "java/lang/Throwable" "backtrace" "Ljava/lang/Object;") ∈ lw_all := lw_g (lw_at lw_m5 216 rfl) rfl
theorem q1247 : (Jvm.Cond.methodLink "SkipSchool$Refused" (16 : Nat) ({ cls := "SkipSchool$Refused", name := "<init>", desc := "(II)V" } : Jvm.MethodName)) ∈ lw_all := lw_g (lw_at lw_m5 217 rfl) rfl
theorem q1248 : (Jvm.Cond.instanceMethod ({ cls := "SkipSchool$Refused", name := "<init>", desc := "(II)V" } : Jvm.MethodName)) ∈ lw_all := lw_g (lw_at lw_m5 218 rfl) rfl
theorem q1249 : (Jvm.Cond.code ({ cls := "SkipSchool$Refused", name := "<init>", desc := "(II)V" } : Jvm.MethodName) prog_4_method_1_code (3 : Nat) (Option.none : Option Jvm.ClassFile.FieldType)) ∈ lw_all := lw_g (lw_at lw_m5 219 rfl) rfl
theorem q1250 : (Jvm.Cond.methodLink "SkipSchool$Refused" (1 : Nat) ({ cls := "java/lang/Exception", name := "<init>", desc := "(Ljava/lang/String;Ljava/lang/Throwable;ZZ)V" } : Jvm.MethodName)) ∈ lw_all := lw_g (lw_at lw_m5 220 rfl) rfl
theorem q1256 : (Jvm.Cond.fieldLink "SkipSchool$Refused" (7 : Nat) "SkipSchool$Refused" "reason" "I") ∈ lw_all := lw_g (lw_at lw_m5 226 rfl) rfl
theorem q1258 : (Jvm.Cond.fieldLink "SkipSchool$Refused" (13 : Nat) "SkipSchool$Refused" "detail" "I") ∈ lw_all := lw_g (lw_at lw_m5 228 rfl) rfl
theorem q1260 : (Jvm.Cond.laysFinal "SkipSchool$Refused" "SkipSchool$Refused" "reason" "I") ∈ lw_all := lw_g (lw_at lw_m5 230 rfl) rfl
theorem q1261 : (Jvm.Cond.soleField "SkipSchool$Refused" "reason") ∈ lw_all := lw_g (lw_at lw_m5 231 rfl) rfl
theorem q1262 : (Jvm.Cond.laysFinal "SkipSchool$Refused" "SkipSchool$Refused" "detail" "I") ∈ lw_all := lw_g (lw_at lw_m5 232 rfl) rfl
theorem q1263 : (Jvm.Cond.soleField "SkipSchool$Refused" "detail") ∈ lw_all := lw_g (lw_at lw_m5 233 rfl) rfl
theorem q1264 : (Jvm.Cond.lays "SkipSchool$Refused" "java/lang/Throwable" "depth" "I") ∈ lw_all := lw_g (lw_at lw_m5 234 rfl) rfl
theorem q1265 : (Jvm.Cond.superclass "SkipSchool$Refused" "java/lang/Exception") ∈ lw_all := lw_g (lw_at lw_m5 235 rfl) rfl
theorem q2752 : (Jvm.Cond.castable "SkipSchool$Refused" "java/lang/Object") ∈ lw_tbl := lw_at lw_m12 42 rfl
theorem in_X7 : ∀ w ∈ wsX70, w ∈ lw_all := lw_in wsX70 [1242, 1243, 1244, 1245, 1246, 1264, 1260, 1262] (by decide +kernel) (by decide +kernel)

/-! SkipSchool$Throw -/
set_option maxRecDepth 100000
def RX8 : String := "SkipSchool$Throw"
def TX8 : u_T := fun k => match k with
  | 0 => ("SkipSchool$Throw", "strength", "I", true)
  | _ => ("SkipSchool$Throw", "drag", "I", true)
def tyX8 : Nat → FieldType := fun k => match k with
  | 0 => .int
  | _ => .int
abbrev wsX80 : List Cond := u_ws RX8 TX8 2
theorem nmX8 : ∀ a, a < 2 → ∀ b, b < 2 → a ≠ b → (TX8 a).2.1 ≠ (TX8 b).2.1 := by decide +kernel
theorem tyX8_ok : ∀ k, k < 2 → parseFieldDescriptor (TX8 k).2.2.1 = some (tyX8 k) := by decide +kernel
abbrev cX8_init : ByteArray := prog_9_method_1_code
def yX8_init : MethodName := ⟨RX8, "<init>", "(II)V"⟩
def dkwX8_init_0 : List UInt8 := [42, 183, 0, 3, 42, 27, 181, 0, 9, 42, 28, 181, 0, 15, 177]
abbrev dktX8_init_0 : List UInt8 := dkwX8_init_0 ++ []
theorem dksX8_init_0 : cX8_init.data.toList.drop 0 = dktX8_init_0 := by decide +kernel
theorem dX8_init_0 : decode cX8_init 0 = .ok (.aload_n 0, 1) := dk_42 (dk_at dksX8_init_0 0 rfl rfl)
theorem dX8_init_1 : decode cX8_init 1 = .ok (.invokespecial 3, 3) := dk_183 0 3 (dk_at dksX8_init_0 1 rfl rfl)
theorem dX8_init_4 : decode cX8_init 4 = .ok (.aload_n 0, 1) := dk_42 (dk_at dksX8_init_0 4 rfl rfl)
theorem dX8_init_5 : decode cX8_init 5 = .ok (.iload_n 1, 1) := dk_27 (dk_at dksX8_init_0 5 rfl rfl)
theorem dX8_init_6 : decode cX8_init 6 = .ok (.putfield 9, 3) := dk_181 0 9 (dk_at dksX8_init_0 6 rfl rfl)
theorem dX8_init_9 : decode cX8_init 9 = .ok (.aload_n 0, 1) := dk_42 (dk_at dksX8_init_0 9 rfl rfl)
theorem dX8_init_10 : decode cX8_init 10 = .ok (.iload_n 2, 1) := dk_28 (dk_at dksX8_init_0 10 rfl rfl)
theorem dX8_init_11 : decode cX8_init 11 = .ok (.putfield 15, 3) := dk_181 0 15 (dk_at dksX8_init_0 11 rfl rfl)
theorem dX8_init_14 : decode cX8_init 14 = .ok (.return_, 1) := dk_177 (dk_at dksX8_init_0 14 rfl rfl)
abbrev cX8_skips : ByteArray := prog_9_method_2_code
def yX8_skips : MethodName := ⟨RX8, "skips", "()I"⟩
def dkwX8_skips_1 : List UInt8 := [27, 172]
abbrev dktX8_skips_1 : List UInt8 := dkwX8_skips_1 ++ []
def dkwX8_skips_0 : List UInt8 := [3, 60, 42, 180, 0, 9, 61, 28, 158, 0, 16, 132, 1, 1, 28, 42, 180, 0, 15, 100, 61, 167, 255, 242]
abbrev dktX8_skips_0 : List UInt8 := dkwX8_skips_0 ++ dktX8_skips_1
theorem dksX8_skips_0 : cX8_skips.data.toList.drop 0 = dktX8_skips_0 := by decide +kernel
theorem dksX8_skips_1 : cX8_skips.data.toList.drop 24 = dktX8_skips_1 := dk_seg dksX8_skips_0 24 rfl rfl
theorem dX8_skips_0 : decode cX8_skips 0 = .ok (.iconst 0, 1) := dk_3 (dk_at dksX8_skips_0 0 rfl rfl)
theorem dX8_skips_1 : decode cX8_skips 1 = .ok (.istore_n 1, 1) := dk_60 (dk_at dksX8_skips_0 1 rfl rfl)
theorem dX8_skips_2 : decode cX8_skips 2 = .ok (.aload_n 0, 1) := dk_42 (dk_at dksX8_skips_0 2 rfl rfl)
theorem dX8_skips_3 : decode cX8_skips 3 = .ok (.getfield 9, 3) := dk_180 0 9 (dk_at dksX8_skips_0 3 rfl rfl)
theorem dX8_skips_6 : decode cX8_skips 6 = .ok (.istore_n 2, 1) := dk_61 (dk_at dksX8_skips_0 6 rfl rfl)
theorem dX8_skips_7 : decode cX8_skips 7 = .ok (.iload_n 2, 1) := dk_28 (dk_at dksX8_skips_0 7 rfl rfl)
theorem dX8_skips_8 : decode cX8_skips 8 = .ok (.ifCond .le 16, 3) := dk_158 0 16 (dk_at dksX8_skips_0 8 rfl rfl)
theorem dX8_skips_11 : decode cX8_skips 11 = .ok (.iinc 1 1, 3) := dk_132 1 1 (dk_at dksX8_skips_0 11 rfl rfl)
theorem dX8_skips_14 : decode cX8_skips 14 = .ok (.iload_n 2, 1) := dk_28 (dk_at dksX8_skips_0 14 rfl rfl)
theorem dX8_skips_15 : decode cX8_skips 15 = .ok (.aload_n 0, 1) := dk_42 (dk_at dksX8_skips_0 15 rfl rfl)
theorem dX8_skips_16 : decode cX8_skips 16 = .ok (.getfield 15, 3) := dk_180 0 15 (dk_at dksX8_skips_0 16 rfl rfl)
theorem dX8_skips_19 : decode cX8_skips 19 = .ok (.isub, 1) := dk_100 (dk_at dksX8_skips_0 19 rfl rfl)
theorem dX8_skips_20 : decode cX8_skips 20 = .ok (.istore_n 2, 1) := dk_61 (dk_at dksX8_skips_0 20 rfl rfl)
theorem dX8_skips_21 : decode cX8_skips 21 = .ok (.goto (-14), 3) := dk_167 255 242 (dk_at dksX8_skips_0 21 rfl rfl)
theorem dX8_skips_24 : decode cX8_skips 24 = .ok (.iload_n 1, 1) := dk_27 (dk_at dksX8_skips_1 0 rfl rfl)
theorem dX8_skips_25 : decode cX8_skips 25 = .ok (.ireturn, 1) := dk_172 (dk_at dksX8_skips_1 1 rfl rfl)
abbrev cX8_way : ByteArray := prog_9_method_4_code
def yX8_way : MethodName := ⟨RX8, "way", "()I"⟩
def dkwX8_way_1 : List UInt8 := [100, 61, 167, 255, 237, 27, 172]
abbrev dktX8_way_1 : List UInt8 := dkwX8_way_1 ++ []
def dkwX8_way_0 : List UInt8 := [3, 60, 42, 180, 0, 9, 61, 28, 158, 0, 21, 27, 4, 28, 8, 108, 96, 96, 60, 28, 42, 180, 0, 15]
abbrev dktX8_way_0 : List UInt8 := dkwX8_way_0 ++ dktX8_way_1
theorem dksX8_way_0 : cX8_way.data.toList.drop 0 = dktX8_way_0 := by decide +kernel
theorem dksX8_way_1 : cX8_way.data.toList.drop 24 = dktX8_way_1 := dk_seg dksX8_way_0 24 rfl rfl
theorem dX8_way_0 : decode cX8_way 0 = .ok (.iconst 0, 1) := dk_3 (dk_at dksX8_way_0 0 rfl rfl)
theorem dX8_way_1 : decode cX8_way 1 = .ok (.istore_n 1, 1) := dk_60 (dk_at dksX8_way_0 1 rfl rfl)
theorem dX8_way_2 : decode cX8_way 2 = .ok (.aload_n 0, 1) := dk_42 (dk_at dksX8_way_0 2 rfl rfl)
theorem dX8_way_3 : decode cX8_way 3 = .ok (.getfield 9, 3) := dk_180 0 9 (dk_at dksX8_way_0 3 rfl rfl)
theorem dX8_way_6 : decode cX8_way 6 = .ok (.istore_n 2, 1) := dk_61 (dk_at dksX8_way_0 6 rfl rfl)
theorem dX8_way_7 : decode cX8_way 7 = .ok (.iload_n 2, 1) := dk_28 (dk_at dksX8_way_0 7 rfl rfl)
theorem dX8_way_8 : decode cX8_way 8 = .ok (.ifCond .le 21, 3) := dk_158 0 21 (dk_at dksX8_way_0 8 rfl rfl)
theorem dX8_way_11 : decode cX8_way 11 = .ok (.iload_n 1, 1) := dk_27 (dk_at dksX8_way_0 11 rfl rfl)
theorem dX8_way_12 : decode cX8_way 12 = .ok (.iconst 1, 1) := dk_4 (dk_at dksX8_way_0 12 rfl rfl)
theorem dX8_way_13 : decode cX8_way 13 = .ok (.iload_n 2, 1) := dk_28 (dk_at dksX8_way_0 13 rfl rfl)
theorem dX8_way_14 : decode cX8_way 14 = .ok (.iconst 5, 1) := dk_8 (dk_at dksX8_way_0 14 rfl rfl)
theorem dX8_way_15 : decode cX8_way 15 = .ok (.idiv, 1) := dk_108 (dk_at dksX8_way_0 15 rfl rfl)
theorem dX8_way_16 : decode cX8_way 16 = .ok (.iadd, 1) := dk_96 (dk_at dksX8_way_0 16 rfl rfl)
theorem dX8_way_17 : decode cX8_way 17 = .ok (.iadd, 1) := dk_96 (dk_at dksX8_way_0 17 rfl rfl)
theorem dX8_way_18 : decode cX8_way 18 = .ok (.istore_n 1, 1) := dk_60 (dk_at dksX8_way_0 18 rfl rfl)
theorem dX8_way_19 : decode cX8_way 19 = .ok (.iload_n 2, 1) := dk_28 (dk_at dksX8_way_0 19 rfl rfl)
theorem dX8_way_20 : decode cX8_way 20 = .ok (.aload_n 0, 1) := dk_42 (dk_at dksX8_way_0 20 rfl rfl)
theorem dX8_way_21 : decode cX8_way 21 = .ok (.getfield 15, 3) := dk_180 0 15 (dk_at dksX8_way_0 21 rfl rfl)
theorem dX8_way_24 : decode cX8_way 24 = .ok (.isub, 1) := dk_100 (dk_at dksX8_way_1 0 rfl rfl)
theorem dX8_way_25 : decode cX8_way 25 = .ok (.istore_n 2, 1) := dk_61 (dk_at dksX8_way_1 1 rfl rfl)
theorem dX8_way_26 : decode cX8_way 26 = .ok (.goto (-19), 3) := dk_167 255 237 (dk_at dksX8_way_1 2 rfl rfl)
theorem dX8_way_29 : decode cX8_way 29 = .ok (.iload_n 1, 1) := dk_27 (dk_at dksX8_way_1 5 rfl rfl)
theorem dX8_way_30 : decode cX8_way 30 = .ok (.ireturn, 1) := dk_172 (dk_at dksX8_way_1 6 rfl rfl)
abbrev cX8_isTwice : ByteArray := prog_9_method_6_code
def yX8_isTwice : MethodName := ⟨RX8, "isTwice", "()Z"⟩
def dkwX8_isTwice_1 : List UInt8 := [167, 0, 4, 3, 172]
abbrev dktX8_isTwice_1 : List UInt8 := dkwX8_isTwice_1 ++ []
def dkwX8_isTwice_0 : List UInt8 := [42, 182, 0, 22, 42, 182, 0, 18, 160, 0, 18, 42, 182, 0, 25, 42, 182, 0, 28, 160, 0, 7, 4]
abbrev dktX8_isTwice_0 : List UInt8 := dkwX8_isTwice_0 ++ dktX8_isTwice_1
theorem dksX8_isTwice_0 : cX8_isTwice.data.toList.drop 0 = dktX8_isTwice_0 := by decide +kernel
theorem dksX8_isTwice_1 : cX8_isTwice.data.toList.drop 23 = dktX8_isTwice_1 := dk_seg dksX8_isTwice_0 23 rfl rfl
theorem dX8_isTwice_0 : decode cX8_isTwice 0 = .ok (.aload_n 0, 1) := dk_42 (dk_at dksX8_isTwice_0 0 rfl rfl)
theorem dX8_isTwice_1 : decode cX8_isTwice 1 = .ok (.invokevirtual 22, 3) := dk_182 0 22 (dk_at dksX8_isTwice_0 1 rfl rfl)
theorem dX8_isTwice_4 : decode cX8_isTwice 4 = .ok (.aload_n 0, 1) := dk_42 (dk_at dksX8_isTwice_0 4 rfl rfl)
theorem dX8_isTwice_5 : decode cX8_isTwice 5 = .ok (.invokevirtual 18, 3) := dk_182 0 18 (dk_at dksX8_isTwice_0 5 rfl rfl)
theorem dX8_isTwice_8 : decode cX8_isTwice 8 = .ok (.if_icmp .ne 18, 3) := dk_160 0 18 (dk_at dksX8_isTwice_0 8 rfl rfl)
theorem dX8_isTwice_11 : decode cX8_isTwice 11 = .ok (.aload_n 0, 1) := dk_42 (dk_at dksX8_isTwice_0 11 rfl rfl)
theorem dX8_isTwice_12 : decode cX8_isTwice 12 = .ok (.invokevirtual 25, 3) := dk_182 0 25 (dk_at dksX8_isTwice_0 12 rfl rfl)
theorem dX8_isTwice_15 : decode cX8_isTwice 15 = .ok (.aload_n 0, 1) := dk_42 (dk_at dksX8_isTwice_0 15 rfl rfl)
theorem dX8_isTwice_16 : decode cX8_isTwice 16 = .ok (.invokevirtual 28, 3) := dk_182 0 28 (dk_at dksX8_isTwice_0 16 rfl rfl)
theorem dX8_isTwice_19 : decode cX8_isTwice 19 = .ok (.if_icmp .ne 7, 3) := dk_160 0 7 (dk_at dksX8_isTwice_0 19 rfl rfl)
theorem dX8_isTwice_22 : decode cX8_isTwice 22 = .ok (.iconst 1, 1) := dk_4 (dk_at dksX8_isTwice_0 22 rfl rfl)
theorem dX8_isTwice_23 : decode cX8_isTwice 23 = .ok (.goto 4, 3) := dk_167 0 4 (dk_at dksX8_isTwice_1 0 rfl rfl)
theorem dX8_isTwice_26 : decode cX8_isTwice 26 = .ok (.iconst 0, 1) := dk_3 (dk_at dksX8_isTwice_1 3 rfl rfl)
theorem dX8_isTwice_27 : decode cX8_isTwice 27 = .ok (.ireturn, 1) := dk_172 (dk_at dksX8_isTwice_1 4 rfl rfl)
abbrev cX8_skipsAgain : ByteArray := prog_9_method_3_code
def yX8_skipsAgain : MethodName := ⟨RX8, "skipsAgain", "()I"⟩
def dkwX8_skipsAgain_1 : List UInt8 := [180, 0, 15, 108, 172]
abbrev dktX8_skipsAgain_1 : List UInt8 := dkwX8_skipsAgain_1 ++ []
def dkwX8_skipsAgain_0 : List UInt8 := [42, 180, 0, 9, 157, 0, 7, 3, 167, 0, 19, 42, 180, 0, 9, 42, 180, 0, 15, 96, 4, 100, 42]
abbrev dktX8_skipsAgain_0 : List UInt8 := dkwX8_skipsAgain_0 ++ dktX8_skipsAgain_1
theorem dksX8_skipsAgain_0 : cX8_skipsAgain.data.toList.drop 0 = dktX8_skipsAgain_0 := by decide +kernel
theorem dksX8_skipsAgain_1 : cX8_skipsAgain.data.toList.drop 23 = dktX8_skipsAgain_1 := dk_seg dksX8_skipsAgain_0 23 rfl rfl
theorem dX8_skipsAgain_0 : decode cX8_skipsAgain 0 = .ok (.aload_n 0, 1) := dk_42 (dk_at dksX8_skipsAgain_0 0 rfl rfl)
theorem dX8_skipsAgain_1 : decode cX8_skipsAgain 1 = .ok (.getfield 9, 3) := dk_180 0 9 (dk_at dksX8_skipsAgain_0 1 rfl rfl)
theorem dX8_skipsAgain_4 : decode cX8_skipsAgain 4 = .ok (.ifCond .gt 7, 3) := dk_157 0 7 (dk_at dksX8_skipsAgain_0 4 rfl rfl)
theorem dX8_skipsAgain_7 : decode cX8_skipsAgain 7 = .ok (.iconst 0, 1) := dk_3 (dk_at dksX8_skipsAgain_0 7 rfl rfl)
theorem dX8_skipsAgain_8 : decode cX8_skipsAgain 8 = .ok (.goto 19, 3) := dk_167 0 19 (dk_at dksX8_skipsAgain_0 8 rfl rfl)
theorem dX8_skipsAgain_11 : decode cX8_skipsAgain 11 = .ok (.aload_n 0, 1) := dk_42 (dk_at dksX8_skipsAgain_0 11 rfl rfl)
theorem dX8_skipsAgain_12 : decode cX8_skipsAgain 12 = .ok (.getfield 9, 3) := dk_180 0 9 (dk_at dksX8_skipsAgain_0 12 rfl rfl)
theorem dX8_skipsAgain_15 : decode cX8_skipsAgain 15 = .ok (.aload_n 0, 1) := dk_42 (dk_at dksX8_skipsAgain_0 15 rfl rfl)
theorem dX8_skipsAgain_16 : decode cX8_skipsAgain 16 = .ok (.getfield 15, 3) := dk_180 0 15 (dk_at dksX8_skipsAgain_0 16 rfl rfl)
theorem dX8_skipsAgain_19 : decode cX8_skipsAgain 19 = .ok (.iadd, 1) := dk_96 (dk_at dksX8_skipsAgain_0 19 rfl rfl)
theorem dX8_skipsAgain_20 : decode cX8_skipsAgain 20 = .ok (.iconst 1, 1) := dk_4 (dk_at dksX8_skipsAgain_0 20 rfl rfl)
theorem dX8_skipsAgain_21 : decode cX8_skipsAgain 21 = .ok (.isub, 1) := dk_100 (dk_at dksX8_skipsAgain_0 21 rfl rfl)
theorem dX8_skipsAgain_22 : decode cX8_skipsAgain 22 = .ok (.aload_n 0, 1) := dk_42 (dk_at dksX8_skipsAgain_0 22 rfl rfl)
theorem dX8_skipsAgain_23 : decode cX8_skipsAgain 23 = .ok (.getfield 15, 3) := dk_180 0 15 (dk_at dksX8_skipsAgain_1 0 rfl rfl)
theorem dX8_skipsAgain_26 : decode cX8_skipsAgain 26 = .ok (.idiv, 1) := dk_108 (dk_at dksX8_skipsAgain_1 3 rfl rfl)
theorem dX8_skipsAgain_27 : decode cX8_skipsAgain 27 = .ok (.ireturn, 1) := dk_172 (dk_at dksX8_skipsAgain_1 4 rfl rfl)
abbrev cX8_wayAgain : ByteArray := prog_9_method_5_code
def yX8_wayAgain : MethodName := ⟨RX8, "wayAgain", "()I"⟩
def dkwX8_wayAgain_1 : List UInt8 := [180, 0, 15, 108, 4, 96, 96, 60, 132, 2, 5, 167, 255, 229, 27, 172]
abbrev dktX8_wayAgain_1 : List UInt8 := dkwX8_wayAgain_1 ++ []
def dkwX8_wayAgain_0 : List UInt8 := [42, 182, 0, 18, 60, 8, 61, 28, 42, 180, 0, 9, 163, 0, 25, 27, 42, 180, 0, 9, 28, 100, 42]
abbrev dktX8_wayAgain_0 : List UInt8 := dkwX8_wayAgain_0 ++ dktX8_wayAgain_1
theorem dksX8_wayAgain_0 : cX8_wayAgain.data.toList.drop 0 = dktX8_wayAgain_0 := by decide +kernel
theorem dksX8_wayAgain_1 : cX8_wayAgain.data.toList.drop 23 = dktX8_wayAgain_1 := dk_seg dksX8_wayAgain_0 23 rfl rfl
theorem dX8_wayAgain_0 : decode cX8_wayAgain 0 = .ok (.aload_n 0, 1) := dk_42 (dk_at dksX8_wayAgain_0 0 rfl rfl)
theorem dX8_wayAgain_1 : decode cX8_wayAgain 1 = .ok (.invokevirtual 18, 3) := dk_182 0 18 (dk_at dksX8_wayAgain_0 1 rfl rfl)
theorem dX8_wayAgain_4 : decode cX8_wayAgain 4 = .ok (.istore_n 1, 1) := dk_60 (dk_at dksX8_wayAgain_0 4 rfl rfl)
theorem dX8_wayAgain_5 : decode cX8_wayAgain 5 = .ok (.iconst 5, 1) := dk_8 (dk_at dksX8_wayAgain_0 5 rfl rfl)
theorem dX8_wayAgain_6 : decode cX8_wayAgain 6 = .ok (.istore_n 2, 1) := dk_61 (dk_at dksX8_wayAgain_0 6 rfl rfl)
theorem dX8_wayAgain_7 : decode cX8_wayAgain 7 = .ok (.iload_n 2, 1) := dk_28 (dk_at dksX8_wayAgain_0 7 rfl rfl)
theorem dX8_wayAgain_8 : decode cX8_wayAgain 8 = .ok (.aload_n 0, 1) := dk_42 (dk_at dksX8_wayAgain_0 8 rfl rfl)
theorem dX8_wayAgain_9 : decode cX8_wayAgain 9 = .ok (.getfield 9, 3) := dk_180 0 9 (dk_at dksX8_wayAgain_0 9 rfl rfl)
theorem dX8_wayAgain_12 : decode cX8_wayAgain 12 = .ok (.if_icmp .gt 25, 3) := dk_163 0 25 (dk_at dksX8_wayAgain_0 12 rfl rfl)
theorem dX8_wayAgain_15 : decode cX8_wayAgain 15 = .ok (.iload_n 1, 1) := dk_27 (dk_at dksX8_wayAgain_0 15 rfl rfl)
theorem dX8_wayAgain_16 : decode cX8_wayAgain 16 = .ok (.aload_n 0, 1) := dk_42 (dk_at dksX8_wayAgain_0 16 rfl rfl)
theorem dX8_wayAgain_17 : decode cX8_wayAgain 17 = .ok (.getfield 9, 3) := dk_180 0 9 (dk_at dksX8_wayAgain_0 17 rfl rfl)
theorem dX8_wayAgain_20 : decode cX8_wayAgain 20 = .ok (.iload_n 2, 1) := dk_28 (dk_at dksX8_wayAgain_0 20 rfl rfl)
theorem dX8_wayAgain_21 : decode cX8_wayAgain 21 = .ok (.isub, 1) := dk_100 (dk_at dksX8_wayAgain_0 21 rfl rfl)
theorem dX8_wayAgain_22 : decode cX8_wayAgain 22 = .ok (.aload_n 0, 1) := dk_42 (dk_at dksX8_wayAgain_0 22 rfl rfl)
theorem dX8_wayAgain_23 : decode cX8_wayAgain 23 = .ok (.getfield 15, 3) := dk_180 0 15 (dk_at dksX8_wayAgain_1 0 rfl rfl)
theorem dX8_wayAgain_26 : decode cX8_wayAgain 26 = .ok (.idiv, 1) := dk_108 (dk_at dksX8_wayAgain_1 3 rfl rfl)
theorem dX8_wayAgain_27 : decode cX8_wayAgain 27 = .ok (.iconst 1, 1) := dk_4 (dk_at dksX8_wayAgain_1 4 rfl rfl)
theorem dX8_wayAgain_28 : decode cX8_wayAgain 28 = .ok (.iadd, 1) := dk_96 (dk_at dksX8_wayAgain_1 5 rfl rfl)
theorem dX8_wayAgain_29 : decode cX8_wayAgain 29 = .ok (.iadd, 1) := dk_96 (dk_at dksX8_wayAgain_1 6 rfl rfl)
theorem dX8_wayAgain_30 : decode cX8_wayAgain 30 = .ok (.istore_n 1, 1) := dk_60 (dk_at dksX8_wayAgain_1 7 rfl rfl)
theorem dX8_wayAgain_31 : decode cX8_wayAgain 31 = .ok (.iinc 2 5, 3) := dk_132 2 5 (dk_at dksX8_wayAgain_1 8 rfl rfl)
theorem dX8_wayAgain_34 : decode cX8_wayAgain 34 = .ok (.goto (-27), 3) := dk_167 255 229 (dk_at dksX8_wayAgain_1 11 rfl rfl)
theorem dX8_wayAgain_37 : decode cX8_wayAgain 37 = .ok (.iload_n 1, 1) := dk_27 (dk_at dksX8_wayAgain_1 14 rfl rfl)
theorem dX8_wayAgain_38 : decode cX8_wayAgain 38 = .ok (.ireturn, 1) := dk_172 (dk_at dksX8_wayAgain_1 15 rfl rfl)
theorem q107 : (Jvm.Cond.initialized "SkipSchool$Throw") ∈ lw_all := lw_g (lw_at lw_m1 37 rfl) rfl
theorem q787 : (Jvm.Cond.selects "SkipSchool$Throw" ({ cls := "java/lang/Object", name := "getClass", desc := "()Ljava/lang/Class;" } : Jvm.MethodName) ({ cls := "java/lang/Object", name := "getClass", desc := "()Ljava/lang/Class;" } : Jvm.MethodName)) ∈ lw_all := lw_g (lw_at lw_m3 237 rfl) rfl
theorem q1394 : (Jvm.Cond.instantiable "SkipSchool$Throw" (2 : Nat)) ∈ lw_all := lw_g (lw_at lw_m6 124 rfl) rfl
theorem q1403 : (Jvm.Cond.instanceMethod ({ cls := "SkipSchool$Throw", name := "<init>", desc := "(II)V" } : Jvm.MethodName)) ∈ lw_all := lw_g (lw_at lw_m6 133 rfl) rfl
theorem q1404 : (Jvm.Cond.code ({ cls := "SkipSchool$Throw", name := "<init>", desc := "(II)V" } : Jvm.MethodName) prog_9_method_1_code (3 : Nat) (Option.none : Option Jvm.ClassFile.FieldType)) ∈ lw_all := lw_g (lw_at lw_m6 134 rfl) rfl
theorem q1405 : (Jvm.Cond.methodLink "SkipSchool$Throw" (3 : Nat) ({ cls := "java/lang/Object", name := "<init>", desc := "()V" } : Jvm.MethodName)) ∈ lw_all := lw_g (lw_at lw_m6 135 rfl) rfl
theorem q1406 : (Jvm.Cond.fieldLink "SkipSchool$Throw" (9 : Nat) "SkipSchool$Throw" "strength" "I") ∈ lw_all := lw_g (lw_at lw_m6 136 rfl) rfl
theorem q1407 : (Jvm.Cond.fieldLink "SkipSchool$Throw" (15 : Nat) "SkipSchool$Throw" "drag" "I") ∈ lw_all := lw_g (lw_at lw_m6 137 rfl) rfl
theorem q1408 : (Jvm.Cond.laysFinal "SkipSchool$Throw" "SkipSchool$Throw" "strength" "I") ∈ lw_all := lw_g (lw_at lw_m6 138 rfl) rfl
theorem q1409 : (Jvm.Cond.soleField "SkipSchool$Throw" "strength") ∈ lw_all := lw_g (lw_at lw_m6 139 rfl) rfl
theorem q1410 : (Jvm.Cond.laysFinal "SkipSchool$Throw" "SkipSchool$Throw" "drag" "I") ∈ lw_all := lw_g (lw_at lw_m6 140 rfl) rfl
theorem q1411 : (Jvm.Cond.soleField "SkipSchool$Throw" "drag") ∈ lw_all := lw_g (lw_at lw_m6 141 rfl) rfl
theorem q1412 : (Jvm.Cond.superclass "SkipSchool$Throw" "java/lang/Object") ∈ lw_all := lw_g (lw_at lw_m6 142 rfl) rfl
theorem q1414 : (Jvm.Cond.instanceMethod ({ cls := "SkipSchool$Throw", name := "skips", desc := "()I" } : Jvm.MethodName)) ∈ lw_all := lw_g (lw_at lw_m6 144 rfl) rfl
theorem q1415 : (Jvm.Cond.selects "SkipSchool$Throw" ({ cls := "SkipSchool$Throw", name := "skips", desc := "()I" } : Jvm.MethodName) ({ cls := "SkipSchool$Throw", name := "skips", desc := "()I" } : Jvm.MethodName)) ∈ lw_all := lw_g (lw_at lw_m6 145 rfl) rfl
theorem q1416 : (Jvm.Cond.code ({ cls := "SkipSchool$Throw", name := "skips", desc := "()I" } : Jvm.MethodName) prog_9_method_2_code (3 : Nat) (Option.some Jvm.ClassFile.FieldType.int)) ∈ lw_all := lw_g (lw_at lw_m6 146 rfl) rfl
theorem q1426 : (Jvm.Cond.instanceMethod ({ cls := "SkipSchool$Throw", name := "way", desc := "()I" } : Jvm.MethodName)) ∈ lw_all := lw_g (lw_at lw_m6 156 rfl) rfl
theorem q1427 : (Jvm.Cond.selects "SkipSchool$Throw" ({ cls := "SkipSchool$Throw", name := "way", desc := "()I" } : Jvm.MethodName) ({ cls := "SkipSchool$Throw", name := "way", desc := "()I" } : Jvm.MethodName)) ∈ lw_all := lw_g (lw_at lw_m6 157 rfl) rfl
theorem q1428 : (Jvm.Cond.code ({ cls := "SkipSchool$Throw", name := "way", desc := "()I" } : Jvm.MethodName) prog_9_method_4_code (3 : Nat) (Option.some Jvm.ClassFile.FieldType.int)) ∈ lw_all := lw_g (lw_at lw_m6 158 rfl) rfl
theorem q1588 : (Jvm.Cond.instanceMethod ({ cls := "SkipSchool$Throw", name := "isTwice", desc := "()Z" } : Jvm.MethodName)) ∈ lw_all := lw_g (lw_at lw_m7 78 rfl) rfl
theorem q1589 : (Jvm.Cond.selects "SkipSchool$Throw" ({ cls := "SkipSchool$Throw", name := "isTwice", desc := "()Z" } : Jvm.MethodName) ({ cls := "SkipSchool$Throw", name := "isTwice", desc := "()Z" } : Jvm.MethodName)) ∈ lw_all := lw_g (lw_at lw_m7 79 rfl) rfl
theorem q1590 : (Jvm.Cond.code ({ cls := "SkipSchool$Throw", name := "isTwice", desc := "()Z" } : Jvm.MethodName) prog_9_method_6_code (1 : Nat) (Option.some Jvm.ClassFile.FieldType.boolean)) ∈ lw_all := lw_g (lw_at lw_m7 80 rfl) rfl
theorem q1591 : (Jvm.Cond.methodLink "SkipSchool$Throw" (22 : Nat) ({ cls := "SkipSchool$Throw", name := "skips", desc := "()I" } : Jvm.MethodName)) ∈ lw_all := lw_g (lw_at lw_m7 81 rfl) rfl
theorem q1592 : (Jvm.Cond.methodLink "SkipSchool$Throw" (18 : Nat) ({ cls := "SkipSchool$Throw", name := "skipsAgain", desc := "()I" } : Jvm.MethodName)) ∈ lw_all := lw_g (lw_at lw_m7 82 rfl) rfl
theorem q1593 : (Jvm.Cond.instanceMethod ({ cls := "SkipSchool$Throw", name := "skipsAgain", desc := "()I" } : Jvm.MethodName)) ∈ lw_all := lw_g (lw_at lw_m7 83 rfl) rfl
theorem q1594 : (Jvm.Cond.selects "SkipSchool$Throw" ({ cls := "SkipSchool$Throw", name := "skipsAgain", desc := "()I" } : Jvm.MethodName) ({ cls := "SkipSchool$Throw", name := "skipsAgain", desc := "()I" } : Jvm.MethodName)) ∈ lw_all := lw_g (lw_at lw_m7 84 rfl) rfl
theorem q1595 : (Jvm.Cond.code ({ cls := "SkipSchool$Throw", name := "skipsAgain", desc := "()I" } : Jvm.MethodName) prog_9_method_3_code (1 : Nat) (Option.some Jvm.ClassFile.FieldType.int)) ∈ lw_all := lw_g (lw_at lw_m7 85 rfl) rfl
theorem q1596 : (Jvm.Cond.methodLink "SkipSchool$Throw" (25 : Nat) ({ cls := "SkipSchool$Throw", name := "way", desc := "()I" } : Jvm.MethodName)) ∈ lw_all := lw_g (lw_at lw_m7 86 rfl) rfl
theorem q1597 : (Jvm.Cond.methodLink "SkipSchool$Throw" (28 : Nat) ({ cls := "SkipSchool$Throw", name := "wayAgain", desc := "()I" } : Jvm.MethodName)) ∈ lw_all := lw_g (lw_at lw_m7 87 rfl) rfl
theorem q1598 : (Jvm.Cond.instanceMethod ({ cls := "SkipSchool$Throw", name := "wayAgain", desc := "()I" } : Jvm.MethodName)) ∈ lw_all := lw_g (lw_at lw_m7 88 rfl) rfl
theorem q1599 : (Jvm.Cond.selects "SkipSchool$Throw" ({ cls := "SkipSchool$Throw", name := "wayAgain", desc := "()I" } : Jvm.MethodName) ({ cls := "SkipSchool$Throw", name := "wayAgain", desc := "()I" } : Jvm.MethodName)) ∈ lw_all := lw_g (lw_at lw_m7 89 rfl) rfl
theorem q1600 : (Jvm.Cond.code ({ cls := "SkipSchool$Throw", name := "wayAgain", desc := "()I" } : Jvm.MethodName) prog_9_method_5_code (3 : Nat) (Option.some Jvm.ClassFile.FieldType.int)) ∈ lw_all := lw_g (lw_at lw_m7 90 rfl) rfl
theorem q2753 : (Jvm.Cond.castable "SkipSchool$Throw" "java/lang/Object") ∈ lw_tbl := lw_at lw_m12 43 rfl
theorem in_X8 : ∀ w ∈ wsX80, w ∈ lw_all := lw_in wsX80 [1408, 1410] (by decide +kernel) (by decide +kernel)

/-! SkipSchool$Parser -/
set_option maxRecDepth 100000
def RX9 : String := "SkipSchool$Parser"
def TX9 : u_T := fun k => match k with
  | 0 => ("SkipSchool$Parser", "text", "Ljava/lang/CharSequence;", true)
  | _ => ("SkipSchool$Parser", "position", "I", false)
def tyX9 : Nat → FieldType := fun k => match k with
  | 0 => .object "java/lang/CharSequence"
  | _ => .int
abbrev wsX90 : List Cond := u_ws RX9 TX9 2
theorem nmX9 : ∀ a, a < 2 → ∀ b, b < 2 → a ≠ b → (TX9 a).2.1 ≠ (TX9 b).2.1 := by decide +kernel
theorem tyX9_ok : ∀ k, k < 2 → parseFieldDescriptor (TX9 k).2.2.1 = some (tyX9 k) := by decide +kernel
abbrev cX9_init : ByteArray := prog_3_method_1_code
def yX9_init : MethodName := ⟨RX9, "<init>", "(Ljava/lang/CharSequence;)V"⟩
def dkwX9_init_0 : List UInt8 := [42, 183, 0, 1, 42, 43, 181, 0, 7, 177]
abbrev dktX9_init_0 : List UInt8 := dkwX9_init_0 ++ []
theorem dksX9_init_0 : cX9_init.data.toList.drop 0 = dktX9_init_0 := by decide +kernel
theorem dX9_init_0 : decode cX9_init 0 = .ok (.aload_n 0, 1) := dk_42 (dk_at dksX9_init_0 0 rfl rfl)
theorem dX9_init_1 : decode cX9_init 1 = .ok (.invokespecial 1, 3) := dk_183 0 1 (dk_at dksX9_init_0 1 rfl rfl)
theorem dX9_init_4 : decode cX9_init 4 = .ok (.aload_n 0, 1) := dk_42 (dk_at dksX9_init_0 4 rfl rfl)
theorem dX9_init_5 : decode cX9_init 5 = .ok (.aload_n 1, 1) := dk_43 (dk_at dksX9_init_0 5 rfl rfl)
theorem dX9_init_6 : decode cX9_init 6 = .ok (.putfield 7, 3) := dk_181 0 7 (dk_at dksX9_init_0 6 rfl rfl)
theorem dX9_init_9 : decode cX9_init 9 = .ok (.return_, 1) := dk_177 (dk_at dksX9_init_0 9 rfl rfl)
abbrev cX9_orders : ByteArray := prog_3_method_12_code
def yX9_orders : MethodName := ⟨RX9, "orders", "()Ljava/util/ArrayList;"⟩
def dkwX9_orders_2 : List UInt8 := [182, 0, 115, 182, 0, 119, 61, 167, 255, 222, 43, 176]
abbrev dktX9_orders_2 : List UInt8 := dkwX9_orders_2 ++ []
def dkwX9_orders_1 : List UInt8 := [180, 0, 7, 185, 0, 17, 1, 0, 162, 0, 24, 42, 16, 59, 16, 59, 182, 0, 42, 62, 43, 42]
abbrev dktX9_orders_1 : List UInt8 := dkwX9_orders_1 ++ dktX9_orders_2
def dkwX9_orders_0 : List UInt8 := [187, 0, 112, 89, 183, 0, 114, 76, 43, 42, 182, 0, 115, 182, 0, 119, 61, 42, 180, 0, 13, 42]
abbrev dktX9_orders_0 : List UInt8 := dkwX9_orders_0 ++ dktX9_orders_1
theorem dksX9_orders_0 : cX9_orders.data.toList.drop 0 = dktX9_orders_0 := by decide +kernel
theorem dksX9_orders_1 : cX9_orders.data.toList.drop 22 = dktX9_orders_1 := dk_seg dksX9_orders_0 22 rfl rfl
theorem dksX9_orders_2 : cX9_orders.data.toList.drop 44 = dktX9_orders_2 := dk_seg dksX9_orders_1 22 rfl rfl
theorem dX9_orders_0 : decode cX9_orders 0 = .ok (.new 112, 3) := dk_187 0 112 (dk_at dksX9_orders_0 0 rfl rfl)
theorem dX9_orders_3 : decode cX9_orders 3 = .ok (.dup, 1) := dk_89 (dk_at dksX9_orders_0 3 rfl rfl)
theorem dX9_orders_4 : decode cX9_orders 4 = .ok (.invokespecial 114, 3) := dk_183 0 114 (dk_at dksX9_orders_0 4 rfl rfl)
theorem dX9_orders_7 : decode cX9_orders 7 = .ok (.astore_n 1, 1) := dk_76 (dk_at dksX9_orders_0 7 rfl rfl)
theorem dX9_orders_8 : decode cX9_orders 8 = .ok (.aload_n 1, 1) := dk_43 (dk_at dksX9_orders_0 8 rfl rfl)
theorem dX9_orders_9 : decode cX9_orders 9 = .ok (.aload_n 0, 1) := dk_42 (dk_at dksX9_orders_0 9 rfl rfl)
theorem dX9_orders_10 : decode cX9_orders 10 = .ok (.invokevirtual 115, 3) := dk_182 0 115 (dk_at dksX9_orders_0 10 rfl rfl)
theorem dX9_orders_13 : decode cX9_orders 13 = .ok (.invokevirtual 119, 3) := dk_182 0 119 (dk_at dksX9_orders_0 13 rfl rfl)
theorem dX9_orders_16 : decode cX9_orders 16 = .ok (.istore_n 2, 1) := dk_61 (dk_at dksX9_orders_0 16 rfl rfl)
theorem dX9_orders_17 : decode cX9_orders 17 = .ok (.aload_n 0, 1) := dk_42 (dk_at dksX9_orders_0 17 rfl rfl)
theorem dX9_orders_18 : decode cX9_orders 18 = .ok (.getfield 13, 3) := dk_180 0 13 (dk_at dksX9_orders_0 18 rfl rfl)
theorem dX9_orders_21 : decode cX9_orders 21 = .ok (.aload_n 0, 1) := dk_42 (dk_at dksX9_orders_0 21 rfl rfl)
theorem dX9_orders_22 : decode cX9_orders 22 = .ok (.getfield 7, 3) := dk_180 0 7 (dk_at dksX9_orders_1 0 rfl rfl)
theorem dX9_orders_25 : decode cX9_orders 25 = .ok (.invokeinterface 17 1, 5) := by decide +kernel
theorem dX9_orders_30 : decode cX9_orders 30 = .ok (.if_icmp .ge 24, 3) := dk_162 0 24 (dk_at dksX9_orders_1 8 rfl rfl)
theorem dX9_orders_33 : decode cX9_orders 33 = .ok (.aload_n 0, 1) := dk_42 (dk_at dksX9_orders_1 11 rfl rfl)
theorem dX9_orders_34 : decode cX9_orders 34 = .ok (.bipush 59, 2) := dk_16 59 (dk_at dksX9_orders_1 12 rfl rfl)
theorem dX9_orders_36 : decode cX9_orders 36 = .ok (.bipush 59, 2) := dk_16 59 (dk_at dksX9_orders_1 14 rfl rfl)
theorem dX9_orders_38 : decode cX9_orders 38 = .ok (.invokevirtual 42, 3) := dk_182 0 42 (dk_at dksX9_orders_1 16 rfl rfl)
theorem dX9_orders_41 : decode cX9_orders 41 = .ok (.istore_n 3, 1) := dk_62 (dk_at dksX9_orders_1 19 rfl rfl)
theorem dX9_orders_42 : decode cX9_orders 42 = .ok (.aload_n 1, 1) := dk_43 (dk_at dksX9_orders_1 20 rfl rfl)
theorem dX9_orders_43 : decode cX9_orders 43 = .ok (.aload_n 0, 1) := dk_42 (dk_at dksX9_orders_1 21 rfl rfl)
theorem dX9_orders_44 : decode cX9_orders 44 = .ok (.invokevirtual 115, 3) := dk_182 0 115 (dk_at dksX9_orders_2 0 rfl rfl)
theorem dX9_orders_47 : decode cX9_orders 47 = .ok (.invokevirtual 119, 3) := dk_182 0 119 (dk_at dksX9_orders_2 3 rfl rfl)
theorem dX9_orders_50 : decode cX9_orders 50 = .ok (.istore_n 2, 1) := dk_61 (dk_at dksX9_orders_2 6 rfl rfl)
theorem dX9_orders_51 : decode cX9_orders 51 = .ok (.goto (-34), 3) := dk_167 255 222 (dk_at dksX9_orders_2 7 rfl rfl)
theorem dX9_orders_54 : decode cX9_orders 54 = .ok (.aload_n 1, 1) := dk_43 (dk_at dksX9_orders_2 10 rfl rfl)
theorem dX9_orders_55 : decode cX9_orders 55 = .ok (.areturn, 1) := dk_176 (dk_at dksX9_orders_2 11 rfl rfl)
abbrev cX9_order : ByteArray := prog_3_method_11_code
def yX9_order : MethodName := ⟨RX9, "order", "()LSkipSchool$Order;"⟩
def dkwX9_order_19 : List UInt8 := [183, 0, 74, 176, 187, 0, 72, 89, 43, 4, 188, 10, 89, 3, 42, 182, 0, 46, 79, 183, 0, 74, 176]
abbrev dktX9_order_19 : List UInt8 := dkwX9_order_19 ++ []
def dkwX9_order_18 : List UInt8 := [182, 0, 65, 79, 183, 0, 74, 176, 42, 43, 182, 0, 108, 176, 187, 0, 72, 89, 43, 3, 188, 10]
abbrev dktX9_order_18 : List UInt8 := dkwX9_order_18 ++ dktX9_order_19
def dkwX9_order_17 : List UInt8 := [182, 0, 46, 54, 4, 187, 0, 72, 89, 43, 5, 188, 10, 89, 3, 21, 4, 79, 89, 4, 42, 16, 61]
abbrev dktX9_order_17 : List UInt8 := dkwX9_order_17 ++ dktX9_order_18
def dkwX9_order_16 : List UInt8 := [43, 5, 188, 10, 89, 3, 21, 4, 79, 89, 4, 42, 16, 43, 182, 0, 69, 79, 183, 0, 74, 176, 42]
abbrev dktX9_order_16 : List UInt8 := dkwX9_order_16 ++ dktX9_order_17
def dkwX9_order_15 : List UInt8 := [79, 89, 5, 42, 16, 43, 182, 0, 69, 79, 183, 0, 74, 176, 42, 182, 0, 46, 54, 4, 187, 0, 72, 89]
abbrev dktX9_order_15 : List UInt8 := dkwX9_order_15 ++ dktX9_order_16
def dkwX9_order_14 : List UInt8 := [16, 62, 182, 0, 65, 54, 5, 187, 0, 72, 89, 43, 6, 188, 10, 89, 3, 21, 4, 79, 89, 4, 21, 5]
abbrev dktX9_order_14 : List UInt8 := dkwX9_order_14 ++ dktX9_order_15
def dkwX9_order_13 : List UInt8 := [21, 4, 79, 89, 4, 42, 16, 47, 182, 0, 65, 79, 183, 0, 74, 176, 42, 182, 0, 46, 54, 4, 42]
abbrev dktX9_order_13 : List UInt8 := dkwX9_order_13 ++ dktX9_order_14
def dkwX9_order_12 : List UInt8 := [182, 0, 46, 79, 183, 0, 74, 176, 42, 182, 0, 49, 54, 4, 187, 0, 72, 89, 43, 5, 188, 10, 89, 3]
abbrev dktX9_order_12 : List UInt8 := dkwX9_order_12 ++ dktX9_order_13
def dkwX9_order_11 : List UInt8 := [42, 182, 0, 46, 54, 4, 187, 0, 72, 89, 43, 5, 188, 10, 89, 3, 21, 4, 79, 89, 4, 42]
abbrev dktX9_order_11 : List UInt8 := dkwX9_order_11 ++ dktX9_order_12
def dkwX9_order_10 : List UInt8 := [170, 0, 0, 0, 0, 0, 0, 237, 0, 0, 0, 0, 0, 0, 0, 7, 0, 0, 0, 48, 0, 0, 0, 78, 0, 0, 0, 110, 0, 0, 0, 155, 0, 0, 0, 187, 0, 0, 0, 219, 0, 0, 0, 219, 0, 0, 0, 225]
abbrev dktX9_order_10 : List UInt8 := dkwX9_order_10 ++ dktX9_order_11
def dkwX9_order_9 : List UInt8 := [62, 167, 0, 15, 44, 18, 95, 182, 0, 104, 153, 0, 6, 16, 7, 62, 29]
abbrev dktX9_order_9 : List UInt8 := dkwX9_order_9 ++ dktX9_order_10
def dkwX9_order_8 : List UInt8 := [18, 87, 182, 0, 104, 153, 0, 35, 8, 62, 167, 0, 30, 44, 18, 89, 182, 0, 104, 153, 0, 21, 16, 6]
abbrev dktX9_order_8 : List UInt8 := dkwX9_order_8 ++ dktX9_order_9
def dkwX9_order_7 : List UInt8 := [153, 0, 63, 6, 62, 167, 0, 58, 44, 18, 93, 182, 0, 104, 153, 0, 49, 7, 62, 167, 0, 44, 44]
abbrev dktX9_order_7 : List UInt8 := dkwX9_order_7 ++ dktX9_order_8
def dkwX9_order_6 : List UInt8 := [62, 167, 0, 86, 44, 18, 81, 182, 0, 104, 153, 0, 77, 5, 62, 167, 0, 72, 44, 18, 83, 182, 0, 104]
abbrev dktX9_order_6 : List UInt8 := dkwX9_order_6 ++ dktX9_order_7
def dkwX9_order_5 : List UInt8 := [44, 18, 77, 182, 0, 104, 153, 0, 105, 3, 62, 167, 0, 100, 44, 18, 79, 182, 0, 104, 153, 0, 91, 4]
abbrev dktX9_order_5 : List UInt8 := dkwX9_order_5 ++ dktX9_order_6
def dkwX9_order_4 : List UInt8 := [171, 0, 0, 0, 0, 0, 0, 187, 0, 0, 0, 8, 0, 1, 131, 156, 0, 0, 0, 175, 0, 1, 193, 187, 0, 0, 0, 146, 0, 46, 58, 233, 0, 0, 0, 104, 0, 46, 122, 95, 0, 0, 0, 132, 0, 48, 22, 108, 0, 0, 0, 118, 6, 119, 250, 12, 0, 0, 0, 90, 6, 138, 248, 101, 0, 0, 0, 76, 6, 147, 166, 230, 0, 0, 0, 160]
abbrev dktX9_order_4 : List UInt8 := dkwX9_order_4 ++ dktX9_order_5
def dkwX9_order_3 : List UInt8 := [182, 0, 101]
abbrev dktX9_order_3 : List UInt8 := dkwX9_order_3 ++ dktX9_order_4
def dkwX9_order_2 : List UInt8 := [83, 89, 16, 8, 18, 93, 83, 89, 16, 9, 18, 95, 83, 182, 0, 97, 76, 43, 77, 2, 62, 44]
abbrev dktX9_order_2 : List UInt8 := dkwX9_order_2 ++ dktX9_order_3
def dkwX9_order_1 : List UInt8 := [18, 83, 83, 89, 7, 18, 85, 83, 89, 8, 18, 87, 83, 89, 16, 6, 18, 89, 83, 89, 16, 7, 18, 91]
abbrev dktX9_order_1 : List UInt8 := dkwX9_order_1 ++ dktX9_order_2
def dkwX9_order_0 : List UInt8 := [42, 16, 10, 189, 0, 53, 89, 3, 18, 77, 83, 89, 4, 18, 79, 83, 89, 5, 18, 81, 83, 89, 6]
abbrev dktX9_order_0 : List UInt8 := dkwX9_order_0 ++ dktX9_order_1
theorem dksX9_order_0 : cX9_order.data.toList.drop 0 = dktX9_order_0 := by decide +kernel
theorem dksX9_order_1 : cX9_order.data.toList.drop 23 = dktX9_order_1 := dk_seg dksX9_order_0 23 rfl rfl
theorem dksX9_order_2 : cX9_order.data.toList.drop 47 = dktX9_order_2 := dk_seg dksX9_order_1 24 rfl rfl
theorem dksX9_order_3 : cX9_order.data.toList.drop 69 = dktX9_order_3 := dk_seg dksX9_order_2 22 rfl rfl
theorem dksX9_order_4 : cX9_order.data.toList.drop 72 = dktX9_order_4 := dk_seg dksX9_order_3 3 rfl rfl
theorem dksX9_order_5 : cX9_order.data.toList.drop 148 = dktX9_order_5 := dk_seg dksX9_order_4 76 rfl rfl
theorem dksX9_order_6 : cX9_order.data.toList.drop 172 = dktX9_order_6 := dk_seg dksX9_order_5 24 rfl rfl
theorem dksX9_order_7 : cX9_order.data.toList.drop 196 = dktX9_order_7 := dk_seg dksX9_order_6 24 rfl rfl
theorem dksX9_order_8 : cX9_order.data.toList.drop 219 = dktX9_order_8 := dk_seg dksX9_order_7 23 rfl rfl
theorem dksX9_order_9 : cX9_order.data.toList.drop 243 = dktX9_order_9 := dk_seg dksX9_order_8 24 rfl rfl
theorem dksX9_order_10 : cX9_order.data.toList.drop 260 = dktX9_order_10 := dk_seg dksX9_order_9 17 rfl rfl
theorem dksX9_order_11 : cX9_order.data.toList.drop 308 = dktX9_order_11 := dk_seg dksX9_order_10 48 rfl rfl
theorem dksX9_order_12 : cX9_order.data.toList.drop 330 = dktX9_order_12 := dk_seg dksX9_order_11 22 rfl rfl
theorem dksX9_order_13 : cX9_order.data.toList.drop 354 = dktX9_order_13 := dk_seg dksX9_order_12 24 rfl rfl
theorem dksX9_order_14 : cX9_order.data.toList.drop 377 = dktX9_order_14 := dk_seg dksX9_order_13 23 rfl rfl
theorem dksX9_order_15 : cX9_order.data.toList.drop 401 = dktX9_order_15 := dk_seg dksX9_order_14 24 rfl rfl
theorem dksX9_order_16 : cX9_order.data.toList.drop 425 = dktX9_order_16 := dk_seg dksX9_order_15 24 rfl rfl
theorem dksX9_order_17 : cX9_order.data.toList.drop 448 = dktX9_order_17 := dk_seg dksX9_order_16 23 rfl rfl
theorem dksX9_order_18 : cX9_order.data.toList.drop 471 = dktX9_order_18 := dk_seg dksX9_order_17 23 rfl rfl
theorem dksX9_order_19 : cX9_order.data.toList.drop 493 = dktX9_order_19 := dk_seg dksX9_order_18 22 rfl rfl
theorem dX9_order_0 : decode cX9_order 0 = .ok (.aload_n 0, 1) := dk_42 (dk_at dksX9_order_0 0 rfl rfl)
theorem dX9_order_1 : decode cX9_order 1 = .ok (.bipush 10, 2) := dk_16 10 (dk_at dksX9_order_0 1 rfl rfl)
theorem dX9_order_3 : decode cX9_order 3 = .ok (.anewarray 53, 3) := dk_189 0 53 (dk_at dksX9_order_0 3 rfl rfl)
theorem dX9_order_6 : decode cX9_order 6 = .ok (.dup, 1) := dk_89 (dk_at dksX9_order_0 6 rfl rfl)
theorem dX9_order_7 : decode cX9_order 7 = .ok (.iconst 0, 1) := dk_3 (dk_at dksX9_order_0 7 rfl rfl)
theorem dX9_order_8 : decode cX9_order 8 = .ok (.ldc 77, 2) := dk_18 77 (dk_at dksX9_order_0 8 rfl rfl)
theorem dX9_order_10 : decode cX9_order 10 = .ok (.aastore, 1) := dk_83 (dk_at dksX9_order_0 10 rfl rfl)
theorem dX9_order_11 : decode cX9_order 11 = .ok (.dup, 1) := dk_89 (dk_at dksX9_order_0 11 rfl rfl)
theorem dX9_order_12 : decode cX9_order 12 = .ok (.iconst 1, 1) := dk_4 (dk_at dksX9_order_0 12 rfl rfl)
theorem dX9_order_13 : decode cX9_order 13 = .ok (.ldc 79, 2) := dk_18 79 (dk_at dksX9_order_0 13 rfl rfl)
theorem dX9_order_15 : decode cX9_order 15 = .ok (.aastore, 1) := dk_83 (dk_at dksX9_order_0 15 rfl rfl)
theorem dX9_order_16 : decode cX9_order 16 = .ok (.dup, 1) := dk_89 (dk_at dksX9_order_0 16 rfl rfl)
theorem dX9_order_17 : decode cX9_order 17 = .ok (.iconst 2, 1) := dk_5 (dk_at dksX9_order_0 17 rfl rfl)
theorem dX9_order_18 : decode cX9_order 18 = .ok (.ldc 81, 2) := dk_18 81 (dk_at dksX9_order_0 18 rfl rfl)
theorem dX9_order_20 : decode cX9_order 20 = .ok (.aastore, 1) := dk_83 (dk_at dksX9_order_0 20 rfl rfl)
theorem dX9_order_21 : decode cX9_order 21 = .ok (.dup, 1) := dk_89 (dk_at dksX9_order_0 21 rfl rfl)
theorem dX9_order_22 : decode cX9_order 22 = .ok (.iconst 3, 1) := dk_6 (dk_at dksX9_order_0 22 rfl rfl)
theorem dX9_order_23 : decode cX9_order 23 = .ok (.ldc 83, 2) := dk_18 83 (dk_at dksX9_order_1 0 rfl rfl)
theorem dX9_order_25 : decode cX9_order 25 = .ok (.aastore, 1) := dk_83 (dk_at dksX9_order_1 2 rfl rfl)
theorem dX9_order_26 : decode cX9_order 26 = .ok (.dup, 1) := dk_89 (dk_at dksX9_order_1 3 rfl rfl)
theorem dX9_order_27 : decode cX9_order 27 = .ok (.iconst 4, 1) := dk_7 (dk_at dksX9_order_1 4 rfl rfl)
theorem dX9_order_28 : decode cX9_order 28 = .ok (.ldc 85, 2) := dk_18 85 (dk_at dksX9_order_1 5 rfl rfl)
theorem dX9_order_30 : decode cX9_order 30 = .ok (.aastore, 1) := dk_83 (dk_at dksX9_order_1 7 rfl rfl)
theorem dX9_order_31 : decode cX9_order 31 = .ok (.dup, 1) := dk_89 (dk_at dksX9_order_1 8 rfl rfl)
theorem dX9_order_32 : decode cX9_order 32 = .ok (.iconst 5, 1) := dk_8 (dk_at dksX9_order_1 9 rfl rfl)
theorem dX9_order_33 : decode cX9_order 33 = .ok (.ldc 87, 2) := dk_18 87 (dk_at dksX9_order_1 10 rfl rfl)
theorem dX9_order_35 : decode cX9_order 35 = .ok (.aastore, 1) := dk_83 (dk_at dksX9_order_1 12 rfl rfl)
theorem dX9_order_36 : decode cX9_order 36 = .ok (.dup, 1) := dk_89 (dk_at dksX9_order_1 13 rfl rfl)
theorem dX9_order_37 : decode cX9_order 37 = .ok (.bipush 6, 2) := dk_16 6 (dk_at dksX9_order_1 14 rfl rfl)
theorem dX9_order_39 : decode cX9_order 39 = .ok (.ldc 89, 2) := dk_18 89 (dk_at dksX9_order_1 16 rfl rfl)
theorem dX9_order_41 : decode cX9_order 41 = .ok (.aastore, 1) := dk_83 (dk_at dksX9_order_1 18 rfl rfl)
theorem dX9_order_42 : decode cX9_order 42 = .ok (.dup, 1) := dk_89 (dk_at dksX9_order_1 19 rfl rfl)
theorem dX9_order_43 : decode cX9_order 43 = .ok (.bipush 7, 2) := dk_16 7 (dk_at dksX9_order_1 20 rfl rfl)
theorem dX9_order_45 : decode cX9_order 45 = .ok (.ldc 91, 2) := dk_18 91 (dk_at dksX9_order_1 22 rfl rfl)
theorem dX9_order_47 : decode cX9_order 47 = .ok (.aastore, 1) := dk_83 (dk_at dksX9_order_2 0 rfl rfl)
theorem dX9_order_48 : decode cX9_order 48 = .ok (.dup, 1) := dk_89 (dk_at dksX9_order_2 1 rfl rfl)
theorem dX9_order_49 : decode cX9_order 49 = .ok (.bipush 8, 2) := dk_16 8 (dk_at dksX9_order_2 2 rfl rfl)
theorem dX9_order_51 : decode cX9_order 51 = .ok (.ldc 93, 2) := dk_18 93 (dk_at dksX9_order_2 4 rfl rfl)
theorem dX9_order_53 : decode cX9_order 53 = .ok (.aastore, 1) := dk_83 (dk_at dksX9_order_2 6 rfl rfl)
theorem dX9_order_54 : decode cX9_order 54 = .ok (.dup, 1) := dk_89 (dk_at dksX9_order_2 7 rfl rfl)
theorem dX9_order_55 : decode cX9_order 55 = .ok (.bipush 9, 2) := dk_16 9 (dk_at dksX9_order_2 8 rfl rfl)
theorem dX9_order_57 : decode cX9_order 57 = .ok (.ldc 95, 2) := dk_18 95 (dk_at dksX9_order_2 10 rfl rfl)
theorem dX9_order_59 : decode cX9_order 59 = .ok (.aastore, 1) := dk_83 (dk_at dksX9_order_2 12 rfl rfl)
theorem dX9_order_60 : decode cX9_order 60 = .ok (.invokevirtual 97, 3) := dk_182 0 97 (dk_at dksX9_order_2 13 rfl rfl)
theorem dX9_order_63 : decode cX9_order 63 = .ok (.astore_n 1, 1) := dk_76 (dk_at dksX9_order_2 16 rfl rfl)
theorem dX9_order_64 : decode cX9_order 64 = .ok (.aload_n 1, 1) := dk_43 (dk_at dksX9_order_2 17 rfl rfl)
theorem dX9_order_65 : decode cX9_order 65 = .ok (.astore_n 2, 1) := dk_77 (dk_at dksX9_order_2 18 rfl rfl)
theorem dX9_order_66 : decode cX9_order 66 = .ok (.iconst (-1), 1) := dk_2 (dk_at dksX9_order_2 19 rfl rfl)
theorem dX9_order_67 : decode cX9_order 67 = .ok (.istore_n 3, 1) := dk_62 (dk_at dksX9_order_2 20 rfl rfl)
theorem dX9_order_68 : decode cX9_order 68 = .ok (.aload_n 2, 1) := dk_44 (dk_at dksX9_order_2 21 rfl rfl)
theorem dX9_order_69 : decode cX9_order 69 = .ok (.invokevirtual 101, 3) := dk_182 0 101 (dk_at dksX9_order_3 0 rfl rfl)
theorem dX9_order_72 : decode cX9_order 72 = .ok (.lookupswitch 187 #[(99228, 175), (115131, 146), (3029737, 104), (3045983, 132), (3151468, 118), (108526092, 90), (109770853, 76), (110339814, 160)], 76) := by decide +kernel
theorem dX9_order_148 : decode cX9_order 148 = .ok (.aload_n 2, 1) := dk_44 (dk_at dksX9_order_5 0 rfl rfl)
theorem dX9_order_149 : decode cX9_order 149 = .ok (.ldc 77, 2) := dk_18 77 (dk_at dksX9_order_5 1 rfl rfl)
theorem dX9_order_151 : decode cX9_order 151 = .ok (.invokevirtual 104, 3) := dk_182 0 104 (dk_at dksX9_order_5 3 rfl rfl)
theorem dX9_order_154 : decode cX9_order 154 = .ok (.ifCond .eq 105, 3) := dk_153 0 105 (dk_at dksX9_order_5 6 rfl rfl)
theorem dX9_order_157 : decode cX9_order 157 = .ok (.iconst 0, 1) := dk_3 (dk_at dksX9_order_5 9 rfl rfl)
theorem dX9_order_158 : decode cX9_order 158 = .ok (.istore_n 3, 1) := dk_62 (dk_at dksX9_order_5 10 rfl rfl)
theorem dX9_order_159 : decode cX9_order 159 = .ok (.goto 100, 3) := dk_167 0 100 (dk_at dksX9_order_5 11 rfl rfl)
theorem dX9_order_162 : decode cX9_order 162 = .ok (.aload_n 2, 1) := dk_44 (dk_at dksX9_order_5 14 rfl rfl)
theorem dX9_order_163 : decode cX9_order 163 = .ok (.ldc 79, 2) := dk_18 79 (dk_at dksX9_order_5 15 rfl rfl)
theorem dX9_order_165 : decode cX9_order 165 = .ok (.invokevirtual 104, 3) := dk_182 0 104 (dk_at dksX9_order_5 17 rfl rfl)
theorem dX9_order_168 : decode cX9_order 168 = .ok (.ifCond .eq 91, 3) := dk_153 0 91 (dk_at dksX9_order_5 20 rfl rfl)
theorem dX9_order_171 : decode cX9_order 171 = .ok (.iconst 1, 1) := dk_4 (dk_at dksX9_order_5 23 rfl rfl)
theorem dX9_order_172 : decode cX9_order 172 = .ok (.istore_n 3, 1) := dk_62 (dk_at dksX9_order_6 0 rfl rfl)
theorem dX9_order_173 : decode cX9_order 173 = .ok (.goto 86, 3) := dk_167 0 86 (dk_at dksX9_order_6 1 rfl rfl)
theorem dX9_order_176 : decode cX9_order 176 = .ok (.aload_n 2, 1) := dk_44 (dk_at dksX9_order_6 4 rfl rfl)
theorem dX9_order_177 : decode cX9_order 177 = .ok (.ldc 81, 2) := dk_18 81 (dk_at dksX9_order_6 5 rfl rfl)
theorem dX9_order_179 : decode cX9_order 179 = .ok (.invokevirtual 104, 3) := dk_182 0 104 (dk_at dksX9_order_6 7 rfl rfl)
theorem dX9_order_182 : decode cX9_order 182 = .ok (.ifCond .eq 77, 3) := dk_153 0 77 (dk_at dksX9_order_6 10 rfl rfl)
theorem dX9_order_185 : decode cX9_order 185 = .ok (.iconst 2, 1) := dk_5 (dk_at dksX9_order_6 13 rfl rfl)
theorem dX9_order_186 : decode cX9_order 186 = .ok (.istore_n 3, 1) := dk_62 (dk_at dksX9_order_6 14 rfl rfl)
theorem dX9_order_187 : decode cX9_order 187 = .ok (.goto 72, 3) := dk_167 0 72 (dk_at dksX9_order_6 15 rfl rfl)
theorem dX9_order_190 : decode cX9_order 190 = .ok (.aload_n 2, 1) := dk_44 (dk_at dksX9_order_6 18 rfl rfl)
theorem dX9_order_191 : decode cX9_order 191 = .ok (.ldc 83, 2) := dk_18 83 (dk_at dksX9_order_6 19 rfl rfl)
theorem dX9_order_193 : decode cX9_order 193 = .ok (.invokevirtual 104, 3) := dk_182 0 104 (dk_at dksX9_order_6 21 rfl rfl)
theorem dX9_order_196 : decode cX9_order 196 = .ok (.ifCond .eq 63, 3) := dk_153 0 63 (dk_at dksX9_order_7 0 rfl rfl)
theorem dX9_order_199 : decode cX9_order 199 = .ok (.iconst 3, 1) := dk_6 (dk_at dksX9_order_7 3 rfl rfl)
theorem dX9_order_200 : decode cX9_order 200 = .ok (.istore_n 3, 1) := dk_62 (dk_at dksX9_order_7 4 rfl rfl)
theorem dX9_order_201 : decode cX9_order 201 = .ok (.goto 58, 3) := dk_167 0 58 (dk_at dksX9_order_7 5 rfl rfl)
theorem dX9_order_204 : decode cX9_order 204 = .ok (.aload_n 2, 1) := dk_44 (dk_at dksX9_order_7 8 rfl rfl)
theorem dX9_order_205 : decode cX9_order 205 = .ok (.ldc 93, 2) := dk_18 93 (dk_at dksX9_order_7 9 rfl rfl)
theorem dX9_order_207 : decode cX9_order 207 = .ok (.invokevirtual 104, 3) := dk_182 0 104 (dk_at dksX9_order_7 11 rfl rfl)
theorem dX9_order_210 : decode cX9_order 210 = .ok (.ifCond .eq 49, 3) := dk_153 0 49 (dk_at dksX9_order_7 14 rfl rfl)
theorem dX9_order_213 : decode cX9_order 213 = .ok (.iconst 4, 1) := dk_7 (dk_at dksX9_order_7 17 rfl rfl)
theorem dX9_order_214 : decode cX9_order 214 = .ok (.istore_n 3, 1) := dk_62 (dk_at dksX9_order_7 18 rfl rfl)
theorem dX9_order_215 : decode cX9_order 215 = .ok (.goto 44, 3) := dk_167 0 44 (dk_at dksX9_order_7 19 rfl rfl)
theorem dX9_order_218 : decode cX9_order 218 = .ok (.aload_n 2, 1) := dk_44 (dk_at dksX9_order_7 22 rfl rfl)
theorem dX9_order_219 : decode cX9_order 219 = .ok (.ldc 87, 2) := dk_18 87 (dk_at dksX9_order_8 0 rfl rfl)
theorem dX9_order_221 : decode cX9_order 221 = .ok (.invokevirtual 104, 3) := dk_182 0 104 (dk_at dksX9_order_8 2 rfl rfl)
theorem dX9_order_224 : decode cX9_order 224 = .ok (.ifCond .eq 35, 3) := dk_153 0 35 (dk_at dksX9_order_8 5 rfl rfl)
theorem dX9_order_227 : decode cX9_order 227 = .ok (.iconst 5, 1) := dk_8 (dk_at dksX9_order_8 8 rfl rfl)
theorem dX9_order_228 : decode cX9_order 228 = .ok (.istore_n 3, 1) := dk_62 (dk_at dksX9_order_8 9 rfl rfl)
theorem dX9_order_229 : decode cX9_order 229 = .ok (.goto 30, 3) := dk_167 0 30 (dk_at dksX9_order_8 10 rfl rfl)
theorem dX9_order_232 : decode cX9_order 232 = .ok (.aload_n 2, 1) := dk_44 (dk_at dksX9_order_8 13 rfl rfl)
theorem dX9_order_233 : decode cX9_order 233 = .ok (.ldc 89, 2) := dk_18 89 (dk_at dksX9_order_8 14 rfl rfl)
theorem dX9_order_235 : decode cX9_order 235 = .ok (.invokevirtual 104, 3) := dk_182 0 104 (dk_at dksX9_order_8 16 rfl rfl)
theorem dX9_order_238 : decode cX9_order 238 = .ok (.ifCond .eq 21, 3) := dk_153 0 21 (dk_at dksX9_order_8 19 rfl rfl)
theorem dX9_order_241 : decode cX9_order 241 = .ok (.bipush 6, 2) := dk_16 6 (dk_at dksX9_order_8 22 rfl rfl)
theorem dX9_order_243 : decode cX9_order 243 = .ok (.istore_n 3, 1) := dk_62 (dk_at dksX9_order_9 0 rfl rfl)
theorem dX9_order_244 : decode cX9_order 244 = .ok (.goto 15, 3) := dk_167 0 15 (dk_at dksX9_order_9 1 rfl rfl)
theorem dX9_order_247 : decode cX9_order 247 = .ok (.aload_n 2, 1) := dk_44 (dk_at dksX9_order_9 4 rfl rfl)
theorem dX9_order_248 : decode cX9_order 248 = .ok (.ldc 95, 2) := dk_18 95 (dk_at dksX9_order_9 5 rfl rfl)
theorem dX9_order_250 : decode cX9_order 250 = .ok (.invokevirtual 104, 3) := dk_182 0 104 (dk_at dksX9_order_9 7 rfl rfl)
theorem dX9_order_253 : decode cX9_order 253 = .ok (.ifCond .eq 6, 3) := dk_153 0 6 (dk_at dksX9_order_9 10 rfl rfl)
theorem dX9_order_256 : decode cX9_order 256 = .ok (.bipush 7, 2) := dk_16 7 (dk_at dksX9_order_9 13 rfl rfl)
theorem dX9_order_258 : decode cX9_order 258 = .ok (.istore_n 3, 1) := dk_62 (dk_at dksX9_order_9 15 rfl rfl)
theorem dX9_order_259 : decode cX9_order 259 = .ok (.iload_n 3, 1) := dk_29 (dk_at dksX9_order_9 16 rfl rfl)
theorem dX9_order_260 : decode cX9_order 260 = .ok (.tableswitch 237 0 7 #[48, 78, 110, 155, 187, 219, 219, 225], 48) := by decide +kernel
theorem dX9_order_308 : decode cX9_order 308 = .ok (.aload_n 0, 1) := dk_42 (dk_at dksX9_order_11 0 rfl rfl)
theorem dX9_order_309 : decode cX9_order 309 = .ok (.invokevirtual 46, 3) := dk_182 0 46 (dk_at dksX9_order_11 1 rfl rfl)
theorem dX9_order_312 : decode cX9_order 312 = .ok (.istore 4, 2) := dk_54 4 (dk_at dksX9_order_11 4 rfl rfl)
theorem dX9_order_314 : decode cX9_order 314 = .ok (.new 72, 3) := dk_187 0 72 (dk_at dksX9_order_11 6 rfl rfl)
theorem dX9_order_317 : decode cX9_order 317 = .ok (.dup, 1) := dk_89 (dk_at dksX9_order_11 9 rfl rfl)
theorem dX9_order_318 : decode cX9_order 318 = .ok (.aload_n 1, 1) := dk_43 (dk_at dksX9_order_11 10 rfl rfl)
theorem dX9_order_319 : decode cX9_order 319 = .ok (.iconst 2, 1) := dk_5 (dk_at dksX9_order_11 11 rfl rfl)
theorem dX9_order_320 : decode cX9_order 320 = .ok (.newarray .int, 2) := dk_188_10 (dk_at dksX9_order_11 12 rfl rfl)
theorem dX9_order_322 : decode cX9_order 322 = .ok (.dup, 1) := dk_89 (dk_at dksX9_order_11 14 rfl rfl)
theorem dX9_order_323 : decode cX9_order 323 = .ok (.iconst 0, 1) := dk_3 (dk_at dksX9_order_11 15 rfl rfl)
theorem dX9_order_324 : decode cX9_order 324 = .ok (.iload 4, 2) := dk_21 4 (dk_at dksX9_order_11 16 rfl rfl)
theorem dX9_order_326 : decode cX9_order 326 = .ok (.iastore, 1) := dk_79 (dk_at dksX9_order_11 18 rfl rfl)
theorem dX9_order_327 : decode cX9_order 327 = .ok (.dup, 1) := dk_89 (dk_at dksX9_order_11 19 rfl rfl)
theorem dX9_order_328 : decode cX9_order 328 = .ok (.iconst 1, 1) := dk_4 (dk_at dksX9_order_11 20 rfl rfl)
theorem dX9_order_329 : decode cX9_order 329 = .ok (.aload_n 0, 1) := dk_42 (dk_at dksX9_order_11 21 rfl rfl)
theorem dX9_order_330 : decode cX9_order 330 = .ok (.invokevirtual 46, 3) := dk_182 0 46 (dk_at dksX9_order_12 0 rfl rfl)
theorem dX9_order_333 : decode cX9_order 333 = .ok (.iastore, 1) := dk_79 (dk_at dksX9_order_12 3 rfl rfl)
theorem dX9_order_334 : decode cX9_order 334 = .ok (.invokespecial 74, 3) := dk_183 0 74 (dk_at dksX9_order_12 4 rfl rfl)
theorem dX9_order_337 : decode cX9_order 337 = .ok (.areturn, 1) := dk_176 (dk_at dksX9_order_12 7 rfl rfl)
theorem dX9_order_338 : decode cX9_order 338 = .ok (.aload_n 0, 1) := dk_42 (dk_at dksX9_order_12 8 rfl rfl)
theorem dX9_order_339 : decode cX9_order 339 = .ok (.invokevirtual 49, 3) := dk_182 0 49 (dk_at dksX9_order_12 9 rfl rfl)
theorem dX9_order_342 : decode cX9_order 342 = .ok (.istore 4, 2) := dk_54 4 (dk_at dksX9_order_12 12 rfl rfl)
theorem dX9_order_344 : decode cX9_order 344 = .ok (.new 72, 3) := dk_187 0 72 (dk_at dksX9_order_12 14 rfl rfl)
theorem dX9_order_347 : decode cX9_order 347 = .ok (.dup, 1) := dk_89 (dk_at dksX9_order_12 17 rfl rfl)
theorem dX9_order_348 : decode cX9_order 348 = .ok (.aload_n 1, 1) := dk_43 (dk_at dksX9_order_12 18 rfl rfl)
theorem dX9_order_349 : decode cX9_order 349 = .ok (.iconst 2, 1) := dk_5 (dk_at dksX9_order_12 19 rfl rfl)
theorem dX9_order_350 : decode cX9_order 350 = .ok (.newarray .int, 2) := dk_188_10 (dk_at dksX9_order_12 20 rfl rfl)
theorem dX9_order_352 : decode cX9_order 352 = .ok (.dup, 1) := dk_89 (dk_at dksX9_order_12 22 rfl rfl)
theorem dX9_order_353 : decode cX9_order 353 = .ok (.iconst 0, 1) := dk_3 (dk_at dksX9_order_12 23 rfl rfl)
theorem dX9_order_354 : decode cX9_order 354 = .ok (.iload 4, 2) := dk_21 4 (dk_at dksX9_order_13 0 rfl rfl)
theorem dX9_order_356 : decode cX9_order 356 = .ok (.iastore, 1) := dk_79 (dk_at dksX9_order_13 2 rfl rfl)
theorem dX9_order_357 : decode cX9_order 357 = .ok (.dup, 1) := dk_89 (dk_at dksX9_order_13 3 rfl rfl)
theorem dX9_order_358 : decode cX9_order 358 = .ok (.iconst 1, 1) := dk_4 (dk_at dksX9_order_13 4 rfl rfl)
theorem dX9_order_359 : decode cX9_order 359 = .ok (.aload_n 0, 1) := dk_42 (dk_at dksX9_order_13 5 rfl rfl)
theorem dX9_order_360 : decode cX9_order 360 = .ok (.bipush 47, 2) := dk_16 47 (dk_at dksX9_order_13 6 rfl rfl)
theorem dX9_order_362 : decode cX9_order 362 = .ok (.invokevirtual 65, 3) := dk_182 0 65 (dk_at dksX9_order_13 8 rfl rfl)
theorem dX9_order_365 : decode cX9_order 365 = .ok (.iastore, 1) := dk_79 (dk_at dksX9_order_13 11 rfl rfl)
theorem dX9_order_366 : decode cX9_order 366 = .ok (.invokespecial 74, 3) := dk_183 0 74 (dk_at dksX9_order_13 12 rfl rfl)
theorem dX9_order_369 : decode cX9_order 369 = .ok (.areturn, 1) := dk_176 (dk_at dksX9_order_13 15 rfl rfl)
theorem dX9_order_370 : decode cX9_order 370 = .ok (.aload_n 0, 1) := dk_42 (dk_at dksX9_order_13 16 rfl rfl)
theorem dX9_order_371 : decode cX9_order 371 = .ok (.invokevirtual 46, 3) := dk_182 0 46 (dk_at dksX9_order_13 17 rfl rfl)
theorem dX9_order_374 : decode cX9_order 374 = .ok (.istore 4, 2) := dk_54 4 (dk_at dksX9_order_13 20 rfl rfl)
theorem dX9_order_376 : decode cX9_order 376 = .ok (.aload_n 0, 1) := dk_42 (dk_at dksX9_order_13 22 rfl rfl)
theorem dX9_order_377 : decode cX9_order 377 = .ok (.bipush 62, 2) := dk_16 62 (dk_at dksX9_order_14 0 rfl rfl)
theorem dX9_order_379 : decode cX9_order 379 = .ok (.invokevirtual 65, 3) := dk_182 0 65 (dk_at dksX9_order_14 2 rfl rfl)
theorem dX9_order_382 : decode cX9_order 382 = .ok (.istore 5, 2) := dk_54 5 (dk_at dksX9_order_14 5 rfl rfl)
theorem dX9_order_384 : decode cX9_order 384 = .ok (.new 72, 3) := dk_187 0 72 (dk_at dksX9_order_14 7 rfl rfl)
theorem dX9_order_387 : decode cX9_order 387 = .ok (.dup, 1) := dk_89 (dk_at dksX9_order_14 10 rfl rfl)
theorem dX9_order_388 : decode cX9_order 388 = .ok (.aload_n 1, 1) := dk_43 (dk_at dksX9_order_14 11 rfl rfl)
theorem dX9_order_389 : decode cX9_order 389 = .ok (.iconst 3, 1) := dk_6 (dk_at dksX9_order_14 12 rfl rfl)
theorem dX9_order_390 : decode cX9_order 390 = .ok (.newarray .int, 2) := dk_188_10 (dk_at dksX9_order_14 13 rfl rfl)
theorem dX9_order_392 : decode cX9_order 392 = .ok (.dup, 1) := dk_89 (dk_at dksX9_order_14 15 rfl rfl)
theorem dX9_order_393 : decode cX9_order 393 = .ok (.iconst 0, 1) := dk_3 (dk_at dksX9_order_14 16 rfl rfl)
theorem dX9_order_394 : decode cX9_order 394 = .ok (.iload 4, 2) := dk_21 4 (dk_at dksX9_order_14 17 rfl rfl)
theorem dX9_order_396 : decode cX9_order 396 = .ok (.iastore, 1) := dk_79 (dk_at dksX9_order_14 19 rfl rfl)
theorem dX9_order_397 : decode cX9_order 397 = .ok (.dup, 1) := dk_89 (dk_at dksX9_order_14 20 rfl rfl)
theorem dX9_order_398 : decode cX9_order 398 = .ok (.iconst 1, 1) := dk_4 (dk_at dksX9_order_14 21 rfl rfl)
theorem dX9_order_399 : decode cX9_order 399 = .ok (.iload 5, 2) := dk_21 5 (dk_at dksX9_order_14 22 rfl rfl)
theorem dX9_order_401 : decode cX9_order 401 = .ok (.iastore, 1) := dk_79 (dk_at dksX9_order_15 0 rfl rfl)
theorem dX9_order_402 : decode cX9_order 402 = .ok (.dup, 1) := dk_89 (dk_at dksX9_order_15 1 rfl rfl)
theorem dX9_order_403 : decode cX9_order 403 = .ok (.iconst 2, 1) := dk_5 (dk_at dksX9_order_15 2 rfl rfl)
theorem dX9_order_404 : decode cX9_order 404 = .ok (.aload_n 0, 1) := dk_42 (dk_at dksX9_order_15 3 rfl rfl)
theorem dX9_order_405 : decode cX9_order 405 = .ok (.bipush 43, 2) := dk_16 43 (dk_at dksX9_order_15 4 rfl rfl)
theorem dX9_order_407 : decode cX9_order 407 = .ok (.invokevirtual 69, 3) := dk_182 0 69 (dk_at dksX9_order_15 6 rfl rfl)
theorem dX9_order_410 : decode cX9_order 410 = .ok (.iastore, 1) := dk_79 (dk_at dksX9_order_15 9 rfl rfl)
theorem dX9_order_411 : decode cX9_order 411 = .ok (.invokespecial 74, 3) := dk_183 0 74 (dk_at dksX9_order_15 10 rfl rfl)
theorem dX9_order_414 : decode cX9_order 414 = .ok (.areturn, 1) := dk_176 (dk_at dksX9_order_15 13 rfl rfl)
theorem dX9_order_415 : decode cX9_order 415 = .ok (.aload_n 0, 1) := dk_42 (dk_at dksX9_order_15 14 rfl rfl)
theorem dX9_order_416 : decode cX9_order 416 = .ok (.invokevirtual 46, 3) := dk_182 0 46 (dk_at dksX9_order_15 15 rfl rfl)
theorem dX9_order_419 : decode cX9_order 419 = .ok (.istore 4, 2) := dk_54 4 (dk_at dksX9_order_15 18 rfl rfl)
theorem dX9_order_421 : decode cX9_order 421 = .ok (.new 72, 3) := dk_187 0 72 (dk_at dksX9_order_15 20 rfl rfl)
theorem dX9_order_424 : decode cX9_order 424 = .ok (.dup, 1) := dk_89 (dk_at dksX9_order_15 23 rfl rfl)
theorem dX9_order_425 : decode cX9_order 425 = .ok (.aload_n 1, 1) := dk_43 (dk_at dksX9_order_16 0 rfl rfl)
theorem dX9_order_426 : decode cX9_order 426 = .ok (.iconst 2, 1) := dk_5 (dk_at dksX9_order_16 1 rfl rfl)
theorem dX9_order_427 : decode cX9_order 427 = .ok (.newarray .int, 2) := dk_188_10 (dk_at dksX9_order_16 2 rfl rfl)
theorem dX9_order_429 : decode cX9_order 429 = .ok (.dup, 1) := dk_89 (dk_at dksX9_order_16 4 rfl rfl)
theorem dX9_order_430 : decode cX9_order 430 = .ok (.iconst 0, 1) := dk_3 (dk_at dksX9_order_16 5 rfl rfl)
theorem dX9_order_431 : decode cX9_order 431 = .ok (.iload 4, 2) := dk_21 4 (dk_at dksX9_order_16 6 rfl rfl)
theorem dX9_order_433 : decode cX9_order 433 = .ok (.iastore, 1) := dk_79 (dk_at dksX9_order_16 8 rfl rfl)
theorem dX9_order_434 : decode cX9_order 434 = .ok (.dup, 1) := dk_89 (dk_at dksX9_order_16 9 rfl rfl)
theorem dX9_order_435 : decode cX9_order 435 = .ok (.iconst 1, 1) := dk_4 (dk_at dksX9_order_16 10 rfl rfl)
theorem dX9_order_436 : decode cX9_order 436 = .ok (.aload_n 0, 1) := dk_42 (dk_at dksX9_order_16 11 rfl rfl)
theorem dX9_order_437 : decode cX9_order 437 = .ok (.bipush 43, 2) := dk_16 43 (dk_at dksX9_order_16 12 rfl rfl)
theorem dX9_order_439 : decode cX9_order 439 = .ok (.invokevirtual 69, 3) := dk_182 0 69 (dk_at dksX9_order_16 14 rfl rfl)
theorem dX9_order_442 : decode cX9_order 442 = .ok (.iastore, 1) := dk_79 (dk_at dksX9_order_16 17 rfl rfl)
theorem dX9_order_443 : decode cX9_order 443 = .ok (.invokespecial 74, 3) := dk_183 0 74 (dk_at dksX9_order_16 18 rfl rfl)
theorem dX9_order_446 : decode cX9_order 446 = .ok (.areturn, 1) := dk_176 (dk_at dksX9_order_16 21 rfl rfl)
theorem dX9_order_447 : decode cX9_order 447 = .ok (.aload_n 0, 1) := dk_42 (dk_at dksX9_order_16 22 rfl rfl)
theorem dX9_order_448 : decode cX9_order 448 = .ok (.invokevirtual 46, 3) := dk_182 0 46 (dk_at dksX9_order_17 0 rfl rfl)
theorem dX9_order_451 : decode cX9_order 451 = .ok (.istore 4, 2) := dk_54 4 (dk_at dksX9_order_17 3 rfl rfl)
theorem dX9_order_453 : decode cX9_order 453 = .ok (.new 72, 3) := dk_187 0 72 (dk_at dksX9_order_17 5 rfl rfl)
theorem dX9_order_456 : decode cX9_order 456 = .ok (.dup, 1) := dk_89 (dk_at dksX9_order_17 8 rfl rfl)
theorem dX9_order_457 : decode cX9_order 457 = .ok (.aload_n 1, 1) := dk_43 (dk_at dksX9_order_17 9 rfl rfl)
theorem dX9_order_458 : decode cX9_order 458 = .ok (.iconst 2, 1) := dk_5 (dk_at dksX9_order_17 10 rfl rfl)
theorem dX9_order_459 : decode cX9_order 459 = .ok (.newarray .int, 2) := dk_188_10 (dk_at dksX9_order_17 11 rfl rfl)
theorem dX9_order_461 : decode cX9_order 461 = .ok (.dup, 1) := dk_89 (dk_at dksX9_order_17 13 rfl rfl)
theorem dX9_order_462 : decode cX9_order 462 = .ok (.iconst 0, 1) := dk_3 (dk_at dksX9_order_17 14 rfl rfl)
theorem dX9_order_463 : decode cX9_order 463 = .ok (.iload 4, 2) := dk_21 4 (dk_at dksX9_order_17 15 rfl rfl)
theorem dX9_order_465 : decode cX9_order 465 = .ok (.iastore, 1) := dk_79 (dk_at dksX9_order_17 17 rfl rfl)
theorem dX9_order_466 : decode cX9_order 466 = .ok (.dup, 1) := dk_89 (dk_at dksX9_order_17 18 rfl rfl)
theorem dX9_order_467 : decode cX9_order 467 = .ok (.iconst 1, 1) := dk_4 (dk_at dksX9_order_17 19 rfl rfl)
theorem dX9_order_468 : decode cX9_order 468 = .ok (.aload_n 0, 1) := dk_42 (dk_at dksX9_order_17 20 rfl rfl)
theorem dX9_order_469 : decode cX9_order 469 = .ok (.bipush 61, 2) := dk_16 61 (dk_at dksX9_order_17 21 rfl rfl)
theorem dX9_order_471 : decode cX9_order 471 = .ok (.invokevirtual 65, 3) := dk_182 0 65 (dk_at dksX9_order_18 0 rfl rfl)
theorem dX9_order_474 : decode cX9_order 474 = .ok (.iastore, 1) := dk_79 (dk_at dksX9_order_18 3 rfl rfl)
theorem dX9_order_475 : decode cX9_order 475 = .ok (.invokespecial 74, 3) := dk_183 0 74 (dk_at dksX9_order_18 4 rfl rfl)
theorem dX9_order_478 : decode cX9_order 478 = .ok (.areturn, 1) := dk_176 (dk_at dksX9_order_18 7 rfl rfl)
theorem dX9_order_479 : decode cX9_order 479 = .ok (.aload_n 0, 1) := dk_42 (dk_at dksX9_order_18 8 rfl rfl)
theorem dX9_order_480 : decode cX9_order 480 = .ok (.aload_n 1, 1) := dk_43 (dk_at dksX9_order_18 9 rfl rfl)
theorem dX9_order_481 : decode cX9_order 481 = .ok (.invokevirtual 108, 3) := dk_182 0 108 (dk_at dksX9_order_18 10 rfl rfl)
theorem dX9_order_484 : decode cX9_order 484 = .ok (.areturn, 1) := dk_176 (dk_at dksX9_order_18 13 rfl rfl)
theorem dX9_order_485 : decode cX9_order 485 = .ok (.new 72, 3) := dk_187 0 72 (dk_at dksX9_order_18 14 rfl rfl)
theorem dX9_order_488 : decode cX9_order 488 = .ok (.dup, 1) := dk_89 (dk_at dksX9_order_18 17 rfl rfl)
theorem dX9_order_489 : decode cX9_order 489 = .ok (.aload_n 1, 1) := dk_43 (dk_at dksX9_order_18 18 rfl rfl)
theorem dX9_order_490 : decode cX9_order 490 = .ok (.iconst 0, 1) := dk_3 (dk_at dksX9_order_18 19 rfl rfl)
theorem dX9_order_491 : decode cX9_order 491 = .ok (.newarray .int, 2) := dk_188_10 (dk_at dksX9_order_18 20 rfl rfl)
theorem dX9_order_493 : decode cX9_order 493 = .ok (.invokespecial 74, 3) := dk_183 0 74 (dk_at dksX9_order_19 0 rfl rfl)
theorem dX9_order_496 : decode cX9_order 496 = .ok (.areturn, 1) := dk_176 (dk_at dksX9_order_19 3 rfl rfl)
theorem dX9_order_497 : decode cX9_order 497 = .ok (.new 72, 3) := dk_187 0 72 (dk_at dksX9_order_19 4 rfl rfl)
theorem dX9_order_500 : decode cX9_order 500 = .ok (.dup, 1) := dk_89 (dk_at dksX9_order_19 7 rfl rfl)
theorem dX9_order_501 : decode cX9_order 501 = .ok (.aload_n 1, 1) := dk_43 (dk_at dksX9_order_19 8 rfl rfl)
theorem dX9_order_502 : decode cX9_order 502 = .ok (.iconst 1, 1) := dk_4 (dk_at dksX9_order_19 9 rfl rfl)
theorem dX9_order_503 : decode cX9_order 503 = .ok (.newarray .int, 2) := dk_188_10 (dk_at dksX9_order_19 10 rfl rfl)
theorem dX9_order_505 : decode cX9_order 505 = .ok (.dup, 1) := dk_89 (dk_at dksX9_order_19 12 rfl rfl)
theorem dX9_order_506 : decode cX9_order 506 = .ok (.iconst 0, 1) := dk_3 (dk_at dksX9_order_19 13 rfl rfl)
theorem dX9_order_507 : decode cX9_order 507 = .ok (.aload_n 0, 1) := dk_42 (dk_at dksX9_order_19 14 rfl rfl)
theorem dX9_order_508 : decode cX9_order 508 = .ok (.invokevirtual 46, 3) := dk_182 0 46 (dk_at dksX9_order_19 15 rfl rfl)
theorem dX9_order_511 : decode cX9_order 511 = .ok (.iastore, 1) := dk_79 (dk_at dksX9_order_19 18 rfl rfl)
theorem dX9_order_512 : decode cX9_order 512 = .ok (.invokespecial 74, 3) := dk_183 0 74 (dk_at dksX9_order_19 19 rfl rfl)
theorem dX9_order_515 : decode cX9_order 515 = .ok (.areturn, 1) := dk_176 (dk_at dksX9_order_19 22 rfl rfl)
abbrev cX9_word : ByteArray := prog_3_method_9_code
def yX9_word : MethodName := ⟨RX9, "word", "([Ljava/lang/String;)Ljava/lang/String;"⟩
def dkwX9_word_3 : List UInt8 := [187, 0, 37, 89, 42, 180, 0, 13, 28, 96, 183, 0, 39, 191]
abbrev dktX9_word_3 : List UInt8 := dkwX9_word_3 ++ []
def dkwX9_word_2 : List UInt8 := [160, 0, 17, 42, 89, 180, 0, 13, 21, 7, 96, 181, 0, 13, 25, 6, 176, 132, 5, 1, 167, 255, 201]
abbrev dktX9_word_2 : List UInt8 := dkwX9_word_2 ++ dktX9_word_3
def dkwX9_word_1 : List UInt8 := [42, 25, 6, 182, 0, 56, 54, 7, 28, 21, 7, 184, 0, 60, 61, 21, 7, 25, 6, 182, 0, 52]
abbrev dktX9_word_1 : List UInt8 := dkwX9_word_1 ++ dktX9_word_2
def dkwX9_word_0 : List UInt8 := [3, 61, 43, 78, 45, 190, 54, 4, 3, 54, 5, 21, 5, 21, 4, 162, 0, 54, 45, 21, 5, 50, 58, 6]
abbrev dktX9_word_0 : List UInt8 := dkwX9_word_0 ++ dktX9_word_1
theorem dksX9_word_0 : cX9_word.data.toList.drop 0 = dktX9_word_0 := by decide +kernel
theorem dksX9_word_1 : cX9_word.data.toList.drop 24 = dktX9_word_1 := dk_seg dksX9_word_0 24 rfl rfl
theorem dksX9_word_2 : cX9_word.data.toList.drop 46 = dktX9_word_2 := dk_seg dksX9_word_1 22 rfl rfl
theorem dksX9_word_3 : cX9_word.data.toList.drop 69 = dktX9_word_3 := dk_seg dksX9_word_2 23 rfl rfl
theorem dX9_word_0 : decode cX9_word 0 = .ok (.iconst 0, 1) := dk_3 (dk_at dksX9_word_0 0 rfl rfl)
theorem dX9_word_1 : decode cX9_word 1 = .ok (.istore_n 2, 1) := dk_61 (dk_at dksX9_word_0 1 rfl rfl)
theorem dX9_word_2 : decode cX9_word 2 = .ok (.aload_n 1, 1) := dk_43 (dk_at dksX9_word_0 2 rfl rfl)
theorem dX9_word_3 : decode cX9_word 3 = .ok (.astore_n 3, 1) := dk_78 (dk_at dksX9_word_0 3 rfl rfl)
theorem dX9_word_4 : decode cX9_word 4 = .ok (.aload_n 3, 1) := dk_45 (dk_at dksX9_word_0 4 rfl rfl)
theorem dX9_word_5 : decode cX9_word 5 = .ok (.arraylength, 1) := dk_190 (dk_at dksX9_word_0 5 rfl rfl)
theorem dX9_word_6 : decode cX9_word 6 = .ok (.istore 4, 2) := dk_54 4 (dk_at dksX9_word_0 6 rfl rfl)
theorem dX9_word_8 : decode cX9_word 8 = .ok (.iconst 0, 1) := dk_3 (dk_at dksX9_word_0 8 rfl rfl)
theorem dX9_word_9 : decode cX9_word 9 = .ok (.istore 5, 2) := dk_54 5 (dk_at dksX9_word_0 9 rfl rfl)
theorem dX9_word_11 : decode cX9_word 11 = .ok (.iload 5, 2) := dk_21 5 (dk_at dksX9_word_0 11 rfl rfl)
theorem dX9_word_13 : decode cX9_word 13 = .ok (.iload 4, 2) := dk_21 4 (dk_at dksX9_word_0 13 rfl rfl)
theorem dX9_word_15 : decode cX9_word 15 = .ok (.if_icmp .ge 54, 3) := dk_162 0 54 (dk_at dksX9_word_0 15 rfl rfl)
theorem dX9_word_18 : decode cX9_word 18 = .ok (.aload_n 3, 1) := dk_45 (dk_at dksX9_word_0 18 rfl rfl)
theorem dX9_word_19 : decode cX9_word 19 = .ok (.iload 5, 2) := dk_21 5 (dk_at dksX9_word_0 19 rfl rfl)
theorem dX9_word_21 : decode cX9_word 21 = .ok (.aaload, 1) := dk_50 (dk_at dksX9_word_0 21 rfl rfl)
theorem dX9_word_22 : decode cX9_word 22 = .ok (.astore 6, 2) := dk_58 6 (dk_at dksX9_word_0 22 rfl rfl)
theorem dX9_word_24 : decode cX9_word 24 = .ok (.aload_n 0, 1) := dk_42 (dk_at dksX9_word_1 0 rfl rfl)
theorem dX9_word_25 : decode cX9_word 25 = .ok (.aload 6, 2) := dk_25 6 (dk_at dksX9_word_1 1 rfl rfl)
theorem dX9_word_27 : decode cX9_word 27 = .ok (.invokevirtual 56, 3) := dk_182 0 56 (dk_at dksX9_word_1 3 rfl rfl)
theorem dX9_word_30 : decode cX9_word 30 = .ok (.istore 7, 2) := dk_54 7 (dk_at dksX9_word_1 6 rfl rfl)
theorem dX9_word_32 : decode cX9_word 32 = .ok (.iload_n 2, 1) := dk_28 (dk_at dksX9_word_1 8 rfl rfl)
theorem dX9_word_33 : decode cX9_word 33 = .ok (.iload 7, 2) := dk_21 7 (dk_at dksX9_word_1 9 rfl rfl)
theorem dX9_word_35 : decode cX9_word 35 = .ok (.invokestatic 60, 3) := dk_184 0 60 (dk_at dksX9_word_1 11 rfl rfl)
theorem dX9_word_38 : decode cX9_word 38 = .ok (.istore_n 2, 1) := dk_61 (dk_at dksX9_word_1 14 rfl rfl)
theorem dX9_word_39 : decode cX9_word 39 = .ok (.iload 7, 2) := dk_21 7 (dk_at dksX9_word_1 15 rfl rfl)
theorem dX9_word_41 : decode cX9_word 41 = .ok (.aload 6, 2) := dk_25 6 (dk_at dksX9_word_1 17 rfl rfl)
theorem dX9_word_43 : decode cX9_word 43 = .ok (.invokevirtual 52, 3) := dk_182 0 52 (dk_at dksX9_word_1 19 rfl rfl)
theorem dX9_word_46 : decode cX9_word 46 = .ok (.if_icmp .ne 17, 3) := dk_160 0 17 (dk_at dksX9_word_2 0 rfl rfl)
theorem dX9_word_49 : decode cX9_word 49 = .ok (.aload_n 0, 1) := dk_42 (dk_at dksX9_word_2 3 rfl rfl)
theorem dX9_word_50 : decode cX9_word 50 = .ok (.dup, 1) := dk_89 (dk_at dksX9_word_2 4 rfl rfl)
theorem dX9_word_51 : decode cX9_word 51 = .ok (.getfield 13, 3) := dk_180 0 13 (dk_at dksX9_word_2 5 rfl rfl)
theorem dX9_word_54 : decode cX9_word 54 = .ok (.iload 7, 2) := dk_21 7 (dk_at dksX9_word_2 8 rfl rfl)
theorem dX9_word_56 : decode cX9_word 56 = .ok (.iadd, 1) := dk_96 (dk_at dksX9_word_2 10 rfl rfl)
theorem dX9_word_57 : decode cX9_word 57 = .ok (.putfield 13, 3) := dk_181 0 13 (dk_at dksX9_word_2 11 rfl rfl)
theorem dX9_word_60 : decode cX9_word 60 = .ok (.aload 6, 2) := dk_25 6 (dk_at dksX9_word_2 14 rfl rfl)
theorem dX9_word_62 : decode cX9_word 62 = .ok (.areturn, 1) := dk_176 (dk_at dksX9_word_2 16 rfl rfl)
theorem dX9_word_63 : decode cX9_word 63 = .ok (.iinc 5 1, 3) := dk_132 5 1 (dk_at dksX9_word_2 17 rfl rfl)
theorem dX9_word_66 : decode cX9_word 66 = .ok (.goto (-55), 3) := dk_167 255 201 (dk_at dksX9_word_2 20 rfl rfl)
theorem dX9_word_69 : decode cX9_word 69 = .ok (.new 37, 3) := dk_187 0 37 (dk_at dksX9_word_3 0 rfl rfl)
theorem dX9_word_72 : decode cX9_word 72 = .ok (.dup, 1) := dk_89 (dk_at dksX9_word_3 3 rfl rfl)
theorem dX9_word_73 : decode cX9_word 73 = .ok (.aload_n 0, 1) := dk_42 (dk_at dksX9_word_3 4 rfl rfl)
theorem dX9_word_74 : decode cX9_word 74 = .ok (.getfield 13, 3) := dk_180 0 13 (dk_at dksX9_word_3 5 rfl rfl)
theorem dX9_word_77 : decode cX9_word 77 = .ok (.iload_n 2, 1) := dk_28 (dk_at dksX9_word_3 8 rfl rfl)
theorem dX9_word_78 : decode cX9_word 78 = .ok (.iadd, 1) := dk_96 (dk_at dksX9_word_3 9 rfl rfl)
theorem dX9_word_79 : decode cX9_word 79 = .ok (.invokespecial 39, 3) := dk_183 0 39 (dk_at dksX9_word_3 10 rfl rfl)
theorem dX9_word_82 : decode cX9_word 82 = .ok (.athrow, 1) := dk_191 (dk_at dksX9_word_3 13 rfl rfl)
abbrev cX9_common : ByteArray := prog_3_method_8_code
def yX9_common : MethodName := ⟨RX9, "common", "(Ljava/lang/String;)I"⟩
def dkwX9_common_2 : List UInt8 := [160, 0, 12, 132, 2, 1, 132, 3, 1, 167, 255, 211, 28, 172]
abbrev dktX9_common_2 : List UInt8 := dkwX9_common_2 ++ []
def dkwX9_common_1 : List UInt8 := [185, 0, 17, 1, 0, 162, 0, 30, 42, 180, 0, 7, 29, 185, 0, 23, 2, 0, 43, 28, 182, 0, 55]
abbrev dktX9_common_1 : List UInt8 := dkwX9_common_1 ++ dktX9_common_2
def dkwX9_common_0 : List UInt8 := [3, 61, 42, 180, 0, 13, 62, 28, 43, 182, 0, 52, 162, 0, 43, 29, 42, 180, 0, 7]
abbrev dktX9_common_0 : List UInt8 := dkwX9_common_0 ++ dktX9_common_1
theorem dksX9_common_0 : cX9_common.data.toList.drop 0 = dktX9_common_0 := by decide +kernel
theorem dksX9_common_1 : cX9_common.data.toList.drop 20 = dktX9_common_1 := dk_seg dksX9_common_0 20 rfl rfl
theorem dksX9_common_2 : cX9_common.data.toList.drop 43 = dktX9_common_2 := dk_seg dksX9_common_1 23 rfl rfl
theorem dX9_common_0 : decode cX9_common 0 = .ok (.iconst 0, 1) := dk_3 (dk_at dksX9_common_0 0 rfl rfl)
theorem dX9_common_1 : decode cX9_common 1 = .ok (.istore_n 2, 1) := dk_61 (dk_at dksX9_common_0 1 rfl rfl)
theorem dX9_common_2 : decode cX9_common 2 = .ok (.aload_n 0, 1) := dk_42 (dk_at dksX9_common_0 2 rfl rfl)
theorem dX9_common_3 : decode cX9_common 3 = .ok (.getfield 13, 3) := dk_180 0 13 (dk_at dksX9_common_0 3 rfl rfl)
theorem dX9_common_6 : decode cX9_common 6 = .ok (.istore_n 3, 1) := dk_62 (dk_at dksX9_common_0 6 rfl rfl)
theorem dX9_common_7 : decode cX9_common 7 = .ok (.iload_n 2, 1) := dk_28 (dk_at dksX9_common_0 7 rfl rfl)
theorem dX9_common_8 : decode cX9_common 8 = .ok (.aload_n 1, 1) := dk_43 (dk_at dksX9_common_0 8 rfl rfl)
theorem dX9_common_9 : decode cX9_common 9 = .ok (.invokevirtual 52, 3) := dk_182 0 52 (dk_at dksX9_common_0 9 rfl rfl)
theorem dX9_common_12 : decode cX9_common 12 = .ok (.if_icmp .ge 43, 3) := dk_162 0 43 (dk_at dksX9_common_0 12 rfl rfl)
theorem dX9_common_15 : decode cX9_common 15 = .ok (.iload_n 3, 1) := dk_29 (dk_at dksX9_common_0 15 rfl rfl)
theorem dX9_common_16 : decode cX9_common 16 = .ok (.aload_n 0, 1) := dk_42 (dk_at dksX9_common_0 16 rfl rfl)
theorem dX9_common_17 : decode cX9_common 17 = .ok (.getfield 7, 3) := dk_180 0 7 (dk_at dksX9_common_0 17 rfl rfl)
theorem dX9_common_20 : decode cX9_common 20 = .ok (.invokeinterface 17 1, 5) := by decide +kernel
theorem dX9_common_25 : decode cX9_common 25 = .ok (.if_icmp .ge 30, 3) := dk_162 0 30 (dk_at dksX9_common_1 5 rfl rfl)
theorem dX9_common_28 : decode cX9_common 28 = .ok (.aload_n 0, 1) := dk_42 (dk_at dksX9_common_1 8 rfl rfl)
theorem dX9_common_29 : decode cX9_common 29 = .ok (.getfield 7, 3) := dk_180 0 7 (dk_at dksX9_common_1 9 rfl rfl)
theorem dX9_common_32 : decode cX9_common 32 = .ok (.iload_n 3, 1) := dk_29 (dk_at dksX9_common_1 12 rfl rfl)
theorem dX9_common_33 : decode cX9_common 33 = .ok (.invokeinterface 23 2, 5) := by decide +kernel
theorem dX9_common_38 : decode cX9_common 38 = .ok (.aload_n 1, 1) := dk_43 (dk_at dksX9_common_1 18 rfl rfl)
theorem dX9_common_39 : decode cX9_common 39 = .ok (.iload_n 2, 1) := dk_28 (dk_at dksX9_common_1 19 rfl rfl)
theorem dX9_common_40 : decode cX9_common 40 = .ok (.invokevirtual 55, 3) := dk_182 0 55 (dk_at dksX9_common_1 20 rfl rfl)
theorem dX9_common_43 : decode cX9_common 43 = .ok (.if_icmp .ne 12, 3) := dk_160 0 12 (dk_at dksX9_common_2 0 rfl rfl)
theorem dX9_common_46 : decode cX9_common 46 = .ok (.iinc 2 1, 3) := dk_132 2 1 (dk_at dksX9_common_2 3 rfl rfl)
theorem dX9_common_49 : decode cX9_common 49 = .ok (.iinc 3 1, 3) := dk_132 3 1 (dk_at dksX9_common_2 6 rfl rfl)
theorem dX9_common_52 : decode cX9_common 52 = .ok (.goto (-45), 3) := dk_167 255 211 (dk_at dksX9_common_2 9 rfl rfl)
theorem dX9_common_55 : decode cX9_common 55 = .ok (.iload_n 2, 1) := dk_28 (dk_at dksX9_common_2 12 rfl rfl)
theorem dX9_common_56 : decode cX9_common 56 = .ok (.ireturn, 1) := dk_172 (dk_at dksX9_common_2 13 rfl rfl)
abbrev cX9_digit : ByteArray := prog_3_method_4_code
def yX9_digit : MethodName := ⟨RX9, "digit", "()I"⟩
def dkwX9_digit_0 : List UInt8 := [42, 16, 48, 16, 57, 182, 0, 42, 172]
abbrev dktX9_digit_0 : List UInt8 := dkwX9_digit_0 ++ []
theorem dksX9_digit_0 : cX9_digit.data.toList.drop 0 = dktX9_digit_0 := by decide +kernel
theorem dX9_digit_0 : decode cX9_digit 0 = .ok (.aload_n 0, 1) := dk_42 (dk_at dksX9_digit_0 0 rfl rfl)
theorem dX9_digit_1 : decode cX9_digit 1 = .ok (.bipush 48, 2) := dk_16 48 (dk_at dksX9_digit_0 1 rfl rfl)
theorem dX9_digit_3 : decode cX9_digit 3 = .ok (.bipush 57, 2) := dk_16 57 (dk_at dksX9_digit_0 3 rfl rfl)
theorem dX9_digit_5 : decode cX9_digit 5 = .ok (.invokevirtual 42, 3) := dk_182 0 42 (dk_at dksX9_digit_0 5 rfl rfl)
theorem dX9_digit_8 : decode cX9_digit 8 = .ok (.ireturn, 1) := dk_172 (dk_at dksX9_digit_0 8 rfl rfl)
abbrev cX9_take : ByteArray := prog_3_method_3_code
def yX9_take : MethodName := ⟨RX9, "take", "(II)I"⟩
def dkwX9_take_2 : List UInt8 := [100, 172]
abbrev dktX9_take_2 : List UInt8 := dkwX9_take_2 ++ []
def dkwX9_take_1 : List UInt8 := [180, 0, 13, 4, 96, 181, 0, 13, 42, 180, 0, 7, 42, 180, 0, 13, 4, 100, 185, 0, 23, 2, 0, 27]
abbrev dktX9_take_1 : List UInt8 := dkwX9_take_1 ++ dktX9_take_2
def dkwX9_take_0 : List UInt8 := [42, 27, 28, 182, 0, 33, 154, 0, 15, 187, 0, 37, 89, 42, 180, 0, 13, 183, 0, 39, 191, 42, 89]
abbrev dktX9_take_0 : List UInt8 := dkwX9_take_0 ++ dktX9_take_1
theorem dksX9_take_0 : cX9_take.data.toList.drop 0 = dktX9_take_0 := by decide +kernel
theorem dksX9_take_1 : cX9_take.data.toList.drop 23 = dktX9_take_1 := dk_seg dksX9_take_0 23 rfl rfl
theorem dksX9_take_2 : cX9_take.data.toList.drop 47 = dktX9_take_2 := dk_seg dksX9_take_1 24 rfl rfl
theorem dX9_take_0 : decode cX9_take 0 = .ok (.aload_n 0, 1) := dk_42 (dk_at dksX9_take_0 0 rfl rfl)
theorem dX9_take_1 : decode cX9_take 1 = .ok (.iload_n 1, 1) := dk_27 (dk_at dksX9_take_0 1 rfl rfl)
theorem dX9_take_2 : decode cX9_take 2 = .ok (.iload_n 2, 1) := dk_28 (dk_at dksX9_take_0 2 rfl rfl)
theorem dX9_take_3 : decode cX9_take 3 = .ok (.invokevirtual 33, 3) := dk_182 0 33 (dk_at dksX9_take_0 3 rfl rfl)
theorem dX9_take_6 : decode cX9_take 6 = .ok (.ifCond .ne 15, 3) := dk_154 0 15 (dk_at dksX9_take_0 6 rfl rfl)
theorem dX9_take_9 : decode cX9_take 9 = .ok (.new 37, 3) := dk_187 0 37 (dk_at dksX9_take_0 9 rfl rfl)
theorem dX9_take_12 : decode cX9_take 12 = .ok (.dup, 1) := dk_89 (dk_at dksX9_take_0 12 rfl rfl)
theorem dX9_take_13 : decode cX9_take 13 = .ok (.aload_n 0, 1) := dk_42 (dk_at dksX9_take_0 13 rfl rfl)
theorem dX9_take_14 : decode cX9_take 14 = .ok (.getfield 13, 3) := dk_180 0 13 (dk_at dksX9_take_0 14 rfl rfl)
theorem dX9_take_17 : decode cX9_take 17 = .ok (.invokespecial 39, 3) := dk_183 0 39 (dk_at dksX9_take_0 17 rfl rfl)
theorem dX9_take_20 : decode cX9_take 20 = .ok (.athrow, 1) := dk_191 (dk_at dksX9_take_0 20 rfl rfl)
theorem dX9_take_21 : decode cX9_take 21 = .ok (.aload_n 0, 1) := dk_42 (dk_at dksX9_take_0 21 rfl rfl)
theorem dX9_take_22 : decode cX9_take 22 = .ok (.dup, 1) := dk_89 (dk_at dksX9_take_0 22 rfl rfl)
theorem dX9_take_23 : decode cX9_take 23 = .ok (.getfield 13, 3) := dk_180 0 13 (dk_at dksX9_take_1 0 rfl rfl)
theorem dX9_take_26 : decode cX9_take 26 = .ok (.iconst 1, 1) := dk_4 (dk_at dksX9_take_1 3 rfl rfl)
theorem dX9_take_27 : decode cX9_take 27 = .ok (.iadd, 1) := dk_96 (dk_at dksX9_take_1 4 rfl rfl)
theorem dX9_take_28 : decode cX9_take 28 = .ok (.putfield 13, 3) := dk_181 0 13 (dk_at dksX9_take_1 5 rfl rfl)
theorem dX9_take_31 : decode cX9_take 31 = .ok (.aload_n 0, 1) := dk_42 (dk_at dksX9_take_1 8 rfl rfl)
theorem dX9_take_32 : decode cX9_take 32 = .ok (.getfield 7, 3) := dk_180 0 7 (dk_at dksX9_take_1 9 rfl rfl)
theorem dX9_take_35 : decode cX9_take 35 = .ok (.aload_n 0, 1) := dk_42 (dk_at dksX9_take_1 12 rfl rfl)
theorem dX9_take_36 : decode cX9_take 36 = .ok (.getfield 13, 3) := dk_180 0 13 (dk_at dksX9_take_1 13 rfl rfl)
theorem dX9_take_39 : decode cX9_take 39 = .ok (.iconst 1, 1) := dk_4 (dk_at dksX9_take_1 16 rfl rfl)
theorem dX9_take_40 : decode cX9_take 40 = .ok (.isub, 1) := dk_100 (dk_at dksX9_take_1 17 rfl rfl)
theorem dX9_take_41 : decode cX9_take 41 = .ok (.invokeinterface 23 2, 5) := by decide +kernel
theorem dX9_take_46 : decode cX9_take 46 = .ok (.iload_n 1, 1) := dk_27 (dk_at dksX9_take_1 23 rfl rfl)
theorem dX9_take_47 : decode cX9_take 47 = .ok (.isub, 1) := dk_100 (dk_at dksX9_take_2 0 rfl rfl)
theorem dX9_take_48 : decode cX9_take 48 = .ok (.ireturn, 1) := dk_172 (dk_at dksX9_take_2 1 rfl rfl)
abbrev cX9_isNext : ByteArray := prog_3_method_2_code
def yX9_isNext : MethodName := ⟨RX9, "isNext", "(II)Z"⟩
def dkwX9_isNext_1 : List UInt8 := [185, 0, 23, 2, 0, 133, 27, 133, 28, 133, 184, 0, 27, 153, 0, 7, 4, 167, 0, 4, 3, 172]
abbrev dktX9_isNext_1 : List UInt8 := dkwX9_isNext_1 ++ []
def dkwX9_isNext_0 : List UInt8 := [42, 180, 0, 13, 42, 180, 0, 7, 185, 0, 17, 1, 0, 162, 0, 31, 42, 180, 0, 7, 42, 180, 0, 13]
abbrev dktX9_isNext_0 : List UInt8 := dkwX9_isNext_0 ++ dktX9_isNext_1
theorem dksX9_isNext_0 : cX9_isNext.data.toList.drop 0 = dktX9_isNext_0 := by decide +kernel
theorem dksX9_isNext_1 : cX9_isNext.data.toList.drop 24 = dktX9_isNext_1 := dk_seg dksX9_isNext_0 24 rfl rfl
theorem dX9_isNext_0 : decode cX9_isNext 0 = .ok (.aload_n 0, 1) := dk_42 (dk_at dksX9_isNext_0 0 rfl rfl)
theorem dX9_isNext_1 : decode cX9_isNext 1 = .ok (.getfield 13, 3) := dk_180 0 13 (dk_at dksX9_isNext_0 1 rfl rfl)
theorem dX9_isNext_4 : decode cX9_isNext 4 = .ok (.aload_n 0, 1) := dk_42 (dk_at dksX9_isNext_0 4 rfl rfl)
theorem dX9_isNext_5 : decode cX9_isNext 5 = .ok (.getfield 7, 3) := dk_180 0 7 (dk_at dksX9_isNext_0 5 rfl rfl)
theorem dX9_isNext_8 : decode cX9_isNext 8 = .ok (.invokeinterface 17 1, 5) := by decide +kernel
theorem dX9_isNext_13 : decode cX9_isNext 13 = .ok (.if_icmp .ge 31, 3) := dk_162 0 31 (dk_at dksX9_isNext_0 13 rfl rfl)
theorem dX9_isNext_16 : decode cX9_isNext 16 = .ok (.aload_n 0, 1) := dk_42 (dk_at dksX9_isNext_0 16 rfl rfl)
theorem dX9_isNext_17 : decode cX9_isNext 17 = .ok (.getfield 7, 3) := dk_180 0 7 (dk_at dksX9_isNext_0 17 rfl rfl)
theorem dX9_isNext_20 : decode cX9_isNext 20 = .ok (.aload_n 0, 1) := dk_42 (dk_at dksX9_isNext_0 20 rfl rfl)
theorem dX9_isNext_21 : decode cX9_isNext 21 = .ok (.getfield 13, 3) := dk_180 0 13 (dk_at dksX9_isNext_0 21 rfl rfl)
theorem dX9_isNext_24 : decode cX9_isNext 24 = .ok (.invokeinterface 23 2, 5) := by decide +kernel
theorem dX9_isNext_29 : decode cX9_isNext 29 = .ok (.i2l, 1) := dk_133 (dk_at dksX9_isNext_1 5 rfl rfl)
theorem dX9_isNext_30 : decode cX9_isNext 30 = .ok (.iload_n 1, 1) := dk_27 (dk_at dksX9_isNext_1 6 rfl rfl)
theorem dX9_isNext_31 : decode cX9_isNext 31 = .ok (.i2l, 1) := dk_133 (dk_at dksX9_isNext_1 7 rfl rfl)
theorem dX9_isNext_32 : decode cX9_isNext 32 = .ok (.iload_n 2, 1) := dk_28 (dk_at dksX9_isNext_1 8 rfl rfl)
theorem dX9_isNext_33 : decode cX9_isNext 33 = .ok (.i2l, 1) := dk_133 (dk_at dksX9_isNext_1 9 rfl rfl)
theorem dX9_isNext_34 : decode cX9_isNext 34 = .ok (.invokestatic 27, 3) := dk_184 0 27 (dk_at dksX9_isNext_1 10 rfl rfl)
theorem dX9_isNext_37 : decode cX9_isNext 37 = .ok (.ifCond .eq 7, 3) := dk_153 0 7 (dk_at dksX9_isNext_1 13 rfl rfl)
theorem dX9_isNext_40 : decode cX9_isNext 40 = .ok (.iconst 1, 1) := dk_4 (dk_at dksX9_isNext_1 16 rfl rfl)
theorem dX9_isNext_41 : decode cX9_isNext 41 = .ok (.goto 4, 3) := dk_167 0 4 (dk_at dksX9_isNext_1 17 rfl rfl)
theorem dX9_isNext_44 : decode cX9_isNext 44 = .ok (.iconst 0, 1) := dk_3 (dk_at dksX9_isNext_1 20 rfl rfl)
theorem dX9_isNext_45 : decode cX9_isNext 45 = .ok (.ireturn, 1) := dk_172 (dk_at dksX9_isNext_1 21 rfl rfl)
abbrev cX9_number : ByteArray := prog_3_method_5_code
def yX9_number : MethodName := ⟨RX9, "number", "()I"⟩
def dkwX9_number_1 : List UInt8 := [96, 167, 0, 4, 27, 172]
abbrev dktX9_number_1 : List UInt8 := dkwX9_number_1 ++ []
def dkwX9_number_0 : List UInt8 := [42, 182, 0, 46, 60, 42, 16, 48, 16, 57, 182, 0, 33, 153, 0, 15, 16, 10, 27, 104, 42, 182, 0, 46]
abbrev dktX9_number_0 : List UInt8 := dkwX9_number_0 ++ dktX9_number_1
theorem dksX9_number_0 : cX9_number.data.toList.drop 0 = dktX9_number_0 := by decide +kernel
theorem dksX9_number_1 : cX9_number.data.toList.drop 24 = dktX9_number_1 := dk_seg dksX9_number_0 24 rfl rfl
theorem dX9_number_0 : decode cX9_number 0 = .ok (.aload_n 0, 1) := dk_42 (dk_at dksX9_number_0 0 rfl rfl)
theorem dX9_number_1 : decode cX9_number 1 = .ok (.invokevirtual 46, 3) := dk_182 0 46 (dk_at dksX9_number_0 1 rfl rfl)
theorem dX9_number_4 : decode cX9_number 4 = .ok (.istore_n 1, 1) := dk_60 (dk_at dksX9_number_0 4 rfl rfl)
theorem dX9_number_5 : decode cX9_number 5 = .ok (.aload_n 0, 1) := dk_42 (dk_at dksX9_number_0 5 rfl rfl)
theorem dX9_number_6 : decode cX9_number 6 = .ok (.bipush 48, 2) := dk_16 48 (dk_at dksX9_number_0 6 rfl rfl)
theorem dX9_number_8 : decode cX9_number 8 = .ok (.bipush 57, 2) := dk_16 57 (dk_at dksX9_number_0 8 rfl rfl)
theorem dX9_number_10 : decode cX9_number 10 = .ok (.invokevirtual 33, 3) := dk_182 0 33 (dk_at dksX9_number_0 10 rfl rfl)
theorem dX9_number_13 : decode cX9_number 13 = .ok (.ifCond .eq 15, 3) := dk_153 0 15 (dk_at dksX9_number_0 13 rfl rfl)
theorem dX9_number_16 : decode cX9_number 16 = .ok (.bipush 10, 2) := dk_16 10 (dk_at dksX9_number_0 16 rfl rfl)
theorem dX9_number_18 : decode cX9_number 18 = .ok (.iload_n 1, 1) := dk_27 (dk_at dksX9_number_0 18 rfl rfl)
theorem dX9_number_19 : decode cX9_number 19 = .ok (.imul, 1) := dk_104 (dk_at dksX9_number_0 19 rfl rfl)
theorem dX9_number_20 : decode cX9_number 20 = .ok (.aload_n 0, 1) := dk_42 (dk_at dksX9_number_0 20 rfl rfl)
theorem dX9_number_21 : decode cX9_number 21 = .ok (.invokevirtual 46, 3) := dk_182 0 46 (dk_at dksX9_number_0 21 rfl rfl)
theorem dX9_number_24 : decode cX9_number 24 = .ok (.iadd, 1) := dk_96 (dk_at dksX9_number_1 0 rfl rfl)
theorem dX9_number_25 : decode cX9_number 25 = .ok (.goto 4, 3) := dk_167 0 4 (dk_at dksX9_number_1 1 rfl rfl)
theorem dX9_number_28 : decode cX9_number 28 = .ok (.iload_n 1, 1) := dk_27 (dk_at dksX9_number_1 4 rfl rfl)
theorem dX9_number_29 : decode cX9_number 29 = .ok (.ireturn, 1) := dk_172 (dk_at dksX9_number_1 5 rfl rfl)
abbrev cX9_digitAfter : ByteArray := prog_3_method_6_code
def yX9_digitAfter : MethodName := ⟨RX9, "digitAfter", "(C)I"⟩
def dkwX9_digitAfter_0 : List UInt8 := [42, 27, 27, 182, 0, 42, 61, 42, 182, 0, 46, 172]
abbrev dktX9_digitAfter_0 : List UInt8 := dkwX9_digitAfter_0 ++ []
theorem dksX9_digitAfter_0 : cX9_digitAfter.data.toList.drop 0 = dktX9_digitAfter_0 := by decide +kernel
theorem dX9_digitAfter_0 : decode cX9_digitAfter 0 = .ok (.aload_n 0, 1) := dk_42 (dk_at dksX9_digitAfter_0 0 rfl rfl)
theorem dX9_digitAfter_1 : decode cX9_digitAfter 1 = .ok (.iload_n 1, 1) := dk_27 (dk_at dksX9_digitAfter_0 1 rfl rfl)
theorem dX9_digitAfter_2 : decode cX9_digitAfter 2 = .ok (.iload_n 1, 1) := dk_27 (dk_at dksX9_digitAfter_0 2 rfl rfl)
theorem dX9_digitAfter_3 : decode cX9_digitAfter 3 = .ok (.invokevirtual 42, 3) := dk_182 0 42 (dk_at dksX9_digitAfter_0 3 rfl rfl)
theorem dX9_digitAfter_6 : decode cX9_digitAfter 6 = .ok (.istore_n 2, 1) := dk_61 (dk_at dksX9_digitAfter_0 6 rfl rfl)
theorem dX9_digitAfter_7 : decode cX9_digitAfter 7 = .ok (.aload_n 0, 1) := dk_42 (dk_at dksX9_digitAfter_0 7 rfl rfl)
theorem dX9_digitAfter_8 : decode cX9_digitAfter 8 = .ok (.invokevirtual 46, 3) := dk_182 0 46 (dk_at dksX9_digitAfter_0 8 rfl rfl)
theorem dX9_digitAfter_11 : decode cX9_digitAfter 11 = .ok (.ireturn, 1) := dk_172 (dk_at dksX9_digitAfter_0 11 rfl rfl)
abbrev cX9_numberAfter : ByteArray := prog_3_method_7_code
def yX9_numberAfter : MethodName := ⟨RX9, "numberAfter", "(C)I"⟩
def dkwX9_numberAfter_0 : List UInt8 := [42, 27, 27, 182, 0, 42, 61, 42, 182, 0, 49, 172]
abbrev dktX9_numberAfter_0 : List UInt8 := dkwX9_numberAfter_0 ++ []
theorem dksX9_numberAfter_0 : cX9_numberAfter.data.toList.drop 0 = dktX9_numberAfter_0 := by decide +kernel
theorem dX9_numberAfter_0 : decode cX9_numberAfter 0 = .ok (.aload_n 0, 1) := dk_42 (dk_at dksX9_numberAfter_0 0 rfl rfl)
theorem dX9_numberAfter_1 : decode cX9_numberAfter 1 = .ok (.iload_n 1, 1) := dk_27 (dk_at dksX9_numberAfter_0 1 rfl rfl)
theorem dX9_numberAfter_2 : decode cX9_numberAfter 2 = .ok (.iload_n 1, 1) := dk_27 (dk_at dksX9_numberAfter_0 2 rfl rfl)
theorem dX9_numberAfter_3 : decode cX9_numberAfter 3 = .ok (.invokevirtual 42, 3) := dk_182 0 42 (dk_at dksX9_numberAfter_0 3 rfl rfl)
theorem dX9_numberAfter_6 : decode cX9_numberAfter 6 = .ok (.istore_n 2, 1) := dk_61 (dk_at dksX9_numberAfter_0 6 rfl rfl)
theorem dX9_numberAfter_7 : decode cX9_numberAfter 7 = .ok (.aload_n 0, 1) := dk_42 (dk_at dksX9_numberAfter_0 7 rfl rfl)
theorem dX9_numberAfter_8 : decode cX9_numberAfter 8 = .ok (.invokevirtual 49, 3) := dk_182 0 49 (dk_at dksX9_numberAfter_0 8 rfl rfl)
theorem dX9_numberAfter_11 : decode cX9_numberAfter 11 = .ok (.ireturn, 1) := dk_172 (dk_at dksX9_numberAfter_0 11 rfl rfl)
abbrev cX9_thrown : ByteArray := prog_3_method_10_code
def yX9_thrown : MethodName := ⟨RX9, "thrown", "(Ljava/lang/String;)LSkipSchool$Order;"⟩
def dkwX9_thrown_2 : List UInt8 := [182, 0, 69, 79, 183, 0, 74, 176]
abbrev dktX9_thrown_2 : List UInt8 := dkwX9_thrown_2 ++ []
def dkwX9_thrown_1 : List UInt8 := [43, 7, 188, 10, 89, 3, 28, 79, 89, 4, 29, 79, 89, 5, 21, 4, 79, 89, 6, 42, 16, 42]
abbrev dktX9_thrown_1 : List UInt8 := dkwX9_thrown_1 ++ dktX9_thrown_2
def dkwX9_thrown_0 : List UInt8 := [42, 182, 0, 46, 61, 42, 16, 62, 182, 0, 65, 62, 42, 16, 64, 182, 0, 69, 54, 4, 187, 0, 72, 89]
abbrev dktX9_thrown_0 : List UInt8 := dkwX9_thrown_0 ++ dktX9_thrown_1
theorem dksX9_thrown_0 : cX9_thrown.data.toList.drop 0 = dktX9_thrown_0 := by decide +kernel
theorem dksX9_thrown_1 : cX9_thrown.data.toList.drop 24 = dktX9_thrown_1 := dk_seg dksX9_thrown_0 24 rfl rfl
theorem dksX9_thrown_2 : cX9_thrown.data.toList.drop 46 = dktX9_thrown_2 := dk_seg dksX9_thrown_1 22 rfl rfl
theorem dX9_thrown_0 : decode cX9_thrown 0 = .ok (.aload_n 0, 1) := dk_42 (dk_at dksX9_thrown_0 0 rfl rfl)
theorem dX9_thrown_1 : decode cX9_thrown 1 = .ok (.invokevirtual 46, 3) := dk_182 0 46 (dk_at dksX9_thrown_0 1 rfl rfl)
theorem dX9_thrown_4 : decode cX9_thrown 4 = .ok (.istore_n 2, 1) := dk_61 (dk_at dksX9_thrown_0 4 rfl rfl)
theorem dX9_thrown_5 : decode cX9_thrown 5 = .ok (.aload_n 0, 1) := dk_42 (dk_at dksX9_thrown_0 5 rfl rfl)
theorem dX9_thrown_6 : decode cX9_thrown 6 = .ok (.bipush 62, 2) := dk_16 62 (dk_at dksX9_thrown_0 6 rfl rfl)
theorem dX9_thrown_8 : decode cX9_thrown 8 = .ok (.invokevirtual 65, 3) := dk_182 0 65 (dk_at dksX9_thrown_0 8 rfl rfl)
theorem dX9_thrown_11 : decode cX9_thrown 11 = .ok (.istore_n 3, 1) := dk_62 (dk_at dksX9_thrown_0 11 rfl rfl)
theorem dX9_thrown_12 : decode cX9_thrown 12 = .ok (.aload_n 0, 1) := dk_42 (dk_at dksX9_thrown_0 12 rfl rfl)
theorem dX9_thrown_13 : decode cX9_thrown 13 = .ok (.bipush 64, 2) := dk_16 64 (dk_at dksX9_thrown_0 13 rfl rfl)
theorem dX9_thrown_15 : decode cX9_thrown 15 = .ok (.invokevirtual 69, 3) := dk_182 0 69 (dk_at dksX9_thrown_0 15 rfl rfl)
theorem dX9_thrown_18 : decode cX9_thrown 18 = .ok (.istore 4, 2) := dk_54 4 (dk_at dksX9_thrown_0 18 rfl rfl)
theorem dX9_thrown_20 : decode cX9_thrown 20 = .ok (.new 72, 3) := dk_187 0 72 (dk_at dksX9_thrown_0 20 rfl rfl)
theorem dX9_thrown_23 : decode cX9_thrown 23 = .ok (.dup, 1) := dk_89 (dk_at dksX9_thrown_0 23 rfl rfl)
theorem dX9_thrown_24 : decode cX9_thrown 24 = .ok (.aload_n 1, 1) := dk_43 (dk_at dksX9_thrown_1 0 rfl rfl)
theorem dX9_thrown_25 : decode cX9_thrown 25 = .ok (.iconst 4, 1) := dk_7 (dk_at dksX9_thrown_1 1 rfl rfl)
theorem dX9_thrown_26 : decode cX9_thrown 26 = .ok (.newarray .int, 2) := dk_188_10 (dk_at dksX9_thrown_1 2 rfl rfl)
theorem dX9_thrown_28 : decode cX9_thrown 28 = .ok (.dup, 1) := dk_89 (dk_at dksX9_thrown_1 4 rfl rfl)
theorem dX9_thrown_29 : decode cX9_thrown 29 = .ok (.iconst 0, 1) := dk_3 (dk_at dksX9_thrown_1 5 rfl rfl)
theorem dX9_thrown_30 : decode cX9_thrown 30 = .ok (.iload_n 2, 1) := dk_28 (dk_at dksX9_thrown_1 6 rfl rfl)
theorem dX9_thrown_31 : decode cX9_thrown 31 = .ok (.iastore, 1) := dk_79 (dk_at dksX9_thrown_1 7 rfl rfl)
theorem dX9_thrown_32 : decode cX9_thrown 32 = .ok (.dup, 1) := dk_89 (dk_at dksX9_thrown_1 8 rfl rfl)
theorem dX9_thrown_33 : decode cX9_thrown 33 = .ok (.iconst 1, 1) := dk_4 (dk_at dksX9_thrown_1 9 rfl rfl)
theorem dX9_thrown_34 : decode cX9_thrown 34 = .ok (.iload_n 3, 1) := dk_29 (dk_at dksX9_thrown_1 10 rfl rfl)
theorem dX9_thrown_35 : decode cX9_thrown 35 = .ok (.iastore, 1) := dk_79 (dk_at dksX9_thrown_1 11 rfl rfl)
theorem dX9_thrown_36 : decode cX9_thrown 36 = .ok (.dup, 1) := dk_89 (dk_at dksX9_thrown_1 12 rfl rfl)
theorem dX9_thrown_37 : decode cX9_thrown 37 = .ok (.iconst 2, 1) := dk_5 (dk_at dksX9_thrown_1 13 rfl rfl)
theorem dX9_thrown_38 : decode cX9_thrown 38 = .ok (.iload 4, 2) := dk_21 4 (dk_at dksX9_thrown_1 14 rfl rfl)
theorem dX9_thrown_40 : decode cX9_thrown 40 = .ok (.iastore, 1) := dk_79 (dk_at dksX9_thrown_1 16 rfl rfl)
theorem dX9_thrown_41 : decode cX9_thrown 41 = .ok (.dup, 1) := dk_89 (dk_at dksX9_thrown_1 17 rfl rfl)
theorem dX9_thrown_42 : decode cX9_thrown 42 = .ok (.iconst 3, 1) := dk_6 (dk_at dksX9_thrown_1 18 rfl rfl)
theorem dX9_thrown_43 : decode cX9_thrown 43 = .ok (.aload_n 0, 1) := dk_42 (dk_at dksX9_thrown_1 19 rfl rfl)
theorem dX9_thrown_44 : decode cX9_thrown 44 = .ok (.bipush 42, 2) := dk_16 42 (dk_at dksX9_thrown_1 20 rfl rfl)
theorem dX9_thrown_46 : decode cX9_thrown 46 = .ok (.invokevirtual 69, 3) := dk_182 0 69 (dk_at dksX9_thrown_2 0 rfl rfl)
theorem dX9_thrown_49 : decode cX9_thrown 49 = .ok (.iastore, 1) := dk_79 (dk_at dksX9_thrown_2 3 rfl rfl)
theorem dX9_thrown_50 : decode cX9_thrown 50 = .ok (.invokespecial 74, 3) := dk_183 0 74 (dk_at dksX9_thrown_2 4 rfl rfl)
theorem dX9_thrown_53 : decode cX9_thrown 53 = .ok (.areturn, 1) := dk_176 (dk_at dksX9_thrown_2 7 rfl rfl)
theorem q117 : (Jvm.Cond.initialized "SkipSchool$Parser") ∈ lw_all := lw_g (lw_at lw_m1 47 rfl) rfl
theorem q781 : (Jvm.Cond.selects "SkipSchool$Parser" ({ cls := "java/lang/Object", name := "getClass", desc := "()Ljava/lang/Class;" } : Jvm.MethodName) ({ cls := "java/lang/Object", name := "getClass", desc := "()Ljava/lang/Class;" } : Jvm.MethodName)) ∈ lw_all := lw_g (lw_at lw_m3 231 rfl) rfl
theorem q2134 : (Jvm.Cond.instantiable "SkipSchool$Parser" (2 : Nat)) ∈ lw_all := lw_g (lw_at lw_m9 144 rfl) rfl
theorem q2136 : (Jvm.Cond.instanceMethod ({ cls := "SkipSchool$Parser", name := "<init>", desc := "(Ljava/lang/CharSequence;)V" } : Jvm.MethodName)) ∈ lw_all := lw_g (lw_at lw_m9 146 rfl) rfl
theorem q2137 : (Jvm.Cond.code ({ cls := "SkipSchool$Parser", name := "<init>", desc := "(Ljava/lang/CharSequence;)V" } : Jvm.MethodName) prog_3_method_1_code (2 : Nat) (Option.none : Option Jvm.ClassFile.FieldType)) ∈ lw_all := lw_g (lw_at lw_m9 147 rfl) rfl
theorem q2138 : (Jvm.Cond.methodLink "SkipSchool$Parser" (1 : Nat) ({ cls := "java/lang/Object", name := "<init>", desc := "()V" } : Jvm.MethodName)) ∈ lw_all := lw_g (lw_at lw_m9 148 rfl) rfl
theorem q2139 : (Jvm.Cond.fieldLink "SkipSchool$Parser" (7 : Nat) "SkipSchool$Parser" "text" "Ljava/lang/CharSequence;") ∈ lw_all := lw_g (lw_at lw_m9 149 rfl) rfl
theorem q2140 : (Jvm.Cond.fieldLink "SkipSchool$Parser" (13 : Nat) "SkipSchool$Parser" "position" "I") ∈ lw_all := lw_g (lw_at lw_m9 150 rfl) rfl
theorem q2141 : (Jvm.Cond.laysFinal "SkipSchool$Parser" "SkipSchool$Parser" "text" "Ljava/lang/CharSequence;") ∈ lw_all := lw_g (lw_at lw_m9 151 rfl) rfl
theorem q2142 : (Jvm.Cond.soleField "SkipSchool$Parser" "text") ∈ lw_all := lw_g (lw_at lw_m9 152 rfl) rfl
theorem q2143 : (Jvm.Cond.lays "SkipSchool$Parser" "SkipSchool$Parser" "position" "I") ∈ lw_all := lw_g (lw_at lw_m9 153 rfl) rfl
theorem q2144 : (Jvm.Cond.soleField "SkipSchool$Parser" "position") ∈ lw_all := lw_g (lw_at lw_m9 154 rfl) rfl
theorem q2145 : (Jvm.Cond.superclass "SkipSchool$Parser" "java/lang/Object") ∈ lw_all := lw_g (lw_at lw_m9 155 rfl) rfl
theorem q2147 : (Jvm.Cond.instanceMethod ({ cls := "SkipSchool$Parser", name := "orders", desc := "()Ljava/util/ArrayList;" } : Jvm.MethodName)) ∈ lw_all := lw_g (lw_at lw_m9 157 rfl) rfl
theorem q2148 : (Jvm.Cond.selects "SkipSchool$Parser" ({ cls := "SkipSchool$Parser", name := "orders", desc := "()Ljava/util/ArrayList;" } : Jvm.MethodName) ({ cls := "SkipSchool$Parser", name := "orders", desc := "()Ljava/util/ArrayList;" } : Jvm.MethodName)) ∈ lw_all := lw_g (lw_at lw_m9 158 rfl) rfl
theorem q2149 : (Jvm.Cond.code ({ cls := "SkipSchool$Parser", name := "orders", desc := "()Ljava/util/ArrayList;" } : Jvm.MethodName) prog_3_method_12_code (4 : Nat) (Option.some (Jvm.ClassFile.FieldType.object "java/util/ArrayList"))) ∈ lw_all := lw_g (lw_at lw_m9 159 rfl) rfl
theorem q2150 : (Jvm.Cond.classLink "SkipSchool$Parser" (112 : Nat) "java/util/ArrayList") ∈ lw_all := lw_g (lw_at lw_m9 160 rfl) rfl
theorem q2151 : (Jvm.Cond.methodLink "SkipSchool$Parser" (114 : Nat) ({ cls := "java/util/ArrayList", name := "<init>", desc := "()V" } : Jvm.MethodName)) ∈ lw_all := lw_g (lw_at lw_m9 161 rfl) rfl
theorem q2152 : (Jvm.Cond.methodLink "SkipSchool$Parser" (115 : Nat) ({ cls := "SkipSchool$Parser", name := "order", desc := "()LSkipSchool$Order;" } : Jvm.MethodName)) ∈ lw_all := lw_g (lw_at lw_m9 162 rfl) rfl
theorem q2153 : (Jvm.Cond.privateMethod ({ cls := "SkipSchool$Parser", name := "order", desc := "()LSkipSchool$Order;" } : Jvm.MethodName)) ∈ lw_tbl := lw_at lw_m9 163 rfl
theorem q2154 : (Jvm.Cond.instanceMethod ({ cls := "SkipSchool$Parser", name := "order", desc := "()LSkipSchool$Order;" } : Jvm.MethodName)) ∈ lw_all := lw_g (lw_at lw_m9 164 rfl) rfl
theorem q2155 : (Jvm.Cond.code ({ cls := "SkipSchool$Parser", name := "order", desc := "()LSkipSchool$Order;" } : Jvm.MethodName) prog_3_method_11_code (6 : Nat) (Option.some (Jvm.ClassFile.FieldType.object "SkipSchool$Order"))) ∈ lw_all := lw_g (lw_at lw_m9 165 rfl) rfl
theorem q2156 : (Jvm.Cond.classLink "SkipSchool$Parser" (53 : Nat) "java/lang/String") ∈ lw_all := lw_g (lw_at lw_m9 166 rfl) rfl
theorem q2158 : (Jvm.Cond.stringRef "SkipSchool$Parser" (77 : Nat) "stone") ∈ lw_tbl := lw_at lw_m9 168 rfl
theorem q2159 : (Jvm.Cond.stringRef "SkipSchool$Parser" (79 : Nat) "river") ∈ lw_tbl := lw_at lw_m9 169 rfl
theorem q2160 : (Jvm.Cond.stringRef "SkipSchool$Parser" (81 : Nat) "book") ∈ lw_tbl := lw_at lw_m9 170 rfl
theorem q2161 : (Jvm.Cond.stringRef "SkipSchool$Parser" (83 : Nat) "free") ∈ lw_tbl := lw_at lw_m9 171 rfl
theorem q2162 : (Jvm.Cond.stringRef "SkipSchool$Parser" (85 : Nat) "teach") ∈ lw_tbl := lw_at lw_m9 172 rfl
theorem q2163 : (Jvm.Cond.stringRef "SkipSchool$Parser" (87 : Nat) "try") ∈ lw_tbl := lw_at lw_m9 173 rfl
theorem q2164 : (Jvm.Cond.stringRef "SkipSchool$Parser" (89 : Nat) "throw") ∈ lw_tbl := lw_at lw_m9 174 rfl
theorem q2165 : (Jvm.Cond.stringRef "SkipSchool$Parser" (91 : Nat) "fetch") ∈ lw_tbl := lw_at lw_m9 175 rfl
theorem q2166 : (Jvm.Cond.stringRef "SkipSchool$Parser" (93 : Nat) "calm") ∈ lw_tbl := lw_at lw_m9 176 rfl
theorem q2167 : (Jvm.Cond.stringRef "SkipSchool$Parser" (95 : Nat) "day") ∈ lw_tbl := lw_at lw_m9 177 rfl
theorem q2168 : (Jvm.Cond.methodLink "SkipSchool$Parser" (97 : Nat) ({ cls := "SkipSchool$Parser", name := "word", desc := "([Ljava/lang/String;)Ljava/lang/String;" } : Jvm.MethodName)) ∈ lw_all := lw_g (lw_at lw_m9 178 rfl) rfl
theorem q2169 : (Jvm.Cond.privateMethod ({ cls := "SkipSchool$Parser", name := "word", desc := "([Ljava/lang/String;)Ljava/lang/String;" } : Jvm.MethodName)) ∈ lw_tbl := lw_at lw_m9 179 rfl
theorem q2170 : (Jvm.Cond.instanceMethod ({ cls := "SkipSchool$Parser", name := "word", desc := "([Ljava/lang/String;)Ljava/lang/String;" } : Jvm.MethodName)) ∈ lw_all := lw_g (lw_at lw_m9 180 rfl) rfl
theorem q2171 : (Jvm.Cond.code ({ cls := "SkipSchool$Parser", name := "word", desc := "([Ljava/lang/String;)Ljava/lang/String;" } : Jvm.MethodName) prog_3_method_9_code (8 : Nat) (Option.some (Jvm.ClassFile.FieldType.object "java/lang/String"))) ∈ lw_all := lw_g (lw_at lw_m9 181 rfl) rfl
theorem q2172 : (Jvm.Cond.methodLink "SkipSchool$Parser" (56 : Nat) ({ cls := "SkipSchool$Parser", name := "common", desc := "(Ljava/lang/String;)I" } : Jvm.MethodName)) ∈ lw_all := lw_g (lw_at lw_m9 182 rfl) rfl
theorem q2173 : (Jvm.Cond.privateMethod ({ cls := "SkipSchool$Parser", name := "common", desc := "(Ljava/lang/String;)I" } : Jvm.MethodName)) ∈ lw_tbl := lw_at lw_m9 183 rfl
theorem q2174 : (Jvm.Cond.instanceMethod ({ cls := "SkipSchool$Parser", name := "common", desc := "(Ljava/lang/String;)I" } : Jvm.MethodName)) ∈ lw_all := lw_g (lw_at lw_m9 184 rfl) rfl
theorem q2175 : (Jvm.Cond.code ({ cls := "SkipSchool$Parser", name := "common", desc := "(Ljava/lang/String;)I" } : Jvm.MethodName) prog_3_method_8_code (4 : Nat) (Option.some Jvm.ClassFile.FieldType.int)) ∈ lw_all := lw_g (lw_at lw_m9 185 rfl) rfl
theorem q2176 : (Jvm.Cond.methodLink "SkipSchool$Parser" (52 : Nat) ({ cls := "java/lang/String", name := "length", desc := "()I" } : Jvm.MethodName)) ∈ lw_all := lw_g (lw_at lw_m9 186 rfl) rfl
theorem q2177 : (Jvm.Cond.interfaceEntry "SkipSchool$Parser" (17 : Nat)) ∈ lw_tbl := lw_at lw_m9 187 rfl
theorem q2178 : (Jvm.Cond.methodLink "SkipSchool$Parser" (17 : Nat) ({ cls := "java/lang/CharSequence", name := "length", desc := "()I" } : Jvm.MethodName)) ∈ lw_all := lw_g (lw_at lw_m9 188 rfl) rfl
theorem q2189 : (Jvm.Cond.interfaceEntry "SkipSchool$Parser" (23 : Nat)) ∈ lw_tbl := lw_at lw_m9 199 rfl
theorem q2190 : (Jvm.Cond.methodLink "SkipSchool$Parser" (23 : Nat) ({ cls := "java/lang/CharSequence", name := "charAt", desc := "(I)C" } : Jvm.MethodName)) ∈ lw_all := lw_g (lw_at lw_m9 200 rfl) rfl
theorem q2207 : (Jvm.Cond.methodLink "SkipSchool$Parser" (55 : Nat) ({ cls := "java/lang/String", name := "charAt", desc := "(I)C" } : Jvm.MethodName)) ∈ lw_all := lw_g (lw_at lw_m9 217 rfl) rfl
theorem q2208 : (Jvm.Cond.methodLink "SkipSchool$Parser" (60 : Nat) ({ cls := "java/lang/Math", name := "max", desc := "(II)I" } : Jvm.MethodName)) ∈ lw_all := lw_g (lw_at lw_m9 218 rfl) rfl
theorem q2209 : (Jvm.Cond.classLink "SkipSchool$Parser" (37 : Nat) "SkipSchool$SyntaxException") ∈ lw_all := lw_g (lw_at lw_m9 219 rfl) rfl
theorem q2218 : (Jvm.Cond.methodLink "SkipSchool$Parser" (39 : Nat) ({ cls := "SkipSchool$SyntaxException", name := "<init>", desc := "(I)V" } : Jvm.MethodName)) ∈ lw_all := lw_g (lw_at lw_m9 228 rfl) rfl
theorem q2228 : (Jvm.Cond.methodLink "SkipSchool$Parser" (101 : Nat) ({ cls := "java/lang/String", name := "hashCode", desc := "()I" } : Jvm.MethodName)) ∈ lw_all := lw_g (lw_at lw_m9 238 rfl) rfl
theorem q2229 : (Jvm.Cond.methodLink "SkipSchool$Parser" (104 : Nat) ({ cls := "java/lang/String", name := "equals", desc := "(Ljava/lang/Object;)Z" } : Jvm.MethodName)) ∈ lw_all := lw_g (lw_at lw_m9 239 rfl) rfl
theorem q2230 : (Jvm.Cond.methodLink "SkipSchool$Parser" (46 : Nat) ({ cls := "SkipSchool$Parser", name := "digit", desc := "()I" } : Jvm.MethodName)) ∈ lw_all := lw_g (lw_at lw_m10 0 rfl) rfl
theorem q2231 : (Jvm.Cond.privateMethod ({ cls := "SkipSchool$Parser", name := "digit", desc := "()I" } : Jvm.MethodName)) ∈ lw_tbl := lw_at lw_m10 1 rfl
theorem q2232 : (Jvm.Cond.instanceMethod ({ cls := "SkipSchool$Parser", name := "digit", desc := "()I" } : Jvm.MethodName)) ∈ lw_all := lw_g (lw_at lw_m10 2 rfl) rfl
theorem q2233 : (Jvm.Cond.code ({ cls := "SkipSchool$Parser", name := "digit", desc := "()I" } : Jvm.MethodName) prog_3_method_4_code (1 : Nat) (Option.some Jvm.ClassFile.FieldType.int)) ∈ lw_all := lw_g (lw_at lw_m10 3 rfl) rfl
theorem q2234 : (Jvm.Cond.methodLink "SkipSchool$Parser" (42 : Nat) ({ cls := "SkipSchool$Parser", name := "take", desc := "(II)I" } : Jvm.MethodName)) ∈ lw_all := lw_g (lw_at lw_m10 4 rfl) rfl
theorem q2235 : (Jvm.Cond.privateMethod ({ cls := "SkipSchool$Parser", name := "take", desc := "(II)I" } : Jvm.MethodName)) ∈ lw_tbl := lw_at lw_m10 5 rfl
theorem q2236 : (Jvm.Cond.instanceMethod ({ cls := "SkipSchool$Parser", name := "take", desc := "(II)I" } : Jvm.MethodName)) ∈ lw_all := lw_g (lw_at lw_m10 6 rfl) rfl
theorem q2237 : (Jvm.Cond.code ({ cls := "SkipSchool$Parser", name := "take", desc := "(II)I" } : Jvm.MethodName) prog_3_method_3_code (3 : Nat) (Option.some Jvm.ClassFile.FieldType.int)) ∈ lw_all := lw_g (lw_at lw_m10 7 rfl) rfl
theorem q2238 : (Jvm.Cond.methodLink "SkipSchool$Parser" (33 : Nat) ({ cls := "SkipSchool$Parser", name := "isNext", desc := "(II)Z" } : Jvm.MethodName)) ∈ lw_all := lw_g (lw_at lw_m10 8 rfl) rfl
theorem q2239 : (Jvm.Cond.privateMethod ({ cls := "SkipSchool$Parser", name := "isNext", desc := "(II)Z" } : Jvm.MethodName)) ∈ lw_tbl := lw_at lw_m10 9 rfl
theorem q2240 : (Jvm.Cond.instanceMethod ({ cls := "SkipSchool$Parser", name := "isNext", desc := "(II)Z" } : Jvm.MethodName)) ∈ lw_all := lw_g (lw_at lw_m10 10 rfl) rfl
theorem q2241 : (Jvm.Cond.code ({ cls := "SkipSchool$Parser", name := "isNext", desc := "(II)Z" } : Jvm.MethodName) prog_3_method_2_code (3 : Nat) (Option.some Jvm.ClassFile.FieldType.boolean)) ∈ lw_all := lw_g (lw_at lw_m10 11 rfl) rfl
theorem q2242 : (Jvm.Cond.methodLinkNest "SkipSchool$Parser" (27 : Nat) ({ cls := "SkipSchool", name := "inRange", desc := "(JJJ)Z" } : Jvm.MethodName) "SkipSchool") ∈ lw_tbl := lw_at lw_m10 12 rfl
theorem q2243 : (Jvm.Cond.classLink "SkipSchool$Parser" (72 : Nat) "SkipSchool$Order") ∈ lw_all := lw_g (lw_at lw_m10 13 rfl) rfl
theorem q2244 : (Jvm.Cond.methodLink "SkipSchool$Parser" (74 : Nat) ({ cls := "SkipSchool$Order", name := "<init>", desc := "(Ljava/lang/String;[I)V" } : Jvm.MethodName)) ∈ lw_all := lw_g (lw_at lw_m10 14 rfl) rfl
theorem q2245 : (Jvm.Cond.methodLink "SkipSchool$Parser" (49 : Nat) ({ cls := "SkipSchool$Parser", name := "number", desc := "()I" } : Jvm.MethodName)) ∈ lw_all := lw_g (lw_at lw_m10 15 rfl) rfl
theorem q2246 : (Jvm.Cond.privateMethod ({ cls := "SkipSchool$Parser", name := "number", desc := "()I" } : Jvm.MethodName)) ∈ lw_tbl := lw_at lw_m10 16 rfl
theorem q2247 : (Jvm.Cond.instanceMethod ({ cls := "SkipSchool$Parser", name := "number", desc := "()I" } : Jvm.MethodName)) ∈ lw_all := lw_g (lw_at lw_m10 17 rfl) rfl
theorem q2248 : (Jvm.Cond.code ({ cls := "SkipSchool$Parser", name := "number", desc := "()I" } : Jvm.MethodName) prog_3_method_5_code (2 : Nat) (Option.some Jvm.ClassFile.FieldType.int)) ∈ lw_all := lw_g (lw_at lw_m10 18 rfl) rfl
theorem q2249 : (Jvm.Cond.methodLink "SkipSchool$Parser" (65 : Nat) ({ cls := "SkipSchool$Parser", name := "digitAfter", desc := "(C)I" } : Jvm.MethodName)) ∈ lw_all := lw_g (lw_at lw_m10 19 rfl) rfl
theorem q2250 : (Jvm.Cond.privateMethod ({ cls := "SkipSchool$Parser", name := "digitAfter", desc := "(C)I" } : Jvm.MethodName)) ∈ lw_tbl := lw_at lw_m10 20 rfl
theorem q2251 : (Jvm.Cond.instanceMethod ({ cls := "SkipSchool$Parser", name := "digitAfter", desc := "(C)I" } : Jvm.MethodName)) ∈ lw_all := lw_g (lw_at lw_m10 21 rfl) rfl
theorem q2252 : (Jvm.Cond.code ({ cls := "SkipSchool$Parser", name := "digitAfter", desc := "(C)I" } : Jvm.MethodName) prog_3_method_6_code (3 : Nat) (Option.some Jvm.ClassFile.FieldType.int)) ∈ lw_all := lw_g (lw_at lw_m10 22 rfl) rfl
theorem q2253 : (Jvm.Cond.methodLink "SkipSchool$Parser" (69 : Nat) ({ cls := "SkipSchool$Parser", name := "numberAfter", desc := "(C)I" } : Jvm.MethodName)) ∈ lw_all := lw_g (lw_at lw_m10 23 rfl) rfl
theorem q2254 : (Jvm.Cond.privateMethod ({ cls := "SkipSchool$Parser", name := "numberAfter", desc := "(C)I" } : Jvm.MethodName)) ∈ lw_tbl := lw_at lw_m10 24 rfl
theorem q2255 : (Jvm.Cond.instanceMethod ({ cls := "SkipSchool$Parser", name := "numberAfter", desc := "(C)I" } : Jvm.MethodName)) ∈ lw_all := lw_g (lw_at lw_m10 25 rfl) rfl
theorem q2256 : (Jvm.Cond.code ({ cls := "SkipSchool$Parser", name := "numberAfter", desc := "(C)I" } : Jvm.MethodName) prog_3_method_7_code (3 : Nat) (Option.some Jvm.ClassFile.FieldType.int)) ∈ lw_all := lw_g (lw_at lw_m10 26 rfl) rfl
theorem q2257 : (Jvm.Cond.methodLink "SkipSchool$Parser" (108 : Nat) ({ cls := "SkipSchool$Parser", name := "thrown", desc := "(Ljava/lang/String;)LSkipSchool$Order;" } : Jvm.MethodName)) ∈ lw_all := lw_g (lw_at lw_m10 27 rfl) rfl
theorem q2258 : (Jvm.Cond.privateMethod ({ cls := "SkipSchool$Parser", name := "thrown", desc := "(Ljava/lang/String;)LSkipSchool$Order;" } : Jvm.MethodName)) ∈ lw_tbl := lw_at lw_m10 28 rfl
theorem q2259 : (Jvm.Cond.instanceMethod ({ cls := "SkipSchool$Parser", name := "thrown", desc := "(Ljava/lang/String;)LSkipSchool$Order;" } : Jvm.MethodName)) ∈ lw_all := lw_g (lw_at lw_m10 29 rfl) rfl
theorem q2260 : (Jvm.Cond.code ({ cls := "SkipSchool$Parser", name := "thrown", desc := "(Ljava/lang/String;)LSkipSchool$Order;" } : Jvm.MethodName) prog_3_method_10_code (5 : Nat) (Option.some (Jvm.ClassFile.FieldType.object "SkipSchool$Order"))) ∈ lw_all := lw_g (lw_at lw_m10 30 rfl) rfl
theorem q2261 : (Jvm.Cond.methodLink "SkipSchool$Parser" (119 : Nat) ({ cls := "java/util/ArrayList", name := "add", desc := "(Ljava/lang/Object;)Z" } : Jvm.MethodName)) ∈ lw_all := lw_g (lw_at lw_m10 31 rfl) rfl
theorem q2762 : (Jvm.Cond.castable "SkipSchool$Parser" "java/lang/Object") ∈ lw_tbl := lw_at lw_m12 52 rfl
theorem in_X9 : ∀ w ∈ wsX90, w ∈ lw_all := lw_in wsX90 [2141, 2143] (by decide +kernel) (by decide +kernel)

/-! SkipSchool$SyntaxException -/
set_option maxRecDepth 100000
def RX10 : String := "SkipSchool$SyntaxException"
def TX10 : u_T := fun k => match k with
  | 0 => ("java/lang/Throwable", "cause", "Ljava/lang/Throwable;", false)
  | 1 => ("java/lang/Throwable", "stackTrace", "[Ljava/lang/StackTraceElement;", false)
  | 2 => ("java/lang/Throwable", "suppressedExceptions", "Ljava/util/List;", false)
  | 3 => ("java/lang/Throwable", "detailMessage", "Ljava/lang/String;", false)
  | 4 => ("java/lang/Throwable", "backtrace", "Ljava/lang/Object;", false)
  | 5 => ("java/lang/Throwable", "depth", "I", false)
  | _ => ("SkipSchool$SyntaxException", "position", "I", true)
def tyX10 : Nat → FieldType := fun k => match k with
  | 0 => .object "java/lang/Throwable"
  | 1 => .array (.object "java/lang/StackTraceElement")
  | 2 => .object "java/util/List"
  | 3 => .object "java/lang/String"
  | 4 => .object "java/lang/Object"
  | 5 => .int
  | _ => .int
abbrev wsX100 : List Cond := u_ws RX10 TX10 7
theorem nmX10 : ∀ a, a < 7 → ∀ b, b < 7 → a ≠ b → (TX10 a).2.1 ≠ (TX10 b).2.1 := by decide +kernel
theorem tyX10_ok : ∀ k, k < 7 → parseFieldDescriptor (TX10 k).2.2.1 = some (tyX10 k) := by decide +kernel
abbrev cX10_init : ByteArray := prog_8_method_1_code
def yX10_init : MethodName := ⟨RX10, "<init>", "(I)V"⟩
def dkwX10_init_0 : List UInt8 := [42, 1, 1, 3, 3, 183, 0, 1, 42, 27, 181, 0, 7, 177]
abbrev dktX10_init_0 : List UInt8 := dkwX10_init_0 ++ []
theorem dksX10_init_0 : cX10_init.data.toList.drop 0 = dktX10_init_0 := by decide +kernel
theorem dX10_init_0 : decode cX10_init 0 = .ok (.aload_n 0, 1) := dk_42 (dk_at dksX10_init_0 0 rfl rfl)
theorem dX10_init_1 : decode cX10_init 1 = .ok (.aconst_null, 1) := dk_1 (dk_at dksX10_init_0 1 rfl rfl)
theorem dX10_init_2 : decode cX10_init 2 = .ok (.aconst_null, 1) := dk_1 (dk_at dksX10_init_0 2 rfl rfl)
theorem dX10_init_3 : decode cX10_init 3 = .ok (.iconst 0, 1) := dk_3 (dk_at dksX10_init_0 3 rfl rfl)
theorem dX10_init_4 : decode cX10_init 4 = .ok (.iconst 0, 1) := dk_3 (dk_at dksX10_init_0 4 rfl rfl)
theorem dX10_init_5 : decode cX10_init 5 = .ok (.invokespecial 1, 3) := dk_183 0 1 (dk_at dksX10_init_0 5 rfl rfl)
theorem dX10_init_8 : decode cX10_init 8 = .ok (.aload_n 0, 1) := dk_42 (dk_at dksX10_init_0 8 rfl rfl)
theorem dX10_init_9 : decode cX10_init 9 = .ok (.iload_n 1, 1) := dk_27 (dk_at dksX10_init_0 9 rfl rfl)
theorem dX10_init_10 : decode cX10_init 10 = .ok (.putfield 7, 3) := dk_181 0 7 (dk_at dksX10_init_0 10 rfl rfl)
theorem dX10_init_13 : decode cX10_init 13 = .ok (.return_, 1) := dk_177 (dk_at dksX10_init_0 13 rfl rfl)
theorem q118 : (Jvm.Cond.initialized "SkipSchool$SyntaxException") ∈ lw_all := lw_g (lw_at lw_m1 48 rfl) rfl
theorem q464 : (Jvm.Cond.selects "SkipSchool$SyntaxException" ({ cls := "java/lang/Throwable", name := "fillInStackTrace", desc := "()Ljava/lang/Throwable;" } : Jvm.MethodName) ({ cls := "java/lang/Throwable", name := "fillInStackTrace", desc := "()Ljava/lang/Throwable;" } : Jvm.MethodName)) ∈ lw_all := lw_g (lw_at lw_m2 154 rfl) rfl
theorem q767 : (Jvm.Cond.selects "SkipSchool$SyntaxException" ({ cls := "java/lang/Throwable", name := "toString", desc := "()Ljava/lang/String;" } : Jvm.MethodName) ({ cls := "java/lang/Throwable", name := "toString", desc := "()Ljava/lang/String;" } : Jvm.MethodName)) ∈ lw_all := lw_g (lw_at lw_m3 217 rfl) rfl
theorem q786 : (Jvm.Cond.selects "SkipSchool$SyntaxException" ({ cls := "java/lang/Object", name := "getClass", desc := "()Ljava/lang/Class;" } : Jvm.MethodName) ({ cls := "java/lang/Object", name := "getClass", desc := "()Ljava/lang/Class;" } : Jvm.MethodName)) ∈ lw_all := lw_g (lw_at lw_m3 236 rfl) rfl
theorem q814 : (Jvm.Cond.selects "SkipSchool$SyntaxException" ({ cls := "java/lang/Throwable", name := "getLocalizedMessage", desc := "()Ljava/lang/String;" } : Jvm.MethodName) ({ cls := "java/lang/Throwable", name := "getLocalizedMessage", desc := "()Ljava/lang/String;" } : Jvm.MethodName)) ∈ lw_all := lw_g (lw_at lw_m4 24 rfl) rfl
theorem q827 : (Jvm.Cond.selects "SkipSchool$SyntaxException" ({ cls := "java/lang/Throwable", name := "getMessage", desc := "()Ljava/lang/String;" } : Jvm.MethodName) ({ cls := "java/lang/Throwable", name := "getMessage", desc := "()Ljava/lang/String;" } : Jvm.MethodName)) ∈ lw_all := lw_g (lw_at lw_m4 37 rfl) rfl
theorem q2210 : (Jvm.Cond.instantiable "SkipSchool$SyntaxException" (7 : Nat)) ∈ lw_all := lw_g (lw_at lw_m9 220 rfl) rfl
theorem q2211 : (Jvm.Cond.castable "SkipSchool$SyntaxException" "SkipSchool$SyntaxException") ∈ lw_tbl := lw_at lw_m9 221 rfl
theorem q2212 : (Jvm.Cond.selects "SkipSchool$SyntaxException" ({ cls := "java/lang/Throwable", name := "fillInStackTrace", desc := "(I)Ljava/lang/Throwable;" } : Jvm.MethodName) ({ cls := "java/lang/Throwable", name := "fillInStackTrace", desc := "(I)Ljava/lang/Throwable;" } : Jvm.MethodName)) ∈ lw_all := lw_g (lw_at lw_m9 222 rfl) rfl
theorem q2213 : (Jvm.Cond.lays "SkipSchool$SyntaxException" "java/lang/Throwable" "cause" "Ljava/lang/Throwable;") ∈ lw_all := lw_g (lw_at lw_m9 223 rfl) rfl
theorem q2214 : (Jvm.Cond.lays "SkipSchool$SyntaxException" "java/lang/Throwable" "stackTrace" "[Ljava/lang/StackTraceElement;") ∈ lw_all := lw_g (lw_at lw_m9 224 rfl) rfl
theorem q2215 : (Jvm.Cond.lays "SkipSchool$SyntaxException" "java/lang/Throwable" "suppressedExceptions" "Ljava/util/List;") ∈ lw_all := lw_g (lw_at lw_m9 225 rfl) rfl
theorem q2216 : (Jvm.Cond.lays "SkipSchool$SyntaxException" "java/lang/Throwable" "detailMessage" "Ljava/lang/String;") ∈ lw_all := lw_g (lw_at lw_m9 226 rfl) rfl
theorem q2217 : (Jvm.Cond.lays "SkipSchool$SyntaxException" "java/lang/Throwable" "backtrace" "Ljava/lang/Object;") ∈ lw_all := lw_g (lw_at lw_m9 227 rfl) rfl
theorem q2219 : (Jvm.Cond.instanceMethod ({ cls := "SkipSchool$SyntaxException", name := "<init>", desc := "(I)V" } : Jvm.MethodName)) ∈ lw_all := lw_g (lw_at lw_m9 229 rfl) rfl
theorem q2220 : (Jvm.Cond.code ({ cls := "SkipSchool$SyntaxException", name := "<init>", desc := "(I)V" } : Jvm.MethodName) prog_8_method_1_code (2 : Nat) (Option.none : Option Jvm.ClassFile.FieldType)) ∈ lw_all := lw_g (lw_at lw_m9 230 rfl) rfl
theorem q2221 : (Jvm.Cond.methodLink "SkipSchool$SyntaxException" (1 : Nat) ({ cls := "java/lang/Exception", name := "<init>", desc := "(Ljava/lang/String;Ljava/lang/Throwable;ZZ)V" } : Jvm.MethodName)) ∈ lw_all := lw_g (lw_at lw_m9 231 rfl) rfl
theorem q2222 : (Jvm.Cond.fieldLink "SkipSchool$SyntaxException" (7 : Nat) "SkipSchool$SyntaxException" "position" "I") ∈ lw_all := lw_g (lw_at lw_m9 232 rfl) rfl
theorem q2224 : (Jvm.Cond.laysFinal "SkipSchool$SyntaxException" "SkipSchool$SyntaxException" "position" "I") ∈ lw_all := lw_g (lw_at lw_m9 234 rfl) rfl
theorem q2225 : (Jvm.Cond.soleField "SkipSchool$SyntaxException" "position") ∈ lw_all := lw_g (lw_at lw_m9 235 rfl) rfl
theorem q2226 : (Jvm.Cond.lays "SkipSchool$SyntaxException" "java/lang/Throwable" "depth" "I") ∈ lw_all := lw_g (lw_at lw_m9 236 rfl) rfl
theorem q2227 : (Jvm.Cond.superclass "SkipSchool$SyntaxException" "java/lang/Exception") ∈ lw_all := lw_g (lw_at lw_m9 237 rfl) rfl
theorem q2763 : (Jvm.Cond.castable "SkipSchool$SyntaxException" "java/lang/Object") ∈ lw_tbl := lw_at lw_m12 53 rfl
theorem in_X10 : ∀ w ∈ wsX100, w ∈ lw_all := lw_in wsX100 [2213, 2214, 2215, 2216, 2217, 2226, 2224] (by decide +kernel) (by decide +kernel)
