/-! DimpleWellsLaw -/
set_option maxRecDepth 100000
def RX0 : String := "DimpleWellsLaw"
abbrev cX0_land : ByteArray := method_3_code
def yX0_land : MethodName := ⟨RX0, "land", "(LDimpleWells;I[J)I"⟩
def dkwX0_land_0 : List UInt8 := [44, 3, 42, 27, 182, 0, 7, 133, 80, 167, 0, 6, 78, 4, 172, 3, 172]
abbrev dktX0_land_0 : List UInt8 := dkwX0_land_0 ++ []
theorem dksX0_land_0 : cX0_land.data.toList.drop 0 = dktX0_land_0 := by decide +kernel
theorem dX0_land_0 : decode cX0_land 0 = .ok (.aload_n 2, 1) := dk_44 (dk_at dksX0_land_0 0 rfl rfl)
theorem dX0_land_1 : decode cX0_land 1 = .ok (.iconst 0, 1) := dk_3 (dk_at dksX0_land_0 1 rfl rfl)
theorem dX0_land_2 : decode cX0_land 2 = .ok (.aload_n 0, 1) := dk_42 (dk_at dksX0_land_0 2 rfl rfl)
theorem dX0_land_3 : decode cX0_land 3 = .ok (.iload_n 1, 1) := dk_27 (dk_at dksX0_land_0 3 rfl rfl)
theorem dX0_land_4 : decode cX0_land 4 = .ok (.invokevirtual 7, 3) := dk_182 0 7 (dk_at dksX0_land_0 4 rfl rfl)
theorem dX0_land_7 : decode cX0_land 7 = .ok (.i2l, 1) := dk_133 (dk_at dksX0_land_0 7 rfl rfl)
theorem dX0_land_8 : decode cX0_land 8 = .ok (.lastore, 1) := dk_80 (dk_at dksX0_land_0 8 rfl rfl)
theorem dX0_land_9 : decode cX0_land 9 = .ok (.goto 6, 3) := dk_167 0 6 (dk_at dksX0_land_0 9 rfl rfl)
theorem dX0_land_12 : decode cX0_land 12 = .ok (.astore_n 3, 1) := dk_78 (dk_at dksX0_land_0 12 rfl rfl)
theorem dX0_land_13 : decode cX0_land 13 = .ok (.iconst 1, 1) := dk_4 (dk_at dksX0_land_0 13 rfl rfl)
theorem dX0_land_14 : decode cX0_land 14 = .ok (.ireturn, 1) := dk_172 (dk_at dksX0_land_0 14 rfl rfl)
theorem dX0_land_15 : decode cX0_land 15 = .ok (.iconst 0, 1) := dk_3 (dk_at dksX0_land_0 15 rfl rfl)
theorem dX0_land_16 : decode cX0_land 16 = .ok (.ireturn, 1) := dk_172 (dk_at dksX0_land_0 16 rfl rfl)
abbrev cX0_law : ByteArray := method_4_code
def yX0_law : MethodName := ⟨RX0, "law", "(LDimpleWells;I[J)I"⟩
def dkwX0_law_0 : List UInt8 := [44, 3, 42, 27, 182, 0, 15, 133, 80, 167, 0, 6, 78, 4, 172, 3, 172]
abbrev dktX0_law_0 : List UInt8 := dkwX0_law_0 ++ []
theorem dksX0_law_0 : cX0_law.data.toList.drop 0 = dktX0_law_0 := by decide +kernel
theorem dX0_law_0 : decode cX0_law 0 = .ok (.aload_n 2, 1) := dk_44 (dk_at dksX0_law_0 0 rfl rfl)
theorem dX0_law_1 : decode cX0_law 1 = .ok (.iconst 0, 1) := dk_3 (dk_at dksX0_law_0 1 rfl rfl)
theorem dX0_law_2 : decode cX0_law 2 = .ok (.aload_n 0, 1) := dk_42 (dk_at dksX0_law_0 2 rfl rfl)
theorem dX0_law_3 : decode cX0_law 3 = .ok (.iload_n 1, 1) := dk_27 (dk_at dksX0_law_0 3 rfl rfl)
theorem dX0_law_4 : decode cX0_law 4 = .ok (.invokevirtual 15, 3) := dk_182 0 15 (dk_at dksX0_law_0 4 rfl rfl)
theorem dX0_law_7 : decode cX0_law 7 = .ok (.i2l, 1) := dk_133 (dk_at dksX0_law_0 7 rfl rfl)
theorem dX0_law_8 : decode cX0_law 8 = .ok (.lastore, 1) := dk_80 (dk_at dksX0_law_0 8 rfl rfl)
theorem dX0_law_9 : decode cX0_law 9 = .ok (.goto 6, 3) := dk_167 0 6 (dk_at dksX0_law_0 9 rfl rfl)
theorem dX0_law_12 : decode cX0_law 12 = .ok (.astore_n 3, 1) := dk_78 (dk_at dksX0_law_0 12 rfl rfl)
theorem dX0_law_13 : decode cX0_law 13 = .ok (.iconst 1, 1) := dk_4 (dk_at dksX0_law_0 13 rfl rfl)
theorem dX0_law_14 : decode cX0_law 14 = .ok (.ireturn, 1) := dk_172 (dk_at dksX0_law_0 14 rfl rfl)
theorem dX0_law_15 : decode cX0_law 15 = .ok (.iconst 0, 1) := dk_3 (dk_at dksX0_law_0 15 rfl rfl)
theorem dX0_law_16 : decode cX0_law 16 = .ok (.ireturn, 1) := dk_172 (dk_at dksX0_law_0 16 rfl rfl)
abbrev cX0_work : ByteArray := method_5_code
def yX0_work : MethodName := ⟨RX0, "work", "(LDimpleWells;I[J)I"⟩
def dkwX0_work_0 : List UInt8 := [44, 3, 42, 27, 182, 0, 18, 133, 80, 167, 0, 6, 78, 4, 172, 3, 172]
abbrev dktX0_work_0 : List UInt8 := dkwX0_work_0 ++ []
theorem dksX0_work_0 : cX0_work.data.toList.drop 0 = dktX0_work_0 := by decide +kernel
theorem dX0_work_0 : decode cX0_work 0 = .ok (.aload_n 2, 1) := dk_44 (dk_at dksX0_work_0 0 rfl rfl)
theorem dX0_work_1 : decode cX0_work 1 = .ok (.iconst 0, 1) := dk_3 (dk_at dksX0_work_0 1 rfl rfl)
theorem dX0_work_2 : decode cX0_work 2 = .ok (.aload_n 0, 1) := dk_42 (dk_at dksX0_work_0 2 rfl rfl)
theorem dX0_work_3 : decode cX0_work 3 = .ok (.iload_n 1, 1) := dk_27 (dk_at dksX0_work_0 3 rfl rfl)
theorem dX0_work_4 : decode cX0_work 4 = .ok (.invokevirtual 18, 3) := dk_182 0 18 (dk_at dksX0_work_0 4 rfl rfl)
theorem dX0_work_7 : decode cX0_work 7 = .ok (.i2l, 1) := dk_133 (dk_at dksX0_work_0 7 rfl rfl)
theorem dX0_work_8 : decode cX0_work 8 = .ok (.lastore, 1) := dk_80 (dk_at dksX0_work_0 8 rfl rfl)
theorem dX0_work_9 : decode cX0_work 9 = .ok (.goto 6, 3) := dk_167 0 6 (dk_at dksX0_work_0 9 rfl rfl)
theorem dX0_work_12 : decode cX0_work 12 = .ok (.astore_n 3, 1) := dk_78 (dk_at dksX0_work_0 12 rfl rfl)
theorem dX0_work_13 : decode cX0_work 13 = .ok (.iconst 1, 1) := dk_4 (dk_at dksX0_work_0 13 rfl rfl)
theorem dX0_work_14 : decode cX0_work 14 = .ok (.ireturn, 1) := dk_172 (dk_at dksX0_work_0 14 rfl rfl)
theorem dX0_work_15 : decode cX0_work 15 = .ok (.iconst 0, 1) := dk_3 (dk_at dksX0_work_0 15 rfl rfl)
theorem dX0_work_16 : decode cX0_work 16 = .ok (.ireturn, 1) := dk_172 (dk_at dksX0_work_0 16 rfl rfl)
abbrev cX0_book : ByteArray := method_6_code
def yX0_book : MethodName := ⟨RX0, "book", "(LDimpleWells;I[J)I"⟩
def dkwX0_book_0 : List UInt8 := [44, 3, 42, 27, 182, 0, 21, 133, 80, 167, 0, 6, 78, 4, 172, 3, 172]
abbrev dktX0_book_0 : List UInt8 := dkwX0_book_0 ++ []
theorem dksX0_book_0 : cX0_book.data.toList.drop 0 = dktX0_book_0 := by decide +kernel
theorem dX0_book_0 : decode cX0_book 0 = .ok (.aload_n 2, 1) := dk_44 (dk_at dksX0_book_0 0 rfl rfl)
theorem dX0_book_1 : decode cX0_book 1 = .ok (.iconst 0, 1) := dk_3 (dk_at dksX0_book_0 1 rfl rfl)
theorem dX0_book_2 : decode cX0_book 2 = .ok (.aload_n 0, 1) := dk_42 (dk_at dksX0_book_0 2 rfl rfl)
theorem dX0_book_3 : decode cX0_book 3 = .ok (.iload_n 1, 1) := dk_27 (dk_at dksX0_book_0 3 rfl rfl)
theorem dX0_book_4 : decode cX0_book 4 = .ok (.invokevirtual 21, 3) := dk_182 0 21 (dk_at dksX0_book_0 4 rfl rfl)
theorem dX0_book_7 : decode cX0_book 7 = .ok (.i2l, 1) := dk_133 (dk_at dksX0_book_0 7 rfl rfl)
theorem dX0_book_8 : decode cX0_book 8 = .ok (.lastore, 1) := dk_80 (dk_at dksX0_book_0 8 rfl rfl)
theorem dX0_book_9 : decode cX0_book 9 = .ok (.goto 6, 3) := dk_167 0 6 (dk_at dksX0_book_0 9 rfl rfl)
theorem dX0_book_12 : decode cX0_book 12 = .ok (.astore_n 3, 1) := dk_78 (dk_at dksX0_book_0 12 rfl rfl)
theorem dX0_book_13 : decode cX0_book 13 = .ok (.iconst 1, 1) := dk_4 (dk_at dksX0_book_0 13 rfl rfl)
theorem dX0_book_14 : decode cX0_book 14 = .ok (.ireturn, 1) := dk_172 (dk_at dksX0_book_0 14 rfl rfl)
theorem dX0_book_15 : decode cX0_book 15 = .ok (.iconst 0, 1) := dk_3 (dk_at dksX0_book_0 15 rfl rfl)
theorem dX0_book_16 : decode cX0_book 16 = .ok (.ireturn, 1) := dk_172 (dk_at dksX0_book_0 16 rfl rfl)
abbrev cX0_told : ByteArray := method_7_code
def yX0_told : MethodName := ⟨RX0, "told", "(LDimpleWells;I[J)I"⟩
def dkwX0_told_0 : List UInt8 := [44, 3, 42, 27, 182, 0, 24, 133, 80, 167, 0, 6, 78, 4, 172, 3, 172]
abbrev dktX0_told_0 : List UInt8 := dkwX0_told_0 ++ []
theorem dksX0_told_0 : cX0_told.data.toList.drop 0 = dktX0_told_0 := by decide +kernel
theorem dX0_told_0 : decode cX0_told 0 = .ok (.aload_n 2, 1) := dk_44 (dk_at dksX0_told_0 0 rfl rfl)
theorem dX0_told_1 : decode cX0_told 1 = .ok (.iconst 0, 1) := dk_3 (dk_at dksX0_told_0 1 rfl rfl)
theorem dX0_told_2 : decode cX0_told 2 = .ok (.aload_n 0, 1) := dk_42 (dk_at dksX0_told_0 2 rfl rfl)
theorem dX0_told_3 : decode cX0_told 3 = .ok (.iload_n 1, 1) := dk_27 (dk_at dksX0_told_0 3 rfl rfl)
theorem dX0_told_4 : decode cX0_told 4 = .ok (.invokevirtual 24, 3) := dk_182 0 24 (dk_at dksX0_told_0 4 rfl rfl)
theorem dX0_told_7 : decode cX0_told 7 = .ok (.i2l, 1) := dk_133 (dk_at dksX0_told_0 7 rfl rfl)
theorem dX0_told_8 : decode cX0_told 8 = .ok (.lastore, 1) := dk_80 (dk_at dksX0_told_0 8 rfl rfl)
theorem dX0_told_9 : decode cX0_told 9 = .ok (.goto 6, 3) := dk_167 0 6 (dk_at dksX0_told_0 9 rfl rfl)
theorem dX0_told_12 : decode cX0_told 12 = .ok (.astore_n 3, 1) := dk_78 (dk_at dksX0_told_0 12 rfl rfl)
theorem dX0_told_13 : decode cX0_told 13 = .ok (.iconst 1, 1) := dk_4 (dk_at dksX0_told_0 13 rfl rfl)
theorem dX0_told_14 : decode cX0_told 14 = .ok (.ireturn, 1) := dk_172 (dk_at dksX0_told_0 14 rfl rfl)
theorem dX0_told_15 : decode cX0_told 15 = .ok (.iconst 0, 1) := dk_3 (dk_at dksX0_told_0 15 rfl rfl)
theorem dX0_told_16 : decode cX0_told 16 = .ok (.ireturn, 1) := dk_172 (dk_at dksX0_told_0 16 rfl rfl)
abbrev cX0_person : ByteArray := method_8_code
def yX0_person : MethodName := ⟨RX0, "person", "(LDimpleWells;II[J)I"⟩
def dkwX0_person_0 : List UInt8 := [45, 3, 42, 27, 28, 182, 0, 27, 133, 80, 167, 0, 11, 58, 4, 4, 172, 58, 4, 5, 172, 3, 172]
abbrev dktX0_person_0 : List UInt8 := dkwX0_person_0 ++ []
theorem dksX0_person_0 : cX0_person.data.toList.drop 0 = dktX0_person_0 := by decide +kernel
theorem dX0_person_0 : decode cX0_person 0 = .ok (.aload_n 3, 1) := dk_45 (dk_at dksX0_person_0 0 rfl rfl)
theorem dX0_person_1 : decode cX0_person 1 = .ok (.iconst 0, 1) := dk_3 (dk_at dksX0_person_0 1 rfl rfl)
theorem dX0_person_2 : decode cX0_person 2 = .ok (.aload_n 0, 1) := dk_42 (dk_at dksX0_person_0 2 rfl rfl)
theorem dX0_person_3 : decode cX0_person 3 = .ok (.iload_n 1, 1) := dk_27 (dk_at dksX0_person_0 3 rfl rfl)
theorem dX0_person_4 : decode cX0_person 4 = .ok (.iload_n 2, 1) := dk_28 (dk_at dksX0_person_0 4 rfl rfl)
theorem dX0_person_5 : decode cX0_person 5 = .ok (.invokevirtual 27, 3) := dk_182 0 27 (dk_at dksX0_person_0 5 rfl rfl)
theorem dX0_person_8 : decode cX0_person 8 = .ok (.i2l, 1) := dk_133 (dk_at dksX0_person_0 8 rfl rfl)
theorem dX0_person_9 : decode cX0_person 9 = .ok (.lastore, 1) := dk_80 (dk_at dksX0_person_0 9 rfl rfl)
theorem dX0_person_10 : decode cX0_person 10 = .ok (.goto 11, 3) := dk_167 0 11 (dk_at dksX0_person_0 10 rfl rfl)
theorem dX0_person_13 : decode cX0_person 13 = .ok (.astore 4, 2) := dk_58 4 (dk_at dksX0_person_0 13 rfl rfl)
theorem dX0_person_15 : decode cX0_person 15 = .ok (.iconst 1, 1) := dk_4 (dk_at dksX0_person_0 15 rfl rfl)
theorem dX0_person_16 : decode cX0_person 16 = .ok (.ireturn, 1) := dk_172 (dk_at dksX0_person_0 16 rfl rfl)
theorem dX0_person_17 : decode cX0_person 17 = .ok (.astore 4, 2) := dk_58 4 (dk_at dksX0_person_0 17 rfl rfl)
theorem dX0_person_19 : decode cX0_person 19 = .ok (.iconst 2, 1) := dk_5 (dk_at dksX0_person_0 19 rfl rfl)
theorem dX0_person_20 : decode cX0_person 20 = .ok (.ireturn, 1) := dk_172 (dk_at dksX0_person_0 20 rfl rfl)
theorem dX0_person_21 : decode cX0_person 21 = .ok (.iconst 0, 1) := dk_3 (dk_at dksX0_person_0 21 rfl rfl)
theorem dX0_person_22 : decode cX0_person 22 = .ok (.ireturn, 1) := dk_172 (dk_at dksX0_person_0 22 rfl rfl)
abbrev cX0_joke : ByteArray := method_9_code
def yX0_joke : MethodName := ⟨RX0, "joke", "(LDimpleWells;II[J)I"⟩
def dkwX0_joke_0 : List UInt8 := [45, 3, 42, 27, 28, 182, 0, 33, 133, 80, 167, 0, 11, 58, 4, 4, 172, 58, 4, 5, 172, 3, 172]
abbrev dktX0_joke_0 : List UInt8 := dkwX0_joke_0 ++ []
theorem dksX0_joke_0 : cX0_joke.data.toList.drop 0 = dktX0_joke_0 := by decide +kernel
theorem dX0_joke_0 : decode cX0_joke 0 = .ok (.aload_n 3, 1) := dk_45 (dk_at dksX0_joke_0 0 rfl rfl)
theorem dX0_joke_1 : decode cX0_joke 1 = .ok (.iconst 0, 1) := dk_3 (dk_at dksX0_joke_0 1 rfl rfl)
theorem dX0_joke_2 : decode cX0_joke 2 = .ok (.aload_n 0, 1) := dk_42 (dk_at dksX0_joke_0 2 rfl rfl)
theorem dX0_joke_3 : decode cX0_joke 3 = .ok (.iload_n 1, 1) := dk_27 (dk_at dksX0_joke_0 3 rfl rfl)
theorem dX0_joke_4 : decode cX0_joke 4 = .ok (.iload_n 2, 1) := dk_28 (dk_at dksX0_joke_0 4 rfl rfl)
theorem dX0_joke_5 : decode cX0_joke 5 = .ok (.invokevirtual 33, 3) := dk_182 0 33 (dk_at dksX0_joke_0 5 rfl rfl)
theorem dX0_joke_8 : decode cX0_joke 8 = .ok (.i2l, 1) := dk_133 (dk_at dksX0_joke_0 8 rfl rfl)
theorem dX0_joke_9 : decode cX0_joke 9 = .ok (.lastore, 1) := dk_80 (dk_at dksX0_joke_0 9 rfl rfl)
theorem dX0_joke_10 : decode cX0_joke 10 = .ok (.goto 11, 3) := dk_167 0 11 (dk_at dksX0_joke_0 10 rfl rfl)
theorem dX0_joke_13 : decode cX0_joke 13 = .ok (.astore 4, 2) := dk_58 4 (dk_at dksX0_joke_0 13 rfl rfl)
theorem dX0_joke_15 : decode cX0_joke 15 = .ok (.iconst 1, 1) := dk_4 (dk_at dksX0_joke_0 15 rfl rfl)
theorem dX0_joke_16 : decode cX0_joke 16 = .ok (.ireturn, 1) := dk_172 (dk_at dksX0_joke_0 16 rfl rfl)
theorem dX0_joke_17 : decode cX0_joke 17 = .ok (.astore 4, 2) := dk_58 4 (dk_at dksX0_joke_0 17 rfl rfl)
theorem dX0_joke_19 : decode cX0_joke 19 = .ok (.iconst 2, 1) := dk_5 (dk_at dksX0_joke_0 19 rfl rfl)
theorem dX0_joke_20 : decode cX0_joke 20 = .ok (.ireturn, 1) := dk_172 (dk_at dksX0_joke_0 20 rfl rfl)
theorem dX0_joke_21 : decode cX0_joke 21 = .ok (.iconst 0, 1) := dk_3 (dk_at dksX0_joke_0 21 rfl rfl)
theorem dX0_joke_22 : decode cX0_joke 22 = .ok (.ireturn, 1) := dk_172 (dk_at dksX0_joke_0 22 rfl rfl)
abbrev cX0_street : ByteArray := method_10_code
def yX0_street : MethodName := ⟨RX0, "street", "(LDimpleWells;II[J)I"⟩
def dkwX0_street_0 : List UInt8 := [45, 3, 42, 27, 28, 182, 0, 36, 133, 80, 167, 0, 11, 58, 4, 4, 172, 58, 4, 5, 172, 3, 172]
abbrev dktX0_street_0 : List UInt8 := dkwX0_street_0 ++ []
theorem dksX0_street_0 : cX0_street.data.toList.drop 0 = dktX0_street_0 := by decide +kernel
theorem dX0_street_0 : decode cX0_street 0 = .ok (.aload_n 3, 1) := dk_45 (dk_at dksX0_street_0 0 rfl rfl)
theorem dX0_street_1 : decode cX0_street 1 = .ok (.iconst 0, 1) := dk_3 (dk_at dksX0_street_0 1 rfl rfl)
theorem dX0_street_2 : decode cX0_street 2 = .ok (.aload_n 0, 1) := dk_42 (dk_at dksX0_street_0 2 rfl rfl)
theorem dX0_street_3 : decode cX0_street 3 = .ok (.iload_n 1, 1) := dk_27 (dk_at dksX0_street_0 3 rfl rfl)
theorem dX0_street_4 : decode cX0_street 4 = .ok (.iload_n 2, 1) := dk_28 (dk_at dksX0_street_0 4 rfl rfl)
theorem dX0_street_5 : decode cX0_street 5 = .ok (.invokevirtual 36, 3) := dk_182 0 36 (dk_at dksX0_street_0 5 rfl rfl)
theorem dX0_street_8 : decode cX0_street 8 = .ok (.i2l, 1) := dk_133 (dk_at dksX0_street_0 8 rfl rfl)
theorem dX0_street_9 : decode cX0_street 9 = .ok (.lastore, 1) := dk_80 (dk_at dksX0_street_0 9 rfl rfl)
theorem dX0_street_10 : decode cX0_street 10 = .ok (.goto 11, 3) := dk_167 0 11 (dk_at dksX0_street_0 10 rfl rfl)
theorem dX0_street_13 : decode cX0_street 13 = .ok (.astore 4, 2) := dk_58 4 (dk_at dksX0_street_0 13 rfl rfl)
theorem dX0_street_15 : decode cX0_street 15 = .ok (.iconst 1, 1) := dk_4 (dk_at dksX0_street_0 15 rfl rfl)
theorem dX0_street_16 : decode cX0_street 16 = .ok (.ireturn, 1) := dk_172 (dk_at dksX0_street_0 16 rfl rfl)
theorem dX0_street_17 : decode cX0_street 17 = .ok (.astore 4, 2) := dk_58 4 (dk_at dksX0_street_0 17 rfl rfl)
theorem dX0_street_19 : decode cX0_street 19 = .ok (.iconst 2, 1) := dk_5 (dk_at dksX0_street_0 19 rfl rfl)
theorem dX0_street_20 : decode cX0_street 20 = .ok (.ireturn, 1) := dk_172 (dk_at dksX0_street_0 20 rfl rfl)
theorem dX0_street_21 : decode cX0_street 21 = .ok (.iconst 0, 1) := dk_3 (dk_at dksX0_street_0 21 rfl rfl)
theorem dX0_street_22 : decode cX0_street 22 = .ok (.ireturn, 1) := dk_172 (dk_at dksX0_street_0 22 rfl rfl)
abbrev cX0_worn : ByteArray := method_11_code
def yX0_worn : MethodName := ⟨RX0, "worn", "(LDimpleWells;II[J)I"⟩
def dkwX0_worn_0 : List UInt8 := [45, 3, 42, 27, 28, 182, 0, 39, 133, 80, 167, 0, 7, 58, 4, 4, 172, 3, 172]
abbrev dktX0_worn_0 : List UInt8 := dkwX0_worn_0 ++ []
theorem dksX0_worn_0 : cX0_worn.data.toList.drop 0 = dktX0_worn_0 := by decide +kernel
theorem dX0_worn_0 : decode cX0_worn 0 = .ok (.aload_n 3, 1) := dk_45 (dk_at dksX0_worn_0 0 rfl rfl)
theorem dX0_worn_1 : decode cX0_worn 1 = .ok (.iconst 0, 1) := dk_3 (dk_at dksX0_worn_0 1 rfl rfl)
theorem dX0_worn_2 : decode cX0_worn 2 = .ok (.aload_n 0, 1) := dk_42 (dk_at dksX0_worn_0 2 rfl rfl)
theorem dX0_worn_3 : decode cX0_worn 3 = .ok (.iload_n 1, 1) := dk_27 (dk_at dksX0_worn_0 3 rfl rfl)
theorem dX0_worn_4 : decode cX0_worn 4 = .ok (.iload_n 2, 1) := dk_28 (dk_at dksX0_worn_0 4 rfl rfl)
theorem dX0_worn_5 : decode cX0_worn 5 = .ok (.invokevirtual 39, 3) := dk_182 0 39 (dk_at dksX0_worn_0 5 rfl rfl)
theorem dX0_worn_8 : decode cX0_worn 8 = .ok (.i2l, 1) := dk_133 (dk_at dksX0_worn_0 8 rfl rfl)
theorem dX0_worn_9 : decode cX0_worn 9 = .ok (.lastore, 1) := dk_80 (dk_at dksX0_worn_0 9 rfl rfl)
theorem dX0_worn_10 : decode cX0_worn 10 = .ok (.goto 7, 3) := dk_167 0 7 (dk_at dksX0_worn_0 10 rfl rfl)
theorem dX0_worn_13 : decode cX0_worn 13 = .ok (.astore 4, 2) := dk_58 4 (dk_at dksX0_worn_0 13 rfl rfl)
theorem dX0_worn_15 : decode cX0_worn 15 = .ok (.iconst 1, 1) := dk_4 (dk_at dksX0_worn_0 15 rfl rfl)
theorem dX0_worn_16 : decode cX0_worn 16 = .ok (.ireturn, 1) := dk_172 (dk_at dksX0_worn_0 16 rfl rfl)
theorem dX0_worn_17 : decode cX0_worn 17 = .ok (.iconst 0, 1) := dk_3 (dk_at dksX0_worn_0 17 rfl rfl)
theorem dX0_worn_18 : decode cX0_worn 18 = .ok (.ireturn, 1) := dk_172 (dk_at dksX0_worn_0 18 rfl rfl)
abbrev cX0_laugh : ByteArray := method_12_code
def yX0_laugh : MethodName := ⟨RX0, "laugh", "(LDimpleWells;II[J)I"⟩
def dkwX0_laugh_0 : List UInt8 := [45, 3, 42, 27, 28, 182, 0, 42, 133, 80, 167, 0, 7, 58, 4, 4, 172, 3, 172]
abbrev dktX0_laugh_0 : List UInt8 := dkwX0_laugh_0 ++ []
theorem dksX0_laugh_0 : cX0_laugh.data.toList.drop 0 = dktX0_laugh_0 := by decide +kernel
theorem dX0_laugh_0 : decode cX0_laugh 0 = .ok (.aload_n 3, 1) := dk_45 (dk_at dksX0_laugh_0 0 rfl rfl)
theorem dX0_laugh_1 : decode cX0_laugh 1 = .ok (.iconst 0, 1) := dk_3 (dk_at dksX0_laugh_0 1 rfl rfl)
theorem dX0_laugh_2 : decode cX0_laugh 2 = .ok (.aload_n 0, 1) := dk_42 (dk_at dksX0_laugh_0 2 rfl rfl)
theorem dX0_laugh_3 : decode cX0_laugh 3 = .ok (.iload_n 1, 1) := dk_27 (dk_at dksX0_laugh_0 3 rfl rfl)
theorem dX0_laugh_4 : decode cX0_laugh 4 = .ok (.iload_n 2, 1) := dk_28 (dk_at dksX0_laugh_0 4 rfl rfl)
theorem dX0_laugh_5 : decode cX0_laugh 5 = .ok (.invokevirtual 42, 3) := dk_182 0 42 (dk_at dksX0_laugh_0 5 rfl rfl)
theorem dX0_laugh_8 : decode cX0_laugh 8 = .ok (.i2l, 1) := dk_133 (dk_at dksX0_laugh_0 8 rfl rfl)
theorem dX0_laugh_9 : decode cX0_laugh 9 = .ok (.lastore, 1) := dk_80 (dk_at dksX0_laugh_0 9 rfl rfl)
theorem dX0_laugh_10 : decode cX0_laugh 10 = .ok (.goto 7, 3) := dk_167 0 7 (dk_at dksX0_laugh_0 10 rfl rfl)
theorem dX0_laugh_13 : decode cX0_laugh 13 = .ok (.astore 4, 2) := dk_58 4 (dk_at dksX0_laugh_0 13 rfl rfl)
theorem dX0_laugh_15 : decode cX0_laugh 15 = .ok (.iconst 1, 1) := dk_4 (dk_at dksX0_laugh_0 15 rfl rfl)
theorem dX0_laugh_16 : decode cX0_laugh 16 = .ok (.ireturn, 1) := dk_172 (dk_at dksX0_laugh_0 16 rfl rfl)
theorem dX0_laugh_17 : decode cX0_laugh 17 = .ok (.iconst 0, 1) := dk_3 (dk_at dksX0_laugh_0 17 rfl rfl)
theorem dX0_laugh_18 : decode cX0_laugh 18 = .ok (.ireturn, 1) := dk_172 (dk_at dksX0_laugh_0 18 rfl rfl)
abbrev cX0_water : ByteArray := method_13_code
def yX0_water : MethodName := ⟨RX0, "water", "(LDimpleWells;II[J)I"⟩
def dkwX0_water_0 : List UInt8 := [45, 3, 42, 27, 28, 182, 0, 45, 133, 80, 167, 0, 7, 58, 4, 4, 172, 3, 172]
abbrev dktX0_water_0 : List UInt8 := dkwX0_water_0 ++ []
theorem dksX0_water_0 : cX0_water.data.toList.drop 0 = dktX0_water_0 := by decide +kernel
theorem dX0_water_0 : decode cX0_water 0 = .ok (.aload_n 3, 1) := dk_45 (dk_at dksX0_water_0 0 rfl rfl)
theorem dX0_water_1 : decode cX0_water 1 = .ok (.iconst 0, 1) := dk_3 (dk_at dksX0_water_0 1 rfl rfl)
theorem dX0_water_2 : decode cX0_water 2 = .ok (.aload_n 0, 1) := dk_42 (dk_at dksX0_water_0 2 rfl rfl)
theorem dX0_water_3 : decode cX0_water 3 = .ok (.iload_n 1, 1) := dk_27 (dk_at dksX0_water_0 3 rfl rfl)
theorem dX0_water_4 : decode cX0_water 4 = .ok (.iload_n 2, 1) := dk_28 (dk_at dksX0_water_0 4 rfl rfl)
theorem dX0_water_5 : decode cX0_water 5 = .ok (.invokevirtual 45, 3) := dk_182 0 45 (dk_at dksX0_water_0 5 rfl rfl)
theorem dX0_water_8 : decode cX0_water 8 = .ok (.i2l, 1) := dk_133 (dk_at dksX0_water_0 8 rfl rfl)
theorem dX0_water_9 : decode cX0_water 9 = .ok (.lastore, 1) := dk_80 (dk_at dksX0_water_0 9 rfl rfl)
theorem dX0_water_10 : decode cX0_water 10 = .ok (.goto 7, 3) := dk_167 0 7 (dk_at dksX0_water_0 10 rfl rfl)
theorem dX0_water_13 : decode cX0_water 13 = .ok (.astore 4, 2) := dk_58 4 (dk_at dksX0_water_0 13 rfl rfl)
theorem dX0_water_15 : decode cX0_water 15 = .ok (.iconst 1, 1) := dk_4 (dk_at dksX0_water_0 15 rfl rfl)
theorem dX0_water_16 : decode cX0_water 16 = .ok (.ireturn, 1) := dk_172 (dk_at dksX0_water_0 16 rfl rfl)
theorem dX0_water_17 : decode cX0_water 17 = .ok (.iconst 0, 1) := dk_3 (dk_at dksX0_water_0 17 rfl rfl)
theorem dX0_water_18 : decode cX0_water 18 = .ok (.ireturn, 1) := dk_172 (dk_at dksX0_water_0 18 rfl rfl)
abbrev cX0_would : ByteArray := method_14_code
def yX0_would : MethodName := ⟨RX0, "would", "(LDimpleWells;IIIIIIIIII[J)I"⟩
def dkwX0_would_1 : List UInt8 := [133, 80, 167, 0, 7, 58, 12, 4, 172, 3, 172]
abbrev dktX0_would_1 : List UInt8 := dkwX0_would_1 ++ []
def dkwX0_would_0 : List UInt8 := [25, 11, 3, 42, 27, 28, 29, 21, 4, 21, 5, 21, 6, 21, 7, 21, 8, 21, 9, 21, 10, 182, 0, 48]
abbrev dktX0_would_0 : List UInt8 := dkwX0_would_0 ++ dktX0_would_1
theorem dksX0_would_0 : cX0_would.data.toList.drop 0 = dktX0_would_0 := by decide +kernel
theorem dksX0_would_1 : cX0_would.data.toList.drop 24 = dktX0_would_1 := dk_seg dksX0_would_0 24 rfl rfl
theorem dX0_would_0 : decode cX0_would 0 = .ok (.aload 11, 2) := dk_25 11 (dk_at dksX0_would_0 0 rfl rfl)
theorem dX0_would_2 : decode cX0_would 2 = .ok (.iconst 0, 1) := dk_3 (dk_at dksX0_would_0 2 rfl rfl)
theorem dX0_would_3 : decode cX0_would 3 = .ok (.aload_n 0, 1) := dk_42 (dk_at dksX0_would_0 3 rfl rfl)
theorem dX0_would_4 : decode cX0_would 4 = .ok (.iload_n 1, 1) := dk_27 (dk_at dksX0_would_0 4 rfl rfl)
theorem dX0_would_5 : decode cX0_would 5 = .ok (.iload_n 2, 1) := dk_28 (dk_at dksX0_would_0 5 rfl rfl)
theorem dX0_would_6 : decode cX0_would 6 = .ok (.iload_n 3, 1) := dk_29 (dk_at dksX0_would_0 6 rfl rfl)
theorem dX0_would_7 : decode cX0_would 7 = .ok (.iload 4, 2) := dk_21 4 (dk_at dksX0_would_0 7 rfl rfl)
theorem dX0_would_9 : decode cX0_would 9 = .ok (.iload 5, 2) := dk_21 5 (dk_at dksX0_would_0 9 rfl rfl)
theorem dX0_would_11 : decode cX0_would 11 = .ok (.iload 6, 2) := dk_21 6 (dk_at dksX0_would_0 11 rfl rfl)
theorem dX0_would_13 : decode cX0_would 13 = .ok (.iload 7, 2) := dk_21 7 (dk_at dksX0_would_0 13 rfl rfl)
theorem dX0_would_15 : decode cX0_would 15 = .ok (.iload 8, 2) := dk_21 8 (dk_at dksX0_would_0 15 rfl rfl)
theorem dX0_would_17 : decode cX0_would 17 = .ok (.iload 9, 2) := dk_21 9 (dk_at dksX0_would_0 17 rfl rfl)
theorem dX0_would_19 : decode cX0_would 19 = .ok (.iload 10, 2) := dk_21 10 (dk_at dksX0_would_0 19 rfl rfl)
theorem dX0_would_21 : decode cX0_would 21 = .ok (.invokevirtual 48, 3) := dk_182 0 48 (dk_at dksX0_would_0 21 rfl rfl)
theorem dX0_would_24 : decode cX0_would 24 = .ok (.i2l, 1) := dk_133 (dk_at dksX0_would_1 0 rfl rfl)
theorem dX0_would_25 : decode cX0_would 25 = .ok (.lastore, 1) := dk_80 (dk_at dksX0_would_1 1 rfl rfl)
theorem dX0_would_26 : decode cX0_would 26 = .ok (.goto 7, 3) := dk_167 0 7 (dk_at dksX0_would_1 2 rfl rfl)
theorem dX0_would_29 : decode cX0_would 29 = .ok (.astore 12, 2) := dk_58 12 (dk_at dksX0_would_1 5 rfl rfl)
theorem dX0_would_31 : decode cX0_would 31 = .ok (.iconst 1, 1) := dk_4 (dk_at dksX0_would_1 7 rfl rfl)
theorem dX0_would_32 : decode cX0_would 32 = .ok (.ireturn, 1) := dk_172 (dk_at dksX0_would_1 8 rfl rfl)
theorem dX0_would_33 : decode cX0_would 33 = .ok (.iconst 0, 1) := dk_3 (dk_at dksX0_would_1 9 rfl rfl)
theorem dX0_would_34 : decode cX0_would 34 = .ok (.ireturn, 1) := dk_172 (dk_at dksX0_would_1 10 rfl rfl)
abbrev cX0_ahead : ByteArray := method_15_code
def yX0_ahead : MethodName := ⟨RX0, "ahead", "(LDimpleWells;II[J)I"⟩
def dkwX0_ahead_0 : List UInt8 := [45, 3, 42, 27, 28, 182, 0, 52, 133, 80, 167, 0, 7, 58, 4, 4, 172, 3, 172]
abbrev dktX0_ahead_0 : List UInt8 := dkwX0_ahead_0 ++ []
theorem dksX0_ahead_0 : cX0_ahead.data.toList.drop 0 = dktX0_ahead_0 := by decide +kernel
theorem dX0_ahead_0 : decode cX0_ahead 0 = .ok (.aload_n 3, 1) := dk_45 (dk_at dksX0_ahead_0 0 rfl rfl)
theorem dX0_ahead_1 : decode cX0_ahead 1 = .ok (.iconst 0, 1) := dk_3 (dk_at dksX0_ahead_0 1 rfl rfl)
theorem dX0_ahead_2 : decode cX0_ahead 2 = .ok (.aload_n 0, 1) := dk_42 (dk_at dksX0_ahead_0 2 rfl rfl)
theorem dX0_ahead_3 : decode cX0_ahead 3 = .ok (.iload_n 1, 1) := dk_27 (dk_at dksX0_ahead_0 3 rfl rfl)
theorem dX0_ahead_4 : decode cX0_ahead 4 = .ok (.iload_n 2, 1) := dk_28 (dk_at dksX0_ahead_0 4 rfl rfl)
theorem dX0_ahead_5 : decode cX0_ahead 5 = .ok (.invokevirtual 52, 3) := dk_182 0 52 (dk_at dksX0_ahead_0 5 rfl rfl)
theorem dX0_ahead_8 : decode cX0_ahead 8 = .ok (.i2l, 1) := dk_133 (dk_at dksX0_ahead_0 8 rfl rfl)
theorem dX0_ahead_9 : decode cX0_ahead 9 = .ok (.lastore, 1) := dk_80 (dk_at dksX0_ahead_0 9 rfl rfl)
theorem dX0_ahead_10 : decode cX0_ahead 10 = .ok (.goto 7, 3) := dk_167 0 7 (dk_at dksX0_ahead_0 10 rfl rfl)
theorem dX0_ahead_13 : decode cX0_ahead 13 = .ok (.astore 4, 2) := dk_58 4 (dk_at dksX0_ahead_0 13 rfl rfl)
theorem dX0_ahead_15 : decode cX0_ahead 15 = .ok (.iconst 1, 1) := dk_4 (dk_at dksX0_ahead_0 15 rfl rfl)
theorem dX0_ahead_16 : decode cX0_ahead 16 = .ok (.ireturn, 1) := dk_172 (dk_at dksX0_ahead_0 16 rfl rfl)
theorem dX0_ahead_17 : decode cX0_ahead 17 = .ok (.iconst 0, 1) := dk_3 (dk_at dksX0_ahead_0 17 rfl rfl)
theorem dX0_ahead_18 : decode cX0_ahead 18 = .ok (.ireturn, 1) := dk_172 (dk_at dksX0_ahead_0 18 rfl rfl)
abbrev cX0_given : ByteArray := method_16_code
def yX0_given : MethodName := ⟨RX0, "given", "(LDimpleWells;I[J)I"⟩
def dkwX0_given_0 : List UInt8 := [44, 3, 42, 27, 182, 0, 55, 133, 80, 167, 0, 6, 78, 4, 172, 3, 172]
abbrev dktX0_given_0 : List UInt8 := dkwX0_given_0 ++ []
theorem dksX0_given_0 : cX0_given.data.toList.drop 0 = dktX0_given_0 := by decide +kernel
theorem dX0_given_0 : decode cX0_given 0 = .ok (.aload_n 2, 1) := dk_44 (dk_at dksX0_given_0 0 rfl rfl)
theorem dX0_given_1 : decode cX0_given 1 = .ok (.iconst 0, 1) := dk_3 (dk_at dksX0_given_0 1 rfl rfl)
theorem dX0_given_2 : decode cX0_given 2 = .ok (.aload_n 0, 1) := dk_42 (dk_at dksX0_given_0 2 rfl rfl)
theorem dX0_given_3 : decode cX0_given 3 = .ok (.iload_n 1, 1) := dk_27 (dk_at dksX0_given_0 3 rfl rfl)
theorem dX0_given_4 : decode cX0_given 4 = .ok (.invokevirtual 55, 3) := dk_182 0 55 (dk_at dksX0_given_0 4 rfl rfl)
theorem dX0_given_7 : decode cX0_given 7 = .ok (.i2l, 1) := dk_133 (dk_at dksX0_given_0 7 rfl rfl)
theorem dX0_given_8 : decode cX0_given 8 = .ok (.lastore, 1) := dk_80 (dk_at dksX0_given_0 8 rfl rfl)
theorem dX0_given_9 : decode cX0_given 9 = .ok (.goto 6, 3) := dk_167 0 6 (dk_at dksX0_given_0 9 rfl rfl)
theorem dX0_given_12 : decode cX0_given 12 = .ok (.astore_n 3, 1) := dk_78 (dk_at dksX0_given_0 12 rfl rfl)
theorem dX0_given_13 : decode cX0_given 13 = .ok (.iconst 1, 1) := dk_4 (dk_at dksX0_given_0 13 rfl rfl)
theorem dX0_given_14 : decode cX0_given 14 = .ok (.ireturn, 1) := dk_172 (dk_at dksX0_given_0 14 rfl rfl)
theorem dX0_given_15 : decode cX0_given 15 = .ok (.iconst 0, 1) := dk_3 (dk_at dksX0_given_0 15 rfl rfl)
theorem dX0_given_16 : decode cX0_given 16 = .ok (.ireturn, 1) := dk_172 (dk_at dksX0_given_0 16 rfl rfl)
abbrev cX0_enough : ByteArray := method_17_code
def yX0_enough : MethodName := ⟨RX0, "enough", "(LDimpleWells;I[J)I"⟩
def dkwX0_enough_0 : List UInt8 := [44, 3, 42, 27, 182, 0, 58, 133, 80, 167, 0, 6, 78, 4, 172, 3, 172]
abbrev dktX0_enough_0 : List UInt8 := dkwX0_enough_0 ++ []
theorem dksX0_enough_0 : cX0_enough.data.toList.drop 0 = dktX0_enough_0 := by decide +kernel
theorem dX0_enough_0 : decode cX0_enough 0 = .ok (.aload_n 2, 1) := dk_44 (dk_at dksX0_enough_0 0 rfl rfl)
theorem dX0_enough_1 : decode cX0_enough 1 = .ok (.iconst 0, 1) := dk_3 (dk_at dksX0_enough_0 1 rfl rfl)
theorem dX0_enough_2 : decode cX0_enough 2 = .ok (.aload_n 0, 1) := dk_42 (dk_at dksX0_enough_0 2 rfl rfl)
theorem dX0_enough_3 : decode cX0_enough 3 = .ok (.iload_n 1, 1) := dk_27 (dk_at dksX0_enough_0 3 rfl rfl)
theorem dX0_enough_4 : decode cX0_enough 4 = .ok (.invokevirtual 58, 3) := dk_182 0 58 (dk_at dksX0_enough_0 4 rfl rfl)
theorem dX0_enough_7 : decode cX0_enough 7 = .ok (.i2l, 1) := dk_133 (dk_at dksX0_enough_0 7 rfl rfl)
theorem dX0_enough_8 : decode cX0_enough 8 = .ok (.lastore, 1) := dk_80 (dk_at dksX0_enough_0 8 rfl rfl)
theorem dX0_enough_9 : decode cX0_enough 9 = .ok (.goto 6, 3) := dk_167 0 6 (dk_at dksX0_enough_0 9 rfl rfl)
theorem dX0_enough_12 : decode cX0_enough 12 = .ok (.astore_n 3, 1) := dk_78 (dk_at dksX0_enough_0 12 rfl rfl)
theorem dX0_enough_13 : decode cX0_enough 13 = .ok (.iconst 1, 1) := dk_4 (dk_at dksX0_enough_0 13 rfl rfl)
theorem dX0_enough_14 : decode cX0_enough 14 = .ok (.ireturn, 1) := dk_172 (dk_at dksX0_enough_0 14 rfl rfl)
theorem dX0_enough_15 : decode cX0_enough 15 = .ok (.iconst 0, 1) := dk_3 (dk_at dksX0_enough_0 15 rfl rfl)
theorem dX0_enough_16 : decode cX0_enough 16 = .ok (.ireturn, 1) := dk_172 (dk_at dksX0_enough_0 16 rfl rfl)
abbrev cX0_lasts : ByteArray := method_18_code
def yX0_lasts : MethodName := ⟨RX0, "lasts", "(LDimpleWells;II[J)I"⟩
def dkwX0_lasts_0 : List UInt8 := [45, 3, 42, 27, 28, 182, 0, 61, 133, 80, 167, 0, 7, 58, 4, 4, 172, 3, 172]
abbrev dktX0_lasts_0 : List UInt8 := dkwX0_lasts_0 ++ []
theorem dksX0_lasts_0 : cX0_lasts.data.toList.drop 0 = dktX0_lasts_0 := by decide +kernel
theorem dX0_lasts_0 : decode cX0_lasts 0 = .ok (.aload_n 3, 1) := dk_45 (dk_at dksX0_lasts_0 0 rfl rfl)
theorem dX0_lasts_1 : decode cX0_lasts 1 = .ok (.iconst 0, 1) := dk_3 (dk_at dksX0_lasts_0 1 rfl rfl)
theorem dX0_lasts_2 : decode cX0_lasts 2 = .ok (.aload_n 0, 1) := dk_42 (dk_at dksX0_lasts_0 2 rfl rfl)
theorem dX0_lasts_3 : decode cX0_lasts 3 = .ok (.iload_n 1, 1) := dk_27 (dk_at dksX0_lasts_0 3 rfl rfl)
theorem dX0_lasts_4 : decode cX0_lasts 4 = .ok (.iload_n 2, 1) := dk_28 (dk_at dksX0_lasts_0 4 rfl rfl)
theorem dX0_lasts_5 : decode cX0_lasts 5 = .ok (.invokevirtual 61, 3) := dk_182 0 61 (dk_at dksX0_lasts_0 5 rfl rfl)
theorem dX0_lasts_8 : decode cX0_lasts 8 = .ok (.i2l, 1) := dk_133 (dk_at dksX0_lasts_0 8 rfl rfl)
theorem dX0_lasts_9 : decode cX0_lasts 9 = .ok (.lastore, 1) := dk_80 (dk_at dksX0_lasts_0 9 rfl rfl)
theorem dX0_lasts_10 : decode cX0_lasts 10 = .ok (.goto 7, 3) := dk_167 0 7 (dk_at dksX0_lasts_0 10 rfl rfl)
theorem dX0_lasts_13 : decode cX0_lasts 13 = .ok (.astore 4, 2) := dk_58 4 (dk_at dksX0_lasts_0 13 rfl rfl)
theorem dX0_lasts_15 : decode cX0_lasts 15 = .ok (.iconst 1, 1) := dk_4 (dk_at dksX0_lasts_0 15 rfl rfl)
theorem dX0_lasts_16 : decode cX0_lasts 16 = .ok (.ireturn, 1) := dk_172 (dk_at dksX0_lasts_0 16 rfl rfl)
theorem dX0_lasts_17 : decode cX0_lasts 17 = .ok (.iconst 0, 1) := dk_3 (dk_at dksX0_lasts_0 17 rfl rfl)
theorem dX0_lasts_18 : decode cX0_lasts 18 = .ok (.ireturn, 1) := dk_172 (dk_at dksX0_lasts_0 18 rfl rfl)
abbrev cX0_well : ByteArray := method_19_code
def yX0_well : MethodName := ⟨RX0, "well", "(LDimpleWells;II[J)I"⟩
def dkwX0_well_0 : List UInt8 := [45, 3, 42, 27, 28, 182, 0, 64, 133, 80, 167, 0, 7, 58, 4, 4, 172, 3, 172]
abbrev dktX0_well_0 : List UInt8 := dkwX0_well_0 ++ []
theorem dksX0_well_0 : cX0_well.data.toList.drop 0 = dktX0_well_0 := by decide +kernel
theorem dX0_well_0 : decode cX0_well 0 = .ok (.aload_n 3, 1) := dk_45 (dk_at dksX0_well_0 0 rfl rfl)
theorem dX0_well_1 : decode cX0_well 1 = .ok (.iconst 0, 1) := dk_3 (dk_at dksX0_well_0 1 rfl rfl)
theorem dX0_well_2 : decode cX0_well 2 = .ok (.aload_n 0, 1) := dk_42 (dk_at dksX0_well_0 2 rfl rfl)
theorem dX0_well_3 : decode cX0_well 3 = .ok (.iload_n 1, 1) := dk_27 (dk_at dksX0_well_0 3 rfl rfl)
theorem dX0_well_4 : decode cX0_well 4 = .ok (.iload_n 2, 1) := dk_28 (dk_at dksX0_well_0 4 rfl rfl)
theorem dX0_well_5 : decode cX0_well 5 = .ok (.invokevirtual 64, 3) := dk_182 0 64 (dk_at dksX0_well_0 5 rfl rfl)
theorem dX0_well_8 : decode cX0_well 8 = .ok (.i2l, 1) := dk_133 (dk_at dksX0_well_0 8 rfl rfl)
theorem dX0_well_9 : decode cX0_well 9 = .ok (.lastore, 1) := dk_80 (dk_at dksX0_well_0 9 rfl rfl)
theorem dX0_well_10 : decode cX0_well 10 = .ok (.goto 7, 3) := dk_167 0 7 (dk_at dksX0_well_0 10 rfl rfl)
theorem dX0_well_13 : decode cX0_well 13 = .ok (.astore 4, 2) := dk_58 4 (dk_at dksX0_well_0 13 rfl rfl)
theorem dX0_well_15 : decode cX0_well 15 = .ok (.iconst 1, 1) := dk_4 (dk_at dksX0_well_0 15 rfl rfl)
theorem dX0_well_16 : decode cX0_well 16 = .ok (.ireturn, 1) := dk_172 (dk_at dksX0_well_0 16 rfl rfl)
theorem dX0_well_17 : decode cX0_well 17 = .ok (.iconst 0, 1) := dk_3 (dk_at dksX0_well_0 17 rfl rfl)
theorem dX0_well_18 : decode cX0_well 18 = .ok (.ireturn, 1) := dk_172 (dk_at dksX0_well_0 18 rfl rfl)
abbrev cX0_fits : ByteArray := method_20_code
def yX0_fits : MethodName := ⟨RX0, "fits", "(LDimpleWells;II[J)I"⟩
def dkwX0_fits_0 : List UInt8 := [45, 3, 42, 27, 28, 182, 0, 67, 133, 80, 167, 0, 11, 58, 4, 4, 172, 58, 4, 5, 172, 3, 172]
abbrev dktX0_fits_0 : List UInt8 := dkwX0_fits_0 ++ []
theorem dksX0_fits_0 : cX0_fits.data.toList.drop 0 = dktX0_fits_0 := by decide +kernel
theorem dX0_fits_0 : decode cX0_fits 0 = .ok (.aload_n 3, 1) := dk_45 (dk_at dksX0_fits_0 0 rfl rfl)
theorem dX0_fits_1 : decode cX0_fits 1 = .ok (.iconst 0, 1) := dk_3 (dk_at dksX0_fits_0 1 rfl rfl)
theorem dX0_fits_2 : decode cX0_fits 2 = .ok (.aload_n 0, 1) := dk_42 (dk_at dksX0_fits_0 2 rfl rfl)
theorem dX0_fits_3 : decode cX0_fits 3 = .ok (.iload_n 1, 1) := dk_27 (dk_at dksX0_fits_0 3 rfl rfl)
theorem dX0_fits_4 : decode cX0_fits 4 = .ok (.iload_n 2, 1) := dk_28 (dk_at dksX0_fits_0 4 rfl rfl)
theorem dX0_fits_5 : decode cX0_fits 5 = .ok (.invokevirtual 67, 3) := dk_182 0 67 (dk_at dksX0_fits_0 5 rfl rfl)
theorem dX0_fits_8 : decode cX0_fits 8 = .ok (.i2l, 1) := dk_133 (dk_at dksX0_fits_0 8 rfl rfl)
theorem dX0_fits_9 : decode cX0_fits 9 = .ok (.lastore, 1) := dk_80 (dk_at dksX0_fits_0 9 rfl rfl)
theorem dX0_fits_10 : decode cX0_fits 10 = .ok (.goto 11, 3) := dk_167 0 11 (dk_at dksX0_fits_0 10 rfl rfl)
theorem dX0_fits_13 : decode cX0_fits 13 = .ok (.astore 4, 2) := dk_58 4 (dk_at dksX0_fits_0 13 rfl rfl)
theorem dX0_fits_15 : decode cX0_fits 15 = .ok (.iconst 1, 1) := dk_4 (dk_at dksX0_fits_0 15 rfl rfl)
theorem dX0_fits_16 : decode cX0_fits 16 = .ok (.ireturn, 1) := dk_172 (dk_at dksX0_fits_0 16 rfl rfl)
theorem dX0_fits_17 : decode cX0_fits 17 = .ok (.astore 4, 2) := dk_58 4 (dk_at dksX0_fits_0 17 rfl rfl)
theorem dX0_fits_19 : decode cX0_fits 19 = .ok (.iconst 2, 1) := dk_5 (dk_at dksX0_fits_0 19 rfl rfl)
theorem dX0_fits_20 : decode cX0_fits 20 = .ok (.ireturn, 1) := dk_172 (dk_at dksX0_fits_0 20 rfl rfl)
theorem dX0_fits_21 : decode cX0_fits 21 = .ok (.iconst 0, 1) := dk_3 (dk_at dksX0_fits_0 21 rfl rfl)
theorem dX0_fits_22 : decode cX0_fits 22 = .ok (.ireturn, 1) := dk_172 (dk_at dksX0_fits_0 22 rfl rfl)
abbrev cX0_look : ByteArray := method_21_code
def yX0_look : MethodName := ⟨RX0, "look", "(LDimpleWells;II[J)I"⟩
def dkwX0_look_0 : List UInt8 := [45, 3, 42, 27, 28, 182, 0, 70, 133, 80, 167, 0, 11, 58, 4, 4, 172, 58, 4, 5, 172, 3, 172]
abbrev dktX0_look_0 : List UInt8 := dkwX0_look_0 ++ []
theorem dksX0_look_0 : cX0_look.data.toList.drop 0 = dktX0_look_0 := by decide +kernel
theorem dX0_look_0 : decode cX0_look 0 = .ok (.aload_n 3, 1) := dk_45 (dk_at dksX0_look_0 0 rfl rfl)
theorem dX0_look_1 : decode cX0_look 1 = .ok (.iconst 0, 1) := dk_3 (dk_at dksX0_look_0 1 rfl rfl)
theorem dX0_look_2 : decode cX0_look 2 = .ok (.aload_n 0, 1) := dk_42 (dk_at dksX0_look_0 2 rfl rfl)
theorem dX0_look_3 : decode cX0_look 3 = .ok (.iload_n 1, 1) := dk_27 (dk_at dksX0_look_0 3 rfl rfl)
theorem dX0_look_4 : decode cX0_look 4 = .ok (.iload_n 2, 1) := dk_28 (dk_at dksX0_look_0 4 rfl rfl)
theorem dX0_look_5 : decode cX0_look 5 = .ok (.invokevirtual 70, 3) := dk_182 0 70 (dk_at dksX0_look_0 5 rfl rfl)
theorem dX0_look_8 : decode cX0_look 8 = .ok (.i2l, 1) := dk_133 (dk_at dksX0_look_0 8 rfl rfl)
theorem dX0_look_9 : decode cX0_look 9 = .ok (.lastore, 1) := dk_80 (dk_at dksX0_look_0 9 rfl rfl)
theorem dX0_look_10 : decode cX0_look 10 = .ok (.goto 11, 3) := dk_167 0 11 (dk_at dksX0_look_0 10 rfl rfl)
theorem dX0_look_13 : decode cX0_look 13 = .ok (.astore 4, 2) := dk_58 4 (dk_at dksX0_look_0 13 rfl rfl)
theorem dX0_look_15 : decode cX0_look 15 = .ok (.iconst 1, 1) := dk_4 (dk_at dksX0_look_0 15 rfl rfl)
theorem dX0_look_16 : decode cX0_look 16 = .ok (.ireturn, 1) := dk_172 (dk_at dksX0_look_0 16 rfl rfl)
theorem dX0_look_17 : decode cX0_look 17 = .ok (.astore 4, 2) := dk_58 4 (dk_at dksX0_look_0 17 rfl rfl)
theorem dX0_look_19 : decode cX0_look 19 = .ok (.iconst 2, 1) := dk_5 (dk_at dksX0_look_0 19 rfl rfl)
theorem dX0_look_20 : decode cX0_look 20 = .ok (.ireturn, 1) := dk_172 (dk_at dksX0_look_0 20 rfl rfl)
theorem dX0_look_21 : decode cX0_look 21 = .ok (.iconst 0, 1) := dk_3 (dk_at dksX0_look_0 21 rfl rfl)
theorem dX0_look_22 : decode cX0_look 22 = .ok (.ireturn, 1) := dk_172 (dk_at dksX0_look_0 22 rfl rfl)
abbrev cX0_way : ByteArray := method_22_code
def yX0_way : MethodName := ⟨RX0, "way", "(LDimpleWells;II[J)I"⟩
def dkwX0_way_0 : List UInt8 := [45, 3, 42, 27, 28, 182, 0, 73, 133, 80, 167, 0, 7, 58, 4, 4, 172, 3, 172]
abbrev dktX0_way_0 : List UInt8 := dkwX0_way_0 ++ []
theorem dksX0_way_0 : cX0_way.data.toList.drop 0 = dktX0_way_0 := by decide +kernel
theorem dX0_way_0 : decode cX0_way 0 = .ok (.aload_n 3, 1) := dk_45 (dk_at dksX0_way_0 0 rfl rfl)
theorem dX0_way_1 : decode cX0_way 1 = .ok (.iconst 0, 1) := dk_3 (dk_at dksX0_way_0 1 rfl rfl)
theorem dX0_way_2 : decode cX0_way 2 = .ok (.aload_n 0, 1) := dk_42 (dk_at dksX0_way_0 2 rfl rfl)
theorem dX0_way_3 : decode cX0_way 3 = .ok (.iload_n 1, 1) := dk_27 (dk_at dksX0_way_0 3 rfl rfl)
theorem dX0_way_4 : decode cX0_way 4 = .ok (.iload_n 2, 1) := dk_28 (dk_at dksX0_way_0 4 rfl rfl)
theorem dX0_way_5 : decode cX0_way 5 = .ok (.invokevirtual 73, 3) := dk_182 0 73 (dk_at dksX0_way_0 5 rfl rfl)
theorem dX0_way_8 : decode cX0_way 8 = .ok (.i2l, 1) := dk_133 (dk_at dksX0_way_0 8 rfl rfl)
theorem dX0_way_9 : decode cX0_way 9 = .ok (.lastore, 1) := dk_80 (dk_at dksX0_way_0 9 rfl rfl)
theorem dX0_way_10 : decode cX0_way 10 = .ok (.goto 7, 3) := dk_167 0 7 (dk_at dksX0_way_0 10 rfl rfl)
theorem dX0_way_13 : decode cX0_way 13 = .ok (.astore 4, 2) := dk_58 4 (dk_at dksX0_way_0 13 rfl rfl)
theorem dX0_way_15 : decode cX0_way 15 = .ok (.iconst 1, 1) := dk_4 (dk_at dksX0_way_0 15 rfl rfl)
theorem dX0_way_16 : decode cX0_way 16 = .ok (.ireturn, 1) := dk_172 (dk_at dksX0_way_0 16 rfl rfl)
theorem dX0_way_17 : decode cX0_way 17 = .ok (.iconst 0, 1) := dk_3 (dk_at dksX0_way_0 17 rfl rfl)
theorem dX0_way_18 : decode cX0_way 18 = .ok (.ireturn, 1) := dk_172 (dk_at dksX0_way_0 18 rfl rfl)
abbrev cX0_comedians : ByteArray := method_23_code
def yX0_comedians : MethodName := ⟨RX0, "comedians", "(LDimpleWells;IIII[J)I"⟩
def dkwX0_comedians_0 : List UInt8 := [25, 5, 3, 42, 27, 28, 29, 21, 4, 182, 0, 76, 133, 80, 167, 0, 7, 58, 6, 4, 172, 3, 172]
abbrev dktX0_comedians_0 : List UInt8 := dkwX0_comedians_0 ++ []
theorem dksX0_comedians_0 : cX0_comedians.data.toList.drop 0 = dktX0_comedians_0 := by decide +kernel
theorem dX0_comedians_0 : decode cX0_comedians 0 = .ok (.aload 5, 2) := dk_25 5 (dk_at dksX0_comedians_0 0 rfl rfl)
theorem dX0_comedians_2 : decode cX0_comedians 2 = .ok (.iconst 0, 1) := dk_3 (dk_at dksX0_comedians_0 2 rfl rfl)
theorem dX0_comedians_3 : decode cX0_comedians 3 = .ok (.aload_n 0, 1) := dk_42 (dk_at dksX0_comedians_0 3 rfl rfl)
theorem dX0_comedians_4 : decode cX0_comedians 4 = .ok (.iload_n 1, 1) := dk_27 (dk_at dksX0_comedians_0 4 rfl rfl)
theorem dX0_comedians_5 : decode cX0_comedians 5 = .ok (.iload_n 2, 1) := dk_28 (dk_at dksX0_comedians_0 5 rfl rfl)
theorem dX0_comedians_6 : decode cX0_comedians 6 = .ok (.iload_n 3, 1) := dk_29 (dk_at dksX0_comedians_0 6 rfl rfl)
theorem dX0_comedians_7 : decode cX0_comedians 7 = .ok (.iload 4, 2) := dk_21 4 (dk_at dksX0_comedians_0 7 rfl rfl)
theorem dX0_comedians_9 : decode cX0_comedians 9 = .ok (.invokevirtual 76, 3) := dk_182 0 76 (dk_at dksX0_comedians_0 9 rfl rfl)
theorem dX0_comedians_12 : decode cX0_comedians 12 = .ok (.i2l, 1) := dk_133 (dk_at dksX0_comedians_0 12 rfl rfl)
theorem dX0_comedians_13 : decode cX0_comedians 13 = .ok (.lastore, 1) := dk_80 (dk_at dksX0_comedians_0 13 rfl rfl)
theorem dX0_comedians_14 : decode cX0_comedians 14 = .ok (.goto 7, 3) := dk_167 0 7 (dk_at dksX0_comedians_0 14 rfl rfl)
theorem dX0_comedians_17 : decode cX0_comedians 17 = .ok (.astore 6, 2) := dk_58 6 (dk_at dksX0_comedians_0 17 rfl rfl)
theorem dX0_comedians_19 : decode cX0_comedians 19 = .ok (.iconst 1, 1) := dk_4 (dk_at dksX0_comedians_0 19 rfl rfl)
theorem dX0_comedians_20 : decode cX0_comedians 20 = .ok (.ireturn, 1) := dk_172 (dk_at dksX0_comedians_0 20 rfl rfl)
theorem dX0_comedians_21 : decode cX0_comedians 21 = .ok (.iconst 0, 1) := dk_3 (dk_at dksX0_comedians_0 21 rfl rfl)
theorem dX0_comedians_22 : decode cX0_comedians 22 = .ok (.ireturn, 1) := dk_172 (dk_at dksX0_comedians_0 22 rfl rfl)
abbrev cX0_some : ByteArray := method_24_code
def yX0_some : MethodName := ⟨RX0, "some", "(LDimpleWells;IIII[J)I"⟩
def dkwX0_some_0 : List UInt8 := [25, 5, 3, 42, 27, 28, 29, 21, 4, 182, 0, 80, 80, 167, 0, 7, 58, 6, 4, 172, 3, 172]
abbrev dktX0_some_0 : List UInt8 := dkwX0_some_0 ++ []
theorem dksX0_some_0 : cX0_some.data.toList.drop 0 = dktX0_some_0 := by decide +kernel
theorem dX0_some_0 : decode cX0_some 0 = .ok (.aload 5, 2) := dk_25 5 (dk_at dksX0_some_0 0 rfl rfl)
theorem dX0_some_2 : decode cX0_some 2 = .ok (.iconst 0, 1) := dk_3 (dk_at dksX0_some_0 2 rfl rfl)
theorem dX0_some_3 : decode cX0_some 3 = .ok (.aload_n 0, 1) := dk_42 (dk_at dksX0_some_0 3 rfl rfl)
theorem dX0_some_4 : decode cX0_some 4 = .ok (.iload_n 1, 1) := dk_27 (dk_at dksX0_some_0 4 rfl rfl)
theorem dX0_some_5 : decode cX0_some 5 = .ok (.iload_n 2, 1) := dk_28 (dk_at dksX0_some_0 5 rfl rfl)
theorem dX0_some_6 : decode cX0_some 6 = .ok (.iload_n 3, 1) := dk_29 (dk_at dksX0_some_0 6 rfl rfl)
theorem dX0_some_7 : decode cX0_some 7 = .ok (.iload 4, 2) := dk_21 4 (dk_at dksX0_some_0 7 rfl rfl)
theorem dX0_some_9 : decode cX0_some 9 = .ok (.invokevirtual 80, 3) := dk_182 0 80 (dk_at dksX0_some_0 9 rfl rfl)
theorem dX0_some_12 : decode cX0_some 12 = .ok (.lastore, 1) := dk_80 (dk_at dksX0_some_0 12 rfl rfl)
theorem dX0_some_13 : decode cX0_some 13 = .ok (.goto 7, 3) := dk_167 0 7 (dk_at dksX0_some_0 13 rfl rfl)
theorem dX0_some_16 : decode cX0_some 16 = .ok (.astore 6, 2) := dk_58 6 (dk_at dksX0_some_0 16 rfl rfl)
theorem dX0_some_18 : decode cX0_some 18 = .ok (.iconst 1, 1) := dk_4 (dk_at dksX0_some_0 18 rfl rfl)
theorem dX0_some_19 : decode cX0_some 19 = .ok (.ireturn, 1) := dk_172 (dk_at dksX0_some_0 19 rfl rfl)
theorem dX0_some_20 : decode cX0_some 20 = .ok (.iconst 0, 1) := dk_3 (dk_at dksX0_some_0 20 rfl rfl)
theorem dX0_some_21 : decode cX0_some 21 = .ok (.ireturn, 1) := dk_172 (dk_at dksX0_some_0 21 rfl rfl)
abbrev cX0_share : ByteArray := method_25_code
def yX0_share : MethodName := ⟨RX0, "share", "(LDimpleWells;III[J)I"⟩
def dkwX0_share_1 : List UInt8 := [172]
abbrev dktX0_share_1 : List UInt8 := dkwX0_share_1 ++ []
def dkwX0_share_0 : List UInt8 := [25, 4, 3, 42, 27, 28, 29, 182, 0, 84, 133, 80, 167, 0, 11, 58, 5, 4, 172, 58, 5, 5, 172, 3]
abbrev dktX0_share_0 : List UInt8 := dkwX0_share_0 ++ dktX0_share_1
theorem dksX0_share_0 : cX0_share.data.toList.drop 0 = dktX0_share_0 := by decide +kernel
theorem dksX0_share_1 : cX0_share.data.toList.drop 24 = dktX0_share_1 := dk_seg dksX0_share_0 24 rfl rfl
theorem dX0_share_0 : decode cX0_share 0 = .ok (.aload 4, 2) := dk_25 4 (dk_at dksX0_share_0 0 rfl rfl)
theorem dX0_share_2 : decode cX0_share 2 = .ok (.iconst 0, 1) := dk_3 (dk_at dksX0_share_0 2 rfl rfl)
theorem dX0_share_3 : decode cX0_share 3 = .ok (.aload_n 0, 1) := dk_42 (dk_at dksX0_share_0 3 rfl rfl)
theorem dX0_share_4 : decode cX0_share 4 = .ok (.iload_n 1, 1) := dk_27 (dk_at dksX0_share_0 4 rfl rfl)
theorem dX0_share_5 : decode cX0_share 5 = .ok (.iload_n 2, 1) := dk_28 (dk_at dksX0_share_0 5 rfl rfl)
theorem dX0_share_6 : decode cX0_share 6 = .ok (.iload_n 3, 1) := dk_29 (dk_at dksX0_share_0 6 rfl rfl)
theorem dX0_share_7 : decode cX0_share 7 = .ok (.invokevirtual 84, 3) := dk_182 0 84 (dk_at dksX0_share_0 7 rfl rfl)
theorem dX0_share_10 : decode cX0_share 10 = .ok (.i2l, 1) := dk_133 (dk_at dksX0_share_0 10 rfl rfl)
theorem dX0_share_11 : decode cX0_share 11 = .ok (.lastore, 1) := dk_80 (dk_at dksX0_share_0 11 rfl rfl)
theorem dX0_share_12 : decode cX0_share 12 = .ok (.goto 11, 3) := dk_167 0 11 (dk_at dksX0_share_0 12 rfl rfl)
theorem dX0_share_15 : decode cX0_share 15 = .ok (.astore 5, 2) := dk_58 5 (dk_at dksX0_share_0 15 rfl rfl)
theorem dX0_share_17 : decode cX0_share 17 = .ok (.iconst 1, 1) := dk_4 (dk_at dksX0_share_0 17 rfl rfl)
theorem dX0_share_18 : decode cX0_share 18 = .ok (.ireturn, 1) := dk_172 (dk_at dksX0_share_0 18 rfl rfl)
theorem dX0_share_19 : decode cX0_share 19 = .ok (.astore 5, 2) := dk_58 5 (dk_at dksX0_share_0 19 rfl rfl)
theorem dX0_share_21 : decode cX0_share 21 = .ok (.iconst 2, 1) := dk_5 (dk_at dksX0_share_0 21 rfl rfl)
theorem dX0_share_22 : decode cX0_share 22 = .ok (.ireturn, 1) := dk_172 (dk_at dksX0_share_0 22 rfl rfl)
theorem dX0_share_23 : decode cX0_share 23 = .ok (.iconst 0, 1) := dk_3 (dk_at dksX0_share_0 23 rfl rfl)
theorem dX0_share_24 : decode cX0_share 24 = .ok (.ireturn, 1) := dk_172 (dk_at dksX0_share_1 0 rfl rfl)
abbrev cX0_likes : ByteArray := method_26_code
def yX0_likes : MethodName := ⟨RX0, "likes", "(LDimpleWells;II[J)I"⟩
def dkwX0_likes_0 : List UInt8 := [45, 3, 42, 27, 28, 182, 0, 88, 133, 80, 167, 0, 11, 58, 4, 4, 172, 58, 4, 5, 172, 3, 172]
abbrev dktX0_likes_0 : List UInt8 := dkwX0_likes_0 ++ []
theorem dksX0_likes_0 : cX0_likes.data.toList.drop 0 = dktX0_likes_0 := by decide +kernel
theorem dX0_likes_0 : decode cX0_likes 0 = .ok (.aload_n 3, 1) := dk_45 (dk_at dksX0_likes_0 0 rfl rfl)
theorem dX0_likes_1 : decode cX0_likes 1 = .ok (.iconst 0, 1) := dk_3 (dk_at dksX0_likes_0 1 rfl rfl)
theorem dX0_likes_2 : decode cX0_likes 2 = .ok (.aload_n 0, 1) := dk_42 (dk_at dksX0_likes_0 2 rfl rfl)
theorem dX0_likes_3 : decode cX0_likes 3 = .ok (.iload_n 1, 1) := dk_27 (dk_at dksX0_likes_0 3 rfl rfl)
theorem dX0_likes_4 : decode cX0_likes 4 = .ok (.iload_n 2, 1) := dk_28 (dk_at dksX0_likes_0 4 rfl rfl)
theorem dX0_likes_5 : decode cX0_likes 5 = .ok (.invokevirtual 88, 3) := dk_182 0 88 (dk_at dksX0_likes_0 5 rfl rfl)
theorem dX0_likes_8 : decode cX0_likes 8 = .ok (.i2l, 1) := dk_133 (dk_at dksX0_likes_0 8 rfl rfl)
theorem dX0_likes_9 : decode cX0_likes 9 = .ok (.lastore, 1) := dk_80 (dk_at dksX0_likes_0 9 rfl rfl)
theorem dX0_likes_10 : decode cX0_likes 10 = .ok (.goto 11, 3) := dk_167 0 11 (dk_at dksX0_likes_0 10 rfl rfl)
theorem dX0_likes_13 : decode cX0_likes 13 = .ok (.astore 4, 2) := dk_58 4 (dk_at dksX0_likes_0 13 rfl rfl)
theorem dX0_likes_15 : decode cX0_likes 15 = .ok (.iconst 1, 1) := dk_4 (dk_at dksX0_likes_0 15 rfl rfl)
theorem dX0_likes_16 : decode cX0_likes 16 = .ok (.ireturn, 1) := dk_172 (dk_at dksX0_likes_0 16 rfl rfl)
theorem dX0_likes_17 : decode cX0_likes 17 = .ok (.astore 4, 2) := dk_58 4 (dk_at dksX0_likes_0 17 rfl rfl)
theorem dX0_likes_19 : decode cX0_likes 19 = .ok (.iconst 2, 1) := dk_5 (dk_at dksX0_likes_0 19 rfl rfl)
theorem dX0_likes_20 : decode cX0_likes 20 = .ok (.ireturn, 1) := dk_172 (dk_at dksX0_likes_0 20 rfl rfl)
theorem dX0_likes_21 : decode cX0_likes 21 = .ok (.iconst 0, 1) := dk_3 (dk_at dksX0_likes_0 21 rfl rfl)
theorem dX0_likes_22 : decode cX0_likes 22 = .ok (.ireturn, 1) := dk_172 (dk_at dksX0_likes_0 22 rfl rfl)
abbrev cX0_solemn : ByteArray := method_27_code
def yX0_solemn : MethodName := ⟨RX0, "solemn", "(LDimpleWells;I[J)I"⟩
def dkwX0_solemn_0 : List UInt8 := [44, 3, 42, 27, 182, 0, 91, 133, 80, 167, 0, 6, 78, 4, 172, 3, 172]
abbrev dktX0_solemn_0 : List UInt8 := dkwX0_solemn_0 ++ []
theorem dksX0_solemn_0 : cX0_solemn.data.toList.drop 0 = dktX0_solemn_0 := by decide +kernel
theorem dX0_solemn_0 : decode cX0_solemn 0 = .ok (.aload_n 2, 1) := dk_44 (dk_at dksX0_solemn_0 0 rfl rfl)
theorem dX0_solemn_1 : decode cX0_solemn 1 = .ok (.iconst 0, 1) := dk_3 (dk_at dksX0_solemn_0 1 rfl rfl)
theorem dX0_solemn_2 : decode cX0_solemn 2 = .ok (.aload_n 0, 1) := dk_42 (dk_at dksX0_solemn_0 2 rfl rfl)
theorem dX0_solemn_3 : decode cX0_solemn 3 = .ok (.iload_n 1, 1) := dk_27 (dk_at dksX0_solemn_0 3 rfl rfl)
theorem dX0_solemn_4 : decode cX0_solemn 4 = .ok (.invokevirtual 91, 3) := dk_182 0 91 (dk_at dksX0_solemn_0 4 rfl rfl)
theorem dX0_solemn_7 : decode cX0_solemn 7 = .ok (.i2l, 1) := dk_133 (dk_at dksX0_solemn_0 7 rfl rfl)
theorem dX0_solemn_8 : decode cX0_solemn 8 = .ok (.lastore, 1) := dk_80 (dk_at dksX0_solemn_0 8 rfl rfl)
theorem dX0_solemn_9 : decode cX0_solemn 9 = .ok (.goto 6, 3) := dk_167 0 6 (dk_at dksX0_solemn_0 9 rfl rfl)
theorem dX0_solemn_12 : decode cX0_solemn 12 = .ok (.astore_n 3, 1) := dk_78 (dk_at dksX0_solemn_0 12 rfl rfl)
theorem dX0_solemn_13 : decode cX0_solemn 13 = .ok (.iconst 1, 1) := dk_4 (dk_at dksX0_solemn_0 13 rfl rfl)
theorem dX0_solemn_14 : decode cX0_solemn 14 = .ok (.ireturn, 1) := dk_172 (dk_at dksX0_solemn_0 14 rfl rfl)
theorem dX0_solemn_15 : decode cX0_solemn 15 = .ok (.iconst 0, 1) := dk_3 (dk_at dksX0_solemn_0 15 rfl rfl)
theorem dX0_solemn_16 : decode cX0_solemn 16 = .ok (.ireturn, 1) := dk_172 (dk_at dksX0_solemn_0 16 rfl rfl)
abbrev cX0_driest : ByteArray := method_28_code
def yX0_driest : MethodName := ⟨RX0, "driest", "(LDimpleWells;I[J)I"⟩
def dkwX0_driest_0 : List UInt8 := [44, 3, 42, 27, 182, 0, 94, 133, 80, 167, 0, 6, 78, 4, 172, 3, 172]
abbrev dktX0_driest_0 : List UInt8 := dkwX0_driest_0 ++ []
theorem dksX0_driest_0 : cX0_driest.data.toList.drop 0 = dktX0_driest_0 := by decide +kernel
theorem dX0_driest_0 : decode cX0_driest 0 = .ok (.aload_n 2, 1) := dk_44 (dk_at dksX0_driest_0 0 rfl rfl)
theorem dX0_driest_1 : decode cX0_driest 1 = .ok (.iconst 0, 1) := dk_3 (dk_at dksX0_driest_0 1 rfl rfl)
theorem dX0_driest_2 : decode cX0_driest 2 = .ok (.aload_n 0, 1) := dk_42 (dk_at dksX0_driest_0 2 rfl rfl)
theorem dX0_driest_3 : decode cX0_driest 3 = .ok (.iload_n 1, 1) := dk_27 (dk_at dksX0_driest_0 3 rfl rfl)
theorem dX0_driest_4 : decode cX0_driest 4 = .ok (.invokevirtual 94, 3) := dk_182 0 94 (dk_at dksX0_driest_0 4 rfl rfl)
theorem dX0_driest_7 : decode cX0_driest 7 = .ok (.i2l, 1) := dk_133 (dk_at dksX0_driest_0 7 rfl rfl)
theorem dX0_driest_8 : decode cX0_driest 8 = .ok (.lastore, 1) := dk_80 (dk_at dksX0_driest_0 8 rfl rfl)
theorem dX0_driest_9 : decode cX0_driest 9 = .ok (.goto 6, 3) := dk_167 0 6 (dk_at dksX0_driest_0 9 rfl rfl)
theorem dX0_driest_12 : decode cX0_driest 12 = .ok (.astore_n 3, 1) := dk_78 (dk_at dksX0_driest_0 12 rfl rfl)
theorem dX0_driest_13 : decode cX0_driest 13 = .ok (.iconst 1, 1) := dk_4 (dk_at dksX0_driest_0 13 rfl rfl)
theorem dX0_driest_14 : decode cX0_driest 14 = .ok (.ireturn, 1) := dk_172 (dk_at dksX0_driest_0 14 rfl rfl)
theorem dX0_driest_15 : decode cX0_driest 15 = .ok (.iconst 0, 1) := dk_3 (dk_at dksX0_driest_0 15 rfl rfl)
theorem dX0_driest_16 : decode cX0_driest 16 = .ok (.ireturn, 1) := dk_172 (dk_at dksX0_driest_0 16 rfl rfl)
abbrev cX0_alike : ByteArray := method_29_code
def yX0_alike : MethodName := ⟨RX0, "alike", "(LDimpleWells;I[J)I"⟩
def dkwX0_alike_0 : List UInt8 := [44, 3, 42, 27, 182, 0, 97, 133, 80, 167, 0, 6, 78, 4, 172, 3, 172]
abbrev dktX0_alike_0 : List UInt8 := dkwX0_alike_0 ++ []
theorem dksX0_alike_0 : cX0_alike.data.toList.drop 0 = dktX0_alike_0 := by decide +kernel
theorem dX0_alike_0 : decode cX0_alike 0 = .ok (.aload_n 2, 1) := dk_44 (dk_at dksX0_alike_0 0 rfl rfl)
theorem dX0_alike_1 : decode cX0_alike 1 = .ok (.iconst 0, 1) := dk_3 (dk_at dksX0_alike_0 1 rfl rfl)
theorem dX0_alike_2 : decode cX0_alike 2 = .ok (.aload_n 0, 1) := dk_42 (dk_at dksX0_alike_0 2 rfl rfl)
theorem dX0_alike_3 : decode cX0_alike 3 = .ok (.iload_n 1, 1) := dk_27 (dk_at dksX0_alike_0 3 rfl rfl)
theorem dX0_alike_4 : decode cX0_alike 4 = .ok (.invokevirtual 97, 3) := dk_182 0 97 (dk_at dksX0_alike_0 4 rfl rfl)
theorem dX0_alike_7 : decode cX0_alike 7 = .ok (.i2l, 1) := dk_133 (dk_at dksX0_alike_0 7 rfl rfl)
theorem dX0_alike_8 : decode cX0_alike 8 = .ok (.lastore, 1) := dk_80 (dk_at dksX0_alike_0 8 rfl rfl)
theorem dX0_alike_9 : decode cX0_alike 9 = .ok (.goto 6, 3) := dk_167 0 6 (dk_at dksX0_alike_0 9 rfl rfl)
theorem dX0_alike_12 : decode cX0_alike 12 = .ok (.astore_n 3, 1) := dk_78 (dk_at dksX0_alike_0 12 rfl rfl)
theorem dX0_alike_13 : decode cX0_alike 13 = .ok (.iconst 1, 1) := dk_4 (dk_at dksX0_alike_0 13 rfl rfl)
theorem dX0_alike_14 : decode cX0_alike 14 = .ok (.ireturn, 1) := dk_172 (dk_at dksX0_alike_0 14 rfl rfl)
theorem dX0_alike_15 : decode cX0_alike 15 = .ok (.iconst 0, 1) := dk_3 (dk_at dksX0_alike_0 15 rfl rfl)
theorem dX0_alike_16 : decode cX0_alike 16 = .ok (.ireturn, 1) := dk_172 (dk_at dksX0_alike_0 16 rfl rfl)
abbrev cX0_year : ByteArray := method_30_code
def yX0_year : MethodName := ⟨RX0, "year", "(LDimpleWells;IIII[J)I"⟩
def dkwX0_year_0 : List UInt8 := [25, 5, 3, 42, 27, 28, 29, 21, 4, 182, 0, 100, 133, 80, 167, 0, 7, 58, 6, 4, 172, 3, 172]
abbrev dktX0_year_0 : List UInt8 := dkwX0_year_0 ++ []
theorem dksX0_year_0 : cX0_year.data.toList.drop 0 = dktX0_year_0 := by decide +kernel
theorem dX0_year_0 : decode cX0_year 0 = .ok (.aload 5, 2) := dk_25 5 (dk_at dksX0_year_0 0 rfl rfl)
theorem dX0_year_2 : decode cX0_year 2 = .ok (.iconst 0, 1) := dk_3 (dk_at dksX0_year_0 2 rfl rfl)
theorem dX0_year_3 : decode cX0_year 3 = .ok (.aload_n 0, 1) := dk_42 (dk_at dksX0_year_0 3 rfl rfl)
theorem dX0_year_4 : decode cX0_year 4 = .ok (.iload_n 1, 1) := dk_27 (dk_at dksX0_year_0 4 rfl rfl)
theorem dX0_year_5 : decode cX0_year 5 = .ok (.iload_n 2, 1) := dk_28 (dk_at dksX0_year_0 5 rfl rfl)
theorem dX0_year_6 : decode cX0_year 6 = .ok (.iload_n 3, 1) := dk_29 (dk_at dksX0_year_0 6 rfl rfl)
theorem dX0_year_7 : decode cX0_year 7 = .ok (.iload 4, 2) := dk_21 4 (dk_at dksX0_year_0 7 rfl rfl)
theorem dX0_year_9 : decode cX0_year 9 = .ok (.invokevirtual 100, 3) := dk_182 0 100 (dk_at dksX0_year_0 9 rfl rfl)
theorem dX0_year_12 : decode cX0_year 12 = .ok (.i2l, 1) := dk_133 (dk_at dksX0_year_0 12 rfl rfl)
theorem dX0_year_13 : decode cX0_year 13 = .ok (.lastore, 1) := dk_80 (dk_at dksX0_year_0 13 rfl rfl)
theorem dX0_year_14 : decode cX0_year 14 = .ok (.goto 7, 3) := dk_167 0 7 (dk_at dksX0_year_0 14 rfl rfl)
theorem dX0_year_17 : decode cX0_year 17 = .ok (.astore 6, 2) := dk_58 6 (dk_at dksX0_year_0 17 rfl rfl)
theorem dX0_year_19 : decode cX0_year 19 = .ok (.iconst 1, 1) := dk_4 (dk_at dksX0_year_0 19 rfl rfl)
theorem dX0_year_20 : decode cX0_year 20 = .ok (.ireturn, 1) := dk_172 (dk_at dksX0_year_0 20 rfl rfl)
theorem dX0_year_21 : decode cX0_year 21 = .ok (.iconst 0, 1) := dk_3 (dk_at dksX0_year_0 21 rfl rfl)
theorem dX0_year_22 : decode cX0_year 22 = .ok (.ireturn, 1) := dk_172 (dk_at dksX0_year_0 22 rfl rfl)
abbrev cX0_span : ByteArray := method_31_code
def yX0_span : MethodName := ⟨RX0, "span", "(LDimpleWells;IIIIII[J)I"⟩
def dkwX0_span_1 : List UInt8 := [172, 3, 172]
abbrev dktX0_span_1 : List UInt8 := dkwX0_span_1 ++ []
def dkwX0_span_0 : List UInt8 := [25, 7, 3, 42, 27, 28, 29, 21, 4, 21, 5, 21, 6, 182, 0, 103, 133, 80, 167, 0, 7, 58, 8, 4]
abbrev dktX0_span_0 : List UInt8 := dkwX0_span_0 ++ dktX0_span_1
theorem dksX0_span_0 : cX0_span.data.toList.drop 0 = dktX0_span_0 := by decide +kernel
theorem dksX0_span_1 : cX0_span.data.toList.drop 24 = dktX0_span_1 := dk_seg dksX0_span_0 24 rfl rfl
theorem dX0_span_0 : decode cX0_span 0 = .ok (.aload 7, 2) := dk_25 7 (dk_at dksX0_span_0 0 rfl rfl)
theorem dX0_span_2 : decode cX0_span 2 = .ok (.iconst 0, 1) := dk_3 (dk_at dksX0_span_0 2 rfl rfl)
theorem dX0_span_3 : decode cX0_span 3 = .ok (.aload_n 0, 1) := dk_42 (dk_at dksX0_span_0 3 rfl rfl)
theorem dX0_span_4 : decode cX0_span 4 = .ok (.iload_n 1, 1) := dk_27 (dk_at dksX0_span_0 4 rfl rfl)
theorem dX0_span_5 : decode cX0_span 5 = .ok (.iload_n 2, 1) := dk_28 (dk_at dksX0_span_0 5 rfl rfl)
theorem dX0_span_6 : decode cX0_span 6 = .ok (.iload_n 3, 1) := dk_29 (dk_at dksX0_span_0 6 rfl rfl)
theorem dX0_span_7 : decode cX0_span 7 = .ok (.iload 4, 2) := dk_21 4 (dk_at dksX0_span_0 7 rfl rfl)
theorem dX0_span_9 : decode cX0_span 9 = .ok (.iload 5, 2) := dk_21 5 (dk_at dksX0_span_0 9 rfl rfl)
theorem dX0_span_11 : decode cX0_span 11 = .ok (.iload 6, 2) := dk_21 6 (dk_at dksX0_span_0 11 rfl rfl)
theorem dX0_span_13 : decode cX0_span 13 = .ok (.invokevirtual 103, 3) := dk_182 0 103 (dk_at dksX0_span_0 13 rfl rfl)
theorem dX0_span_16 : decode cX0_span 16 = .ok (.i2l, 1) := dk_133 (dk_at dksX0_span_0 16 rfl rfl)
theorem dX0_span_17 : decode cX0_span 17 = .ok (.lastore, 1) := dk_80 (dk_at dksX0_span_0 17 rfl rfl)
theorem dX0_span_18 : decode cX0_span 18 = .ok (.goto 7, 3) := dk_167 0 7 (dk_at dksX0_span_0 18 rfl rfl)
theorem dX0_span_21 : decode cX0_span 21 = .ok (.astore 8, 2) := dk_58 8 (dk_at dksX0_span_0 21 rfl rfl)
theorem dX0_span_23 : decode cX0_span 23 = .ok (.iconst 1, 1) := dk_4 (dk_at dksX0_span_0 23 rfl rfl)
theorem dX0_span_24 : decode cX0_span 24 = .ok (.ireturn, 1) := dk_172 (dk_at dksX0_span_1 0 rfl rfl)
theorem dX0_span_25 : decode cX0_span 25 = .ok (.iconst 0, 1) := dk_3 (dk_at dksX0_span_1 1 rfl rfl)
theorem dX0_span_26 : decode cX0_span 26 = .ok (.ireturn, 1) := dk_172 (dk_at dksX0_span_1 2 rfl rfl)
theorem q96 : (Jvm.Cond.initialized "DimpleWellsLaw") ∈ lw_all := lw_g (lw_at lw_m1 0 rfl) rfl
theorem q149 : (Jvm.Cond.classLink "DimpleWellsLaw" (8 : Nat) "DimpleWells") ∈ lw_all := lw_g (lw_at lw_m1 53 rfl) rfl
theorem q151 : (Jvm.Cond.methodLink "DimpleWellsLaw" (107 : Nat) ({ cls := "DimpleWells", name := "<init>", desc := "()V" } : Jvm.MethodName)) ∈ lw_all := lw_g (lw_at lw_m1 55 rfl) rfl
theorem q738 : (Jvm.Cond.methodLink "DimpleWellsLaw" (111 : Nat) ({ cls := "DimpleWells", name := "feed", desc := "(IIIII)I" } : Jvm.MethodName)) ∈ lw_all := lw_g (lw_at lw_m3 162 rfl) rfl
theorem q746 : (Jvm.Cond.methodLink "DimpleWellsLaw" (135 : Nat) ({ cls := "DimpleWells", name := "fault", desc := "()I" } : Jvm.MethodName)) ∈ lw_all := lw_g (lw_at lw_m3 170 rfl) rfl
theorem q750 : (Jvm.Cond.methodLink "DimpleWellsLaw" (139 : Nat) ({ cls := "DimpleWells", name := "undo", desc := "()I" } : Jvm.MethodName)) ∈ lw_all := lw_g (lw_at lw_m3 174 rfl) rfl
theorem q759 : (Jvm.Cond.methodLink "DimpleWellsLaw" (201 : Nat) ({ cls := "DimpleWells", name := "dry", desc := "()I" } : Jvm.MethodName)) ∈ lw_all := lw_g (lw_at lw_m3 183 rfl) rfl
theorem q781 : (Jvm.Cond.methodLink "DimpleWellsLaw" (172 : Nat) ({ cls := "DimpleWells", name := "best", desc := "()I" } : Jvm.MethodName)) ∈ lw_all := lw_g (lw_at lw_m3 205 rfl) rfl
theorem q914 : (Jvm.Cond.methodLink "DimpleWellsLaw" (194 : Nat) ({ cls := "DimpleWells", name := "comfort", desc := "()I" } : Jvm.MethodName)) ∈ lw_all := lw_g (lw_at lw_m4 98 rfl) rfl
theorem q926 : (Jvm.Cond.methodLink "DimpleWellsLaw" (225 : Nat) ({ cls := "DimpleWells", name := "parts", desc := "()I" } : Jvm.MethodName)) ∈ lw_all := lw_g (lw_at lw_m4 110 rfl) rfl
theorem q930 : (Jvm.Cond.methodLink "DimpleWellsLaw" (239 : Nat) ({ cls := "DimpleWells", name := "image", desc := "()I" } : Jvm.MethodName)) ∈ lw_all := lw_g (lw_at lw_m4 114 rfl) rfl
theorem q938 : (Jvm.Cond.methodLink "DimpleWellsLaw" (243 : Nat) ({ cls := "DimpleWells", name := "restore", desc := "()I" } : Jvm.MethodName)) ∈ lw_all := lw_g (lw_at lw_m4 122 rfl) rfl
theorem q942 : (Jvm.Cond.methodLink "DimpleWellsLaw" (247 : Nat) ({ cls := "DimpleWells", name := "status", desc := "(I)I" } : Jvm.MethodName)) ∈ lw_all := lw_g (lw_at lw_m4 126 rfl) rfl
theorem q949 : (Jvm.Cond.methodLink "DimpleWellsLaw" (251 : Nat) ({ cls := "DimpleWells", name := "count", desc := "(I)I" } : Jvm.MethodName)) ∈ lw_all := lw_g (lw_at lw_m4 133 rfl) rfl
theorem q953 : (Jvm.Cond.methodLink "DimpleWellsLaw" (116 : Nat) ({ cls := "DimpleWellsLaw", name := "land", desc := "(LDimpleWells;I[J)I" } : Jvm.MethodName)) ∈ lw_all := lw_g (lw_at lw_m4 137 rfl) rfl
theorem q954 : (Jvm.Cond.static ({ cls := "DimpleWellsLaw", name := "land", desc := "(LDimpleWells;I[J)I" } : Jvm.MethodName)) ∈ lw_all := lw_g (lw_at lw_m4 138 rfl) rfl
theorem q955 : (Jvm.Cond.codeWith ({ cls := "DimpleWellsLaw", name := "land", desc := "(LDimpleWells;I[J)I" } : Jvm.MethodName) method_3_code (4 : Nat) (Option.some Jvm.ClassFile.FieldType.int) [((0 : Nat), (9 : Nat), (12 : Nat), (13 : Nat))]) ∈ lw_all := lw_g (lw_at lw_m4 139 rfl) rfl
theorem q956 : (Jvm.Cond.classLink "DimpleWellsLaw" (13 : Nat) "java/lang/IllegalArgumentException") ∈ lw_all := lw_g (lw_at lw_m4 140 rfl) rfl
theorem q957 : (Jvm.Cond.methodLink "DimpleWellsLaw" (7 : Nat) ({ cls := "DimpleWells", name := "land", desc := "(I)I" } : Jvm.MethodName)) ∈ lw_all := lw_g (lw_at lw_m4 141 rfl) rfl
theorem q1312 : (Jvm.Cond.methodLink "DimpleWellsLaw" (126 : Nat) ({ cls := "DimpleWellsLaw", name := "law", desc := "(LDimpleWells;I[J)I" } : Jvm.MethodName)) ∈ lw_all := lw_g (lw_at lw_m6 16 rfl) rfl
theorem q1313 : (Jvm.Cond.static ({ cls := "DimpleWellsLaw", name := "law", desc := "(LDimpleWells;I[J)I" } : Jvm.MethodName)) ∈ lw_all := lw_g (lw_at lw_m6 17 rfl) rfl
theorem q1314 : (Jvm.Cond.codeWith ({ cls := "DimpleWellsLaw", name := "law", desc := "(LDimpleWells;I[J)I" } : Jvm.MethodName) method_4_code (4 : Nat) (Option.some Jvm.ClassFile.FieldType.int) [((0 : Nat), (9 : Nat), (12 : Nat), (13 : Nat))]) ∈ lw_all := lw_g (lw_at lw_m6 18 rfl) rfl
theorem q1315 : (Jvm.Cond.methodLink "DimpleWellsLaw" (15 : Nat) ({ cls := "DimpleWells", name := "law", desc := "(I)I" } : Jvm.MethodName)) ∈ lw_all := lw_g (lw_at lw_m6 19 rfl) rfl
theorem q1444 : (Jvm.Cond.methodLink "DimpleWellsLaw" (129 : Nat) ({ cls := "DimpleWellsLaw", name := "work", desc := "(LDimpleWells;I[J)I" } : Jvm.MethodName)) ∈ lw_all := lw_g (lw_at lw_m6 148 rfl) rfl
theorem q1445 : (Jvm.Cond.static ({ cls := "DimpleWellsLaw", name := "work", desc := "(LDimpleWells;I[J)I" } : Jvm.MethodName)) ∈ lw_all := lw_g (lw_at lw_m6 149 rfl) rfl
theorem q1446 : (Jvm.Cond.codeWith ({ cls := "DimpleWellsLaw", name := "work", desc := "(LDimpleWells;I[J)I" } : Jvm.MethodName) method_5_code (4 : Nat) (Option.some Jvm.ClassFile.FieldType.int) [((0 : Nat), (9 : Nat), (12 : Nat), (13 : Nat))]) ∈ lw_all := lw_g (lw_at lw_m6 150 rfl) rfl
theorem q1447 : (Jvm.Cond.methodLink "DimpleWellsLaw" (18 : Nat) ({ cls := "DimpleWells", name := "work", desc := "(I)I" } : Jvm.MethodName)) ∈ lw_all := lw_g (lw_at lw_m6 151 rfl) rfl
theorem q1656 : (Jvm.Cond.methodLink "DimpleWellsLaw" (132 : Nat) ({ cls := "DimpleWellsLaw", name := "book", desc := "(LDimpleWells;I[J)I" } : Jvm.MethodName)) ∈ lw_all := lw_g (lw_at lw_m7 120 rfl) rfl
theorem q1657 : (Jvm.Cond.static ({ cls := "DimpleWellsLaw", name := "book", desc := "(LDimpleWells;I[J)I" } : Jvm.MethodName)) ∈ lw_all := lw_g (lw_at lw_m7 121 rfl) rfl
theorem q1658 : (Jvm.Cond.codeWith ({ cls := "DimpleWellsLaw", name := "book", desc := "(LDimpleWells;I[J)I" } : Jvm.MethodName) method_6_code (4 : Nat) (Option.some Jvm.ClassFile.FieldType.int) [((0 : Nat), (9 : Nat), (12 : Nat), (13 : Nat))]) ∈ lw_all := lw_g (lw_at lw_m7 122 rfl) rfl
theorem q1659 : (Jvm.Cond.methodLink "DimpleWellsLaw" (21 : Nat) ({ cls := "DimpleWells", name := "book", desc := "(I)I" } : Jvm.MethodName)) ∈ lw_all := lw_g (lw_at lw_m7 123 rfl) rfl
theorem q1700 : (Jvm.Cond.methodLink "DimpleWellsLaw" (143 : Nat) ({ cls := "DimpleWellsLaw", name := "told", desc := "(LDimpleWells;I[J)I" } : Jvm.MethodName)) ∈ lw_all := lw_g (lw_at lw_m7 164 rfl) rfl
theorem q1701 : (Jvm.Cond.static ({ cls := "DimpleWellsLaw", name := "told", desc := "(LDimpleWells;I[J)I" } : Jvm.MethodName)) ∈ lw_all := lw_g (lw_at lw_m7 165 rfl) rfl
theorem q1702 : (Jvm.Cond.codeWith ({ cls := "DimpleWellsLaw", name := "told", desc := "(LDimpleWells;I[J)I" } : Jvm.MethodName) method_7_code (4 : Nat) (Option.some Jvm.ClassFile.FieldType.int) [((0 : Nat), (9 : Nat), (12 : Nat), (13 : Nat))]) ∈ lw_all := lw_g (lw_at lw_m7 166 rfl) rfl
theorem q1703 : (Jvm.Cond.methodLink "DimpleWellsLaw" (24 : Nat) ({ cls := "DimpleWells", name := "told", desc := "(I)I" } : Jvm.MethodName)) ∈ lw_all := lw_g (lw_at lw_m7 167 rfl) rfl
theorem q1710 : (Jvm.Cond.methodLink "DimpleWellsLaw" (146 : Nat) ({ cls := "DimpleWellsLaw", name := "person", desc := "(LDimpleWells;II[J)I" } : Jvm.MethodName)) ∈ lw_all := lw_g (lw_at lw_m7 174 rfl) rfl
theorem q1711 : (Jvm.Cond.static ({ cls := "DimpleWellsLaw", name := "person", desc := "(LDimpleWells;II[J)I" } : Jvm.MethodName)) ∈ lw_all := lw_g (lw_at lw_m7 175 rfl) rfl
theorem q1712 : (Jvm.Cond.codeWith ({ cls := "DimpleWellsLaw", name := "person", desc := "(LDimpleWells;II[J)I" } : Jvm.MethodName) method_8_code (5 : Nat) (Option.some Jvm.ClassFile.FieldType.int) [((0 : Nat), (10 : Nat), (13 : Nat), (31 : Nat)), ((0 : Nat), (10 : Nat), (17 : Nat), (13 : Nat))]) ∈ lw_all := lw_g (lw_at lw_m7 176 rfl) rfl
theorem q1713 : (Jvm.Cond.classLink "DimpleWellsLaw" (31 : Nat) "java/util/NoSuchElementException") ∈ lw_all := lw_g (lw_at lw_m7 177 rfl) rfl
theorem q1714 : (Jvm.Cond.methodLink "DimpleWellsLaw" (27 : Nat) ({ cls := "DimpleWells", name := "person", desc := "(II)I" } : Jvm.MethodName)) ∈ lw_all := lw_g (lw_at lw_m7 178 rfl) rfl
theorem q1742 : (Jvm.Cond.methodLink "DimpleWellsLaw" (150 : Nat) ({ cls := "DimpleWellsLaw", name := "joke", desc := "(LDimpleWells;II[J)I" } : Jvm.MethodName)) ∈ lw_all := lw_g (lw_at lw_m7 206 rfl) rfl
theorem q1743 : (Jvm.Cond.static ({ cls := "DimpleWellsLaw", name := "joke", desc := "(LDimpleWells;II[J)I" } : Jvm.MethodName)) ∈ lw_all := lw_g (lw_at lw_m7 207 rfl) rfl
theorem q1744 : (Jvm.Cond.codeWith ({ cls := "DimpleWellsLaw", name := "joke", desc := "(LDimpleWells;II[J)I" } : Jvm.MethodName) method_9_code (5 : Nat) (Option.some Jvm.ClassFile.FieldType.int) [((0 : Nat), (10 : Nat), (13 : Nat), (31 : Nat)), ((0 : Nat), (10 : Nat), (17 : Nat), (13 : Nat))]) ∈ lw_all := lw_g (lw_at lw_m7 208 rfl) rfl
theorem q1745 : (Jvm.Cond.methodLink "DimpleWellsLaw" (33 : Nat) ({ cls := "DimpleWells", name := "joke", desc := "(II)I" } : Jvm.MethodName)) ∈ lw_all := lw_g (lw_at lw_m7 209 rfl) rfl
theorem q1755 : (Jvm.Cond.methodLink "DimpleWellsLaw" (153 : Nat) ({ cls := "DimpleWellsLaw", name := "street", desc := "(LDimpleWells;II[J)I" } : Jvm.MethodName)) ∈ lw_all := lw_g (lw_at lw_m7 219 rfl) rfl
theorem q1756 : (Jvm.Cond.static ({ cls := "DimpleWellsLaw", name := "street", desc := "(LDimpleWells;II[J)I" } : Jvm.MethodName)) ∈ lw_all := lw_g (lw_at lw_m7 220 rfl) rfl
theorem q1757 : (Jvm.Cond.codeWith ({ cls := "DimpleWellsLaw", name := "street", desc := "(LDimpleWells;II[J)I" } : Jvm.MethodName) method_10_code (5 : Nat) (Option.some Jvm.ClassFile.FieldType.int) [((0 : Nat), (10 : Nat), (13 : Nat), (31 : Nat)), ((0 : Nat), (10 : Nat), (17 : Nat), (13 : Nat))]) ∈ lw_all := lw_g (lw_at lw_m7 221 rfl) rfl
theorem q1758 : (Jvm.Cond.methodLink "DimpleWellsLaw" (36 : Nat) ({ cls := "DimpleWells", name := "street", desc := "(II)I" } : Jvm.MethodName)) ∈ lw_all := lw_g (lw_at lw_m7 222 rfl) rfl
theorem q1762 : (Jvm.Cond.methodLink "DimpleWellsLaw" (156 : Nat) ({ cls := "DimpleWellsLaw", name := "worn", desc := "(LDimpleWells;II[J)I" } : Jvm.MethodName)) ∈ lw_all := lw_g (lw_at lw_m7 226 rfl) rfl
theorem q1763 : (Jvm.Cond.static ({ cls := "DimpleWellsLaw", name := "worn", desc := "(LDimpleWells;II[J)I" } : Jvm.MethodName)) ∈ lw_all := lw_g (lw_at lw_m7 227 rfl) rfl
theorem q1764 : (Jvm.Cond.codeWith ({ cls := "DimpleWellsLaw", name := "worn", desc := "(LDimpleWells;II[J)I" } : Jvm.MethodName) method_11_code (5 : Nat) (Option.some Jvm.ClassFile.FieldType.int) [((0 : Nat), (10 : Nat), (13 : Nat), (31 : Nat))]) ∈ lw_all := lw_g (lw_at lw_m7 228 rfl) rfl
theorem q1765 : (Jvm.Cond.methodLink "DimpleWellsLaw" (39 : Nat) ({ cls := "DimpleWells", name := "worn", desc := "(II)I" } : Jvm.MethodName)) ∈ lw_all := lw_g (lw_at lw_m7 229 rfl) rfl
theorem q1773 : (Jvm.Cond.methodLink "DimpleWellsLaw" (159 : Nat) ({ cls := "DimpleWellsLaw", name := "laugh", desc := "(LDimpleWells;II[J)I" } : Jvm.MethodName)) ∈ lw_all := lw_g (lw_at lw_m7 237 rfl) rfl
theorem q1774 : (Jvm.Cond.static ({ cls := "DimpleWellsLaw", name := "laugh", desc := "(LDimpleWells;II[J)I" } : Jvm.MethodName)) ∈ lw_all := lw_g (lw_at lw_m7 238 rfl) rfl
theorem q1775 : (Jvm.Cond.codeWith ({ cls := "DimpleWellsLaw", name := "laugh", desc := "(LDimpleWells;II[J)I" } : Jvm.MethodName) method_12_code (5 : Nat) (Option.some Jvm.ClassFile.FieldType.int) [((0 : Nat), (10 : Nat), (13 : Nat), (31 : Nat))]) ∈ lw_all := lw_g (lw_at lw_m7 239 rfl) rfl
theorem q1776 : (Jvm.Cond.methodLink "DimpleWellsLaw" (42 : Nat) ({ cls := "DimpleWells", name := "laugh", desc := "(II)I" } : Jvm.MethodName)) ∈ lw_all := lw_g (lw_at lw_m8 0 rfl) rfl
theorem q1781 : (Jvm.Cond.methodLink "DimpleWellsLaw" (162 : Nat) ({ cls := "DimpleWellsLaw", name := "water", desc := "(LDimpleWells;II[J)I" } : Jvm.MethodName)) ∈ lw_all := lw_g (lw_at lw_m8 5 rfl) rfl
theorem q1782 : (Jvm.Cond.static ({ cls := "DimpleWellsLaw", name := "water", desc := "(LDimpleWells;II[J)I" } : Jvm.MethodName)) ∈ lw_all := lw_g (lw_at lw_m8 6 rfl) rfl
theorem q1783 : (Jvm.Cond.codeWith ({ cls := "DimpleWellsLaw", name := "water", desc := "(LDimpleWells;II[J)I" } : Jvm.MethodName) method_13_code (5 : Nat) (Option.some Jvm.ClassFile.FieldType.int) [((0 : Nat), (10 : Nat), (13 : Nat), (31 : Nat))]) ∈ lw_all := lw_g (lw_at lw_m8 7 rfl) rfl
theorem q1784 : (Jvm.Cond.methodLink "DimpleWellsLaw" (45 : Nat) ({ cls := "DimpleWells", name := "water", desc := "(II)I" } : Jvm.MethodName)) ∈ lw_all := lw_g (lw_at lw_m8 8 rfl) rfl
theorem q1788 : (Jvm.Cond.methodLink "DimpleWellsLaw" (165 : Nat) ({ cls := "DimpleWellsLaw", name := "would", desc := "(LDimpleWells;IIIIIIIIII[J)I" } : Jvm.MethodName)) ∈ lw_all := lw_g (lw_at lw_m8 12 rfl) rfl
theorem q1789 : (Jvm.Cond.static ({ cls := "DimpleWellsLaw", name := "would", desc := "(LDimpleWells;IIIIIIIIII[J)I" } : Jvm.MethodName)) ∈ lw_all := lw_g (lw_at lw_m8 13 rfl) rfl
theorem q1790 : (Jvm.Cond.codeWith ({ cls := "DimpleWellsLaw", name := "would", desc := "(LDimpleWells;IIIIIIIIII[J)I" } : Jvm.MethodName) method_14_code (13 : Nat) (Option.some Jvm.ClassFile.FieldType.int) [((0 : Nat), (26 : Nat), (29 : Nat), (13 : Nat))]) ∈ lw_all := lw_g (lw_at lw_m8 14 rfl) rfl
theorem q1791 : (Jvm.Cond.methodLink "DimpleWellsLaw" (48 : Nat) ({ cls := "DimpleWells", name := "would", desc := "(IIIIIIIIII)I" } : Jvm.MethodName)) ∈ lw_all := lw_g (lw_at lw_m8 15 rfl) rfl
theorem q1796 : (Jvm.Cond.methodLink "DimpleWellsLaw" (169 : Nat) ({ cls := "DimpleWellsLaw", name := "ahead", desc := "(LDimpleWells;II[J)I" } : Jvm.MethodName)) ∈ lw_all := lw_g (lw_at lw_m8 20 rfl) rfl
theorem q1797 : (Jvm.Cond.static ({ cls := "DimpleWellsLaw", name := "ahead", desc := "(LDimpleWells;II[J)I" } : Jvm.MethodName)) ∈ lw_all := lw_g (lw_at lw_m8 21 rfl) rfl
theorem q1798 : (Jvm.Cond.codeWith ({ cls := "DimpleWellsLaw", name := "ahead", desc := "(LDimpleWells;II[J)I" } : Jvm.MethodName) method_15_code (5 : Nat) (Option.some Jvm.ClassFile.FieldType.int) [((0 : Nat), (10 : Nat), (13 : Nat), (13 : Nat))]) ∈ lw_all := lw_g (lw_at lw_m8 22 rfl) rfl
theorem q1799 : (Jvm.Cond.methodLink "DimpleWellsLaw" (52 : Nat) ({ cls := "DimpleWells", name := "ahead", desc := "(II)I" } : Jvm.MethodName)) ∈ lw_all := lw_g (lw_at lw_m8 23 rfl) rfl
theorem q1803 : (Jvm.Cond.methodLink "DimpleWellsLaw" (176 : Nat) ({ cls := "DimpleWellsLaw", name := "given", desc := "(LDimpleWells;I[J)I" } : Jvm.MethodName)) ∈ lw_all := lw_g (lw_at lw_m8 27 rfl) rfl
theorem q1804 : (Jvm.Cond.static ({ cls := "DimpleWellsLaw", name := "given", desc := "(LDimpleWells;I[J)I" } : Jvm.MethodName)) ∈ lw_all := lw_g (lw_at lw_m8 28 rfl) rfl
theorem q1805 : (Jvm.Cond.codeWith ({ cls := "DimpleWellsLaw", name := "given", desc := "(LDimpleWells;I[J)I" } : Jvm.MethodName) method_16_code (4 : Nat) (Option.some Jvm.ClassFile.FieldType.int) [((0 : Nat), (9 : Nat), (12 : Nat), (31 : Nat))]) ∈ lw_all := lw_g (lw_at lw_m8 29 rfl) rfl
theorem q1806 : (Jvm.Cond.methodLink "DimpleWellsLaw" (55 : Nat) ({ cls := "DimpleWells", name := "given", desc := "(I)I" } : Jvm.MethodName)) ∈ lw_all := lw_g (lw_at lw_m8 30 rfl) rfl
theorem q1810 : (Jvm.Cond.methodLink "DimpleWellsLaw" (179 : Nat) ({ cls := "DimpleWellsLaw", name := "enough", desc := "(LDimpleWells;I[J)I" } : Jvm.MethodName)) ∈ lw_all := lw_g (lw_at lw_m8 34 rfl) rfl
theorem q1811 : (Jvm.Cond.static ({ cls := "DimpleWellsLaw", name := "enough", desc := "(LDimpleWells;I[J)I" } : Jvm.MethodName)) ∈ lw_all := lw_g (lw_at lw_m8 35 rfl) rfl
theorem q1812 : (Jvm.Cond.codeWith ({ cls := "DimpleWellsLaw", name := "enough", desc := "(LDimpleWells;I[J)I" } : Jvm.MethodName) method_17_code (4 : Nat) (Option.some Jvm.ClassFile.FieldType.int) [((0 : Nat), (9 : Nat), (12 : Nat), (13 : Nat))]) ∈ lw_all := lw_g (lw_at lw_m8 36 rfl) rfl
theorem q1813 : (Jvm.Cond.methodLink "DimpleWellsLaw" (58 : Nat) ({ cls := "DimpleWells", name := "enough", desc := "(I)I" } : Jvm.MethodName)) ∈ lw_all := lw_g (lw_at lw_m8 37 rfl) rfl
theorem q1825 : (Jvm.Cond.methodLink "DimpleWellsLaw" (182 : Nat) ({ cls := "DimpleWellsLaw", name := "lasts", desc := "(LDimpleWells;II[J)I" } : Jvm.MethodName)) ∈ lw_all := lw_g (lw_at lw_m8 49 rfl) rfl
theorem q1826 : (Jvm.Cond.static ({ cls := "DimpleWellsLaw", name := "lasts", desc := "(LDimpleWells;II[J)I" } : Jvm.MethodName)) ∈ lw_all := lw_g (lw_at lw_m8 50 rfl) rfl
theorem q1827 : (Jvm.Cond.codeWith ({ cls := "DimpleWellsLaw", name := "lasts", desc := "(LDimpleWells;II[J)I" } : Jvm.MethodName) method_18_code (5 : Nat) (Option.some Jvm.ClassFile.FieldType.int) [((0 : Nat), (10 : Nat), (13 : Nat), (31 : Nat))]) ∈ lw_all := lw_g (lw_at lw_m8 51 rfl) rfl
theorem q1828 : (Jvm.Cond.methodLink "DimpleWellsLaw" (61 : Nat) ({ cls := "DimpleWells", name := "lasts", desc := "(II)I" } : Jvm.MethodName)) ∈ lw_all := lw_g (lw_at lw_m8 52 rfl) rfl
theorem q1837 : (Jvm.Cond.methodLink "DimpleWellsLaw" (185 : Nat) ({ cls := "DimpleWellsLaw", name := "well", desc := "(LDimpleWells;II[J)I" } : Jvm.MethodName)) ∈ lw_all := lw_g (lw_at lw_m8 61 rfl) rfl
theorem q1838 : (Jvm.Cond.static ({ cls := "DimpleWellsLaw", name := "well", desc := "(LDimpleWells;II[J)I" } : Jvm.MethodName)) ∈ lw_all := lw_g (lw_at lw_m8 62 rfl) rfl
theorem q1839 : (Jvm.Cond.codeWith ({ cls := "DimpleWellsLaw", name := "well", desc := "(LDimpleWells;II[J)I" } : Jvm.MethodName) method_19_code (5 : Nat) (Option.some Jvm.ClassFile.FieldType.int) [((0 : Nat), (10 : Nat), (13 : Nat), (31 : Nat))]) ∈ lw_all := lw_g (lw_at lw_m8 63 rfl) rfl
theorem q1840 : (Jvm.Cond.methodLink "DimpleWellsLaw" (64 : Nat) ({ cls := "DimpleWells", name := "well", desc := "(II)I" } : Jvm.MethodName)) ∈ lw_all := lw_g (lw_at lw_m8 64 rfl) rfl
theorem q1844 : (Jvm.Cond.methodLink "DimpleWellsLaw" (188 : Nat) ({ cls := "DimpleWellsLaw", name := "fits", desc := "(LDimpleWells;II[J)I" } : Jvm.MethodName)) ∈ lw_all := lw_g (lw_at lw_m8 68 rfl) rfl
theorem q1845 : (Jvm.Cond.static ({ cls := "DimpleWellsLaw", name := "fits", desc := "(LDimpleWells;II[J)I" } : Jvm.MethodName)) ∈ lw_all := lw_g (lw_at lw_m8 69 rfl) rfl
theorem q1846 : (Jvm.Cond.codeWith ({ cls := "DimpleWellsLaw", name := "fits", desc := "(LDimpleWells;II[J)I" } : Jvm.MethodName) method_20_code (5 : Nat) (Option.some Jvm.ClassFile.FieldType.int) [((0 : Nat), (10 : Nat), (13 : Nat), (31 : Nat)), ((0 : Nat), (10 : Nat), (17 : Nat), (13 : Nat))]) ∈ lw_all := lw_g (lw_at lw_m8 70 rfl) rfl
theorem q1847 : (Jvm.Cond.methodLink "DimpleWellsLaw" (67 : Nat) ({ cls := "DimpleWells", name := "fits", desc := "(II)I" } : Jvm.MethodName)) ∈ lw_all := lw_g (lw_at lw_m8 71 rfl) rfl
theorem q1855 : (Jvm.Cond.methodLink "DimpleWellsLaw" (191 : Nat) ({ cls := "DimpleWellsLaw", name := "look", desc := "(LDimpleWells;II[J)I" } : Jvm.MethodName)) ∈ lw_all := lw_g (lw_at lw_m8 79 rfl) rfl
theorem q1856 : (Jvm.Cond.static ({ cls := "DimpleWellsLaw", name := "look", desc := "(LDimpleWells;II[J)I" } : Jvm.MethodName)) ∈ lw_all := lw_g (lw_at lw_m8 80 rfl) rfl
theorem q1857 : (Jvm.Cond.codeWith ({ cls := "DimpleWellsLaw", name := "look", desc := "(LDimpleWells;II[J)I" } : Jvm.MethodName) method_21_code (5 : Nat) (Option.some Jvm.ClassFile.FieldType.int) [((0 : Nat), (10 : Nat), (13 : Nat), (31 : Nat)), ((0 : Nat), (10 : Nat), (17 : Nat), (13 : Nat))]) ∈ lw_all := lw_g (lw_at lw_m8 81 rfl) rfl
theorem q1858 : (Jvm.Cond.methodLink "DimpleWellsLaw" (70 : Nat) ({ cls := "DimpleWells", name := "look", desc := "(II)I" } : Jvm.MethodName)) ∈ lw_all := lw_g (lw_at lw_m8 82 rfl) rfl
theorem q1866 : (Jvm.Cond.methodLink "DimpleWellsLaw" (198 : Nat) ({ cls := "DimpleWellsLaw", name := "way", desc := "(LDimpleWells;II[J)I" } : Jvm.MethodName)) ∈ lw_all := lw_g (lw_at lw_m8 90 rfl) rfl
theorem q1867 : (Jvm.Cond.static ({ cls := "DimpleWellsLaw", name := "way", desc := "(LDimpleWells;II[J)I" } : Jvm.MethodName)) ∈ lw_all := lw_g (lw_at lw_m8 91 rfl) rfl
theorem q1868 : (Jvm.Cond.codeWith ({ cls := "DimpleWellsLaw", name := "way", desc := "(LDimpleWells;II[J)I" } : Jvm.MethodName) method_22_code (5 : Nat) (Option.some Jvm.ClassFile.FieldType.int) [((0 : Nat), (10 : Nat), (13 : Nat), (31 : Nat))]) ∈ lw_all := lw_g (lw_at lw_m8 92 rfl) rfl
theorem q1869 : (Jvm.Cond.methodLink "DimpleWellsLaw" (73 : Nat) ({ cls := "DimpleWells", name := "way", desc := "(II)I" } : Jvm.MethodName)) ∈ lw_all := lw_g (lw_at lw_m8 93 rfl) rfl
theorem q1873 : (Jvm.Cond.methodLink "DimpleWellsLaw" (205 : Nat) ({ cls := "DimpleWellsLaw", name := "comedians", desc := "(LDimpleWells;IIII[J)I" } : Jvm.MethodName)) ∈ lw_all := lw_g (lw_at lw_m8 97 rfl) rfl
theorem q1874 : (Jvm.Cond.static ({ cls := "DimpleWellsLaw", name := "comedians", desc := "(LDimpleWells;IIII[J)I" } : Jvm.MethodName)) ∈ lw_all := lw_g (lw_at lw_m8 98 rfl) rfl
theorem q1875 : (Jvm.Cond.codeWith ({ cls := "DimpleWellsLaw", name := "comedians", desc := "(LDimpleWells;IIII[J)I" } : Jvm.MethodName) method_23_code (7 : Nat) (Option.some Jvm.ClassFile.FieldType.int) [((0 : Nat), (14 : Nat), (17 : Nat), (13 : Nat))]) ∈ lw_all := lw_g (lw_at lw_m8 99 rfl) rfl
theorem q1876 : (Jvm.Cond.methodLink "DimpleWellsLaw" (76 : Nat) ({ cls := "DimpleWells", name := "comedians", desc := "(IIII)I" } : Jvm.MethodName)) ∈ lw_all := lw_g (lw_at lw_m8 100 rfl) rfl
theorem q1886 : (Jvm.Cond.methodLink "DimpleWellsLaw" (209 : Nat) ({ cls := "DimpleWellsLaw", name := "some", desc := "(LDimpleWells;IIII[J)I" } : Jvm.MethodName)) ∈ lw_all := lw_g (lw_at lw_m8 110 rfl) rfl
theorem q1887 : (Jvm.Cond.static ({ cls := "DimpleWellsLaw", name := "some", desc := "(LDimpleWells;IIII[J)I" } : Jvm.MethodName)) ∈ lw_all := lw_g (lw_at lw_m8 111 rfl) rfl
theorem q1888 : (Jvm.Cond.codeWith ({ cls := "DimpleWellsLaw", name := "some", desc := "(LDimpleWells;IIII[J)I" } : Jvm.MethodName) method_24_code (7 : Nat) (Option.some Jvm.ClassFile.FieldType.int) [((0 : Nat), (13 : Nat), (16 : Nat), (13 : Nat))]) ∈ lw_all := lw_g (lw_at lw_m8 112 rfl) rfl
theorem q1889 : (Jvm.Cond.methodLink "DimpleWellsLaw" (80 : Nat) ({ cls := "DimpleWells", name := "some", desc := "(IIII)J" } : Jvm.MethodName)) ∈ lw_all := lw_g (lw_at lw_m8 113 rfl) rfl
theorem q1900 : (Jvm.Cond.methodLink "DimpleWellsLaw" (212 : Nat) ({ cls := "DimpleWellsLaw", name := "share", desc := "(LDimpleWells;III[J)I" } : Jvm.MethodName)) ∈ lw_all := lw_g (lw_at lw_m8 124 rfl) rfl
theorem q1901 : (Jvm.Cond.static ({ cls := "DimpleWellsLaw", name := "share", desc := "(LDimpleWells;III[J)I" } : Jvm.MethodName)) ∈ lw_all := lw_g (lw_at lw_m8 125 rfl) rfl
theorem q1902 : (Jvm.Cond.codeWith ({ cls := "DimpleWellsLaw", name := "share", desc := "(LDimpleWells;III[J)I" } : Jvm.MethodName) method_25_code (6 : Nat) (Option.some Jvm.ClassFile.FieldType.int) [((0 : Nat), (12 : Nat), (15 : Nat), (31 : Nat)), ((0 : Nat), (12 : Nat), (19 : Nat), (13 : Nat))]) ∈ lw_all := lw_g (lw_at lw_m8 126 rfl) rfl
theorem q1903 : (Jvm.Cond.methodLink "DimpleWellsLaw" (84 : Nat) ({ cls := "DimpleWells", name := "share", desc := "(III)I" } : Jvm.MethodName)) ∈ lw_all := lw_g (lw_at lw_m8 127 rfl) rfl
theorem q1911 : (Jvm.Cond.methodLink "DimpleWellsLaw" (216 : Nat) ({ cls := "DimpleWellsLaw", name := "likes", desc := "(LDimpleWells;II[J)I" } : Jvm.MethodName)) ∈ lw_all := lw_g (lw_at lw_m8 135 rfl) rfl
theorem q1912 : (Jvm.Cond.static ({ cls := "DimpleWellsLaw", name := "likes", desc := "(LDimpleWells;II[J)I" } : Jvm.MethodName)) ∈ lw_all := lw_g (lw_at lw_m8 136 rfl) rfl
theorem q1913 : (Jvm.Cond.codeWith ({ cls := "DimpleWellsLaw", name := "likes", desc := "(LDimpleWells;II[J)I" } : Jvm.MethodName) method_26_code (5 : Nat) (Option.some Jvm.ClassFile.FieldType.int) [((0 : Nat), (10 : Nat), (13 : Nat), (31 : Nat)), ((0 : Nat), (10 : Nat), (17 : Nat), (13 : Nat))]) ∈ lw_all := lw_g (lw_at lw_m8 137 rfl) rfl
theorem q1914 : (Jvm.Cond.methodLink "DimpleWellsLaw" (88 : Nat) ({ cls := "DimpleWells", name := "likes", desc := "(II)I" } : Jvm.MethodName)) ∈ lw_all := lw_g (lw_at lw_m8 138 rfl) rfl
theorem q1918 : (Jvm.Cond.methodLink "DimpleWellsLaw" (219 : Nat) ({ cls := "DimpleWellsLaw", name := "solemn", desc := "(LDimpleWells;I[J)I" } : Jvm.MethodName)) ∈ lw_all := lw_g (lw_at lw_m8 142 rfl) rfl
theorem q1919 : (Jvm.Cond.static ({ cls := "DimpleWellsLaw", name := "solemn", desc := "(LDimpleWells;I[J)I" } : Jvm.MethodName)) ∈ lw_all := lw_g (lw_at lw_m8 143 rfl) rfl
theorem q1920 : (Jvm.Cond.codeWith ({ cls := "DimpleWellsLaw", name := "solemn", desc := "(LDimpleWells;I[J)I" } : Jvm.MethodName) method_27_code (4 : Nat) (Option.some Jvm.ClassFile.FieldType.int) [((0 : Nat), (9 : Nat), (12 : Nat), (31 : Nat))]) ∈ lw_all := lw_g (lw_at lw_m8 144 rfl) rfl
theorem q1921 : (Jvm.Cond.methodLink "DimpleWellsLaw" (91 : Nat) ({ cls := "DimpleWells", name := "solemn", desc := "(I)I" } : Jvm.MethodName)) ∈ lw_all := lw_g (lw_at lw_m8 145 rfl) rfl
theorem q1925 : (Jvm.Cond.methodLink "DimpleWellsLaw" (222 : Nat) ({ cls := "DimpleWellsLaw", name := "driest", desc := "(LDimpleWells;I[J)I" } : Jvm.MethodName)) ∈ lw_all := lw_g (lw_at lw_m8 149 rfl) rfl
theorem q1926 : (Jvm.Cond.static ({ cls := "DimpleWellsLaw", name := "driest", desc := "(LDimpleWells;I[J)I" } : Jvm.MethodName)) ∈ lw_all := lw_g (lw_at lw_m8 150 rfl) rfl
theorem q1927 : (Jvm.Cond.codeWith ({ cls := "DimpleWellsLaw", name := "driest", desc := "(LDimpleWells;I[J)I" } : Jvm.MethodName) method_28_code (4 : Nat) (Option.some Jvm.ClassFile.FieldType.int) [((0 : Nat), (9 : Nat), (12 : Nat), (13 : Nat))]) ∈ lw_all := lw_g (lw_at lw_m8 151 rfl) rfl
theorem q1928 : (Jvm.Cond.methodLink "DimpleWellsLaw" (94 : Nat) ({ cls := "DimpleWells", name := "driest", desc := "(I)I" } : Jvm.MethodName)) ∈ lw_all := lw_g (lw_at lw_m8 152 rfl) rfl
theorem q1932 : (Jvm.Cond.methodLink "DimpleWellsLaw" (229 : Nat) ({ cls := "DimpleWellsLaw", name := "alike", desc := "(LDimpleWells;I[J)I" } : Jvm.MethodName)) ∈ lw_all := lw_g (lw_at lw_m8 156 rfl) rfl
theorem q1933 : (Jvm.Cond.static ({ cls := "DimpleWellsLaw", name := "alike", desc := "(LDimpleWells;I[J)I" } : Jvm.MethodName)) ∈ lw_all := lw_g (lw_at lw_m8 157 rfl) rfl
theorem q1934 : (Jvm.Cond.codeWith ({ cls := "DimpleWellsLaw", name := "alike", desc := "(LDimpleWells;I[J)I" } : Jvm.MethodName) method_29_code (4 : Nat) (Option.some Jvm.ClassFile.FieldType.int) [((0 : Nat), (9 : Nat), (12 : Nat), (13 : Nat))]) ∈ lw_all := lw_g (lw_at lw_m8 158 rfl) rfl
theorem q1935 : (Jvm.Cond.methodLink "DimpleWellsLaw" (97 : Nat) ({ cls := "DimpleWells", name := "alike", desc := "(I)I" } : Jvm.MethodName)) ∈ lw_all := lw_g (lw_at lw_m8 159 rfl) rfl
theorem q1939 : (Jvm.Cond.methodLink "DimpleWellsLaw" (232 : Nat) ({ cls := "DimpleWellsLaw", name := "year", desc := "(LDimpleWells;IIII[J)I" } : Jvm.MethodName)) ∈ lw_all := lw_g (lw_at lw_m8 163 rfl) rfl
theorem q1940 : (Jvm.Cond.static ({ cls := "DimpleWellsLaw", name := "year", desc := "(LDimpleWells;IIII[J)I" } : Jvm.MethodName)) ∈ lw_all := lw_g (lw_at lw_m8 164 rfl) rfl
theorem q1941 : (Jvm.Cond.codeWith ({ cls := "DimpleWellsLaw", name := "year", desc := "(LDimpleWells;IIII[J)I" } : Jvm.MethodName) method_30_code (7 : Nat) (Option.some Jvm.ClassFile.FieldType.int) [((0 : Nat), (14 : Nat), (17 : Nat), (13 : Nat))]) ∈ lw_all := lw_g (lw_at lw_m8 165 rfl) rfl
theorem q1942 : (Jvm.Cond.methodLink "DimpleWellsLaw" (100 : Nat) ({ cls := "DimpleWells", name := "year", desc := "(IIII)I" } : Jvm.MethodName)) ∈ lw_all := lw_g (lw_at lw_m8 166 rfl) rfl
theorem q1960 : (Jvm.Cond.methodLink "DimpleWellsLaw" (235 : Nat) ({ cls := "DimpleWellsLaw", name := "span", desc := "(LDimpleWells;IIIIII[J)I" } : Jvm.MethodName)) ∈ lw_all := lw_g (lw_at lw_m8 184 rfl) rfl
theorem q1961 : (Jvm.Cond.static ({ cls := "DimpleWellsLaw", name := "span", desc := "(LDimpleWells;IIIIII[J)I" } : Jvm.MethodName)) ∈ lw_all := lw_g (lw_at lw_m8 185 rfl) rfl
theorem q1962 : (Jvm.Cond.codeWith ({ cls := "DimpleWellsLaw", name := "span", desc := "(LDimpleWells;IIIIII[J)I" } : Jvm.MethodName) method_31_code (9 : Nat) (Option.some Jvm.ClassFile.FieldType.int) [((0 : Nat), (18 : Nat), (21 : Nat), (13 : Nat))]) ∈ lw_all := lw_g (lw_at lw_m8 186 rfl) rfl
theorem q1963 : (Jvm.Cond.methodLink "DimpleWellsLaw" (103 : Nat) ({ cls := "DimpleWells", name := "span", desc := "(IIIIII)I" } : Jvm.MethodName)) ∈ lw_all := lw_g (lw_at lw_m8 187 rfl) rfl
theorem q1967 : (Jvm.Cond.classLink "DimpleWellsLaw" (108 : Nat) "DimpleWellsModel") ∈ lw_all := lw_g (lw_at lw_m8 191 rfl) rfl
theorem q1969 : (Jvm.Cond.methodLink "DimpleWellsLaw" (110 : Nat) ({ cls := "DimpleWellsModel", name := "<init>", desc := "()V" } : Jvm.MethodName)) ∈ lw_all := lw_g (lw_at lw_m8 193 rfl) rfl
theorem q2126 : (Jvm.Cond.methodLink "DimpleWellsLaw" (122 : Nat) ({ cls := "DimpleWellsModel", name := "thrown", desc := "()I" } : Jvm.MethodName)) ∈ lw_all := lw_g (lw_at lw_m9 110 rfl) rfl
theorem q2130 : (Jvm.Cond.methodLink "DimpleWellsLaw" (115 : Nat) ({ cls := "DimpleWellsModel", name := "feed", desc := "(IIIII)I" } : Jvm.MethodName)) ∈ lw_all := lw_g (lw_at lw_m9 114 rfl) rfl
theorem q2134 : (Jvm.Cond.methodLink "DimpleWellsLaw" (121 : Nat) ({ cls := "DimpleWellsModel", name := "land", desc := "(I)I" } : Jvm.MethodName)) ∈ lw_all := lw_g (lw_at lw_m9 118 rfl) rfl
theorem q2210 : (Jvm.Cond.methodLink "DimpleWellsLaw" (128 : Nat) ({ cls := "DimpleWellsModel", name := "law", desc := "(I)I" } : Jvm.MethodName)) ∈ lw_all := lw_g (lw_at lw_m9 194 rfl) rfl
theorem q2250 : (Jvm.Cond.methodLink "DimpleWellsLaw" (134 : Nat) ({ cls := "DimpleWellsModel", name := "book", desc := "(I)I" } : Jvm.MethodName)) ∈ lw_all := lw_g (lw_at lw_m9 234 rfl) rfl
theorem q2257 : (Jvm.Cond.methodLink "DimpleWellsLaw" (138 : Nat) ({ cls := "DimpleWellsModel", name := "fault", desc := "()I" } : Jvm.MethodName)) ∈ lw_all := lw_g (lw_at lw_m10 1 rfl) rfl
theorem q2261 : (Jvm.Cond.methodLink "DimpleWellsLaw" (131 : Nat) ({ cls := "DimpleWellsModel", name := "work", desc := "(I)I" } : Jvm.MethodName)) ∈ lw_all := lw_g (lw_at lw_m10 5 rfl) rfl
theorem q2335 : (Jvm.Cond.methodLink "DimpleWellsLaw" (142 : Nat) ({ cls := "DimpleWellsModel", name := "undo", desc := "()I" } : Jvm.MethodName)) ∈ lw_all := lw_g (lw_at lw_m10 79 rfl) rfl
theorem q2339 : (Jvm.Cond.methodLink "DimpleWellsLaw" (145 : Nat) ({ cls := "DimpleWellsModel", name := "told", desc := "(I)I" } : Jvm.MethodName)) ∈ lw_all := lw_g (lw_at lw_m10 83 rfl) rfl
theorem q2347 : (Jvm.Cond.methodLink "DimpleWellsLaw" (149 : Nat) ({ cls := "DimpleWellsModel", name := "person", desc := "(II)I" } : Jvm.MethodName)) ∈ lw_all := lw_g (lw_at lw_m10 91 rfl) rfl
theorem q2355 : (Jvm.Cond.methodLink "DimpleWellsLaw" (152 : Nat) ({ cls := "DimpleWellsModel", name := "joke", desc := "(II)I" } : Jvm.MethodName)) ∈ lw_all := lw_g (lw_at lw_m10 99 rfl) rfl
theorem q2363 : (Jvm.Cond.methodLink "DimpleWellsLaw" (155 : Nat) ({ cls := "DimpleWellsModel", name := "street", desc := "(II)I" } : Jvm.MethodName)) ∈ lw_all := lw_g (lw_at lw_m10 107 rfl) rfl
theorem q2367 : (Jvm.Cond.methodLink "DimpleWellsLaw" (158 : Nat) ({ cls := "DimpleWellsModel", name := "worn", desc := "(II)I" } : Jvm.MethodName)) ∈ lw_all := lw_g (lw_at lw_m10 111 rfl) rfl
theorem q2375 : (Jvm.Cond.methodLink "DimpleWellsLaw" (161 : Nat) ({ cls := "DimpleWellsModel", name := "laugh", desc := "(II)I" } : Jvm.MethodName)) ∈ lw_all := lw_g (lw_at lw_m10 119 rfl) rfl
theorem q2379 : (Jvm.Cond.methodLink "DimpleWellsLaw" (164 : Nat) ({ cls := "DimpleWellsModel", name := "water", desc := "(II)I" } : Jvm.MethodName)) ∈ lw_all := lw_g (lw_at lw_m10 123 rfl) rfl
theorem q2387 : (Jvm.Cond.methodLink "DimpleWellsLaw" (168 : Nat) ({ cls := "DimpleWellsModel", name := "would", desc := "(IIIIIIIIII)I" } : Jvm.MethodName)) ∈ lw_all := lw_g (lw_at lw_m10 131 rfl) rfl
theorem q2391 : (Jvm.Cond.methodLink "DimpleWellsLaw" (171 : Nat) ({ cls := "DimpleWellsModel", name := "ahead", desc := "(II)I" } : Jvm.MethodName)) ∈ lw_all := lw_g (lw_at lw_m10 135 rfl) rfl
theorem q2395 : (Jvm.Cond.methodLink "DimpleWellsLaw" (204 : Nat) ({ cls := "DimpleWellsModel", name := "dry", desc := "()I" } : Jvm.MethodName)) ∈ lw_all := lw_g (lw_at lw_m10 139 rfl) rfl
theorem q2399 : (Jvm.Cond.methodLink "DimpleWellsLaw" (175 : Nat) ({ cls := "DimpleWellsModel", name := "best", desc := "()I" } : Jvm.MethodName)) ∈ lw_all := lw_g (lw_at lw_m10 143 rfl) rfl
theorem q2411 : (Jvm.Cond.methodLink "DimpleWellsLaw" (178 : Nat) ({ cls := "DimpleWellsModel", name := "given", desc := "(I)I" } : Jvm.MethodName)) ∈ lw_all := lw_g (lw_at lw_m10 155 rfl) rfl
theorem q2415 : (Jvm.Cond.methodLink "DimpleWellsLaw" (181 : Nat) ({ cls := "DimpleWellsModel", name := "enough", desc := "(I)I" } : Jvm.MethodName)) ∈ lw_all := lw_g (lw_at lw_m10 159 rfl) rfl
theorem q2423 : (Jvm.Cond.methodLink "DimpleWellsLaw" (184 : Nat) ({ cls := "DimpleWellsModel", name := "lasts", desc := "(II)I" } : Jvm.MethodName)) ∈ lw_all := lw_g (lw_at lw_m10 167 rfl) rfl
theorem q2431 : (Jvm.Cond.methodLink "DimpleWellsLaw" (187 : Nat) ({ cls := "DimpleWellsModel", name := "well", desc := "(II)I" } : Jvm.MethodName)) ∈ lw_all := lw_g (lw_at lw_m10 175 rfl) rfl
theorem q2435 : (Jvm.Cond.methodLink "DimpleWellsLaw" (190 : Nat) ({ cls := "DimpleWellsModel", name := "fits", desc := "(II)I" } : Jvm.MethodName)) ∈ lw_all := lw_g (lw_at lw_m10 179 rfl) rfl
theorem q2443 : (Jvm.Cond.methodLink "DimpleWellsLaw" (193 : Nat) ({ cls := "DimpleWellsModel", name := "look", desc := "(II)I" } : Jvm.MethodName)) ∈ lw_all := lw_g (lw_at lw_m10 187 rfl) rfl
theorem q2455 : (Jvm.Cond.methodLink "DimpleWellsLaw" (197 : Nat) ({ cls := "DimpleWellsModel", name := "comfort", desc := "()I" } : Jvm.MethodName)) ∈ lw_all := lw_g (lw_at lw_m10 199 rfl) rfl
theorem q2459 : (Jvm.Cond.methodLink "DimpleWellsLaw" (200 : Nat) ({ cls := "DimpleWellsModel", name := "way", desc := "(II)I" } : Jvm.MethodName)) ∈ lw_all := lw_g (lw_at lw_m10 203 rfl) rfl
theorem q2467 : (Jvm.Cond.methodLink "DimpleWellsLaw" (228 : Nat) ({ cls := "DimpleWellsModel", name := "parts", desc := "()I" } : Jvm.MethodName)) ∈ lw_all := lw_g (lw_at lw_m10 211 rfl) rfl
theorem q2471 : (Jvm.Cond.methodLink "DimpleWellsLaw" (208 : Nat) ({ cls := "DimpleWellsModel", name := "comedians", desc := "(IIII)I" } : Jvm.MethodName)) ∈ lw_all := lw_g (lw_at lw_m10 215 rfl) rfl
theorem q2481 : (Jvm.Cond.methodLink "DimpleWellsLaw" (211 : Nat) ({ cls := "DimpleWellsModel", name := "some", desc := "(IIII)J" } : Jvm.MethodName)) ∈ lw_all := lw_g (lw_at lw_m10 225 rfl) rfl
theorem q2485 : (Jvm.Cond.methodLink "DimpleWellsLaw" (215 : Nat) ({ cls := "DimpleWellsModel", name := "share", desc := "(III)I" } : Jvm.MethodName)) ∈ lw_all := lw_g (lw_at lw_m10 229 rfl) rfl
theorem q2493 : (Jvm.Cond.methodLink "DimpleWellsLaw" (218 : Nat) ({ cls := "DimpleWellsModel", name := "likes", desc := "(II)I" } : Jvm.MethodName)) ∈ lw_all := lw_g (lw_at lw_m10 237 rfl) rfl
theorem q2497 : (Jvm.Cond.methodLink "DimpleWellsLaw" (221 : Nat) ({ cls := "DimpleWellsModel", name := "solemn", desc := "(I)I" } : Jvm.MethodName)) ∈ lw_all := lw_g (lw_at lw_m11 1 rfl) rfl
theorem q2501 : (Jvm.Cond.methodLink "DimpleWellsLaw" (224 : Nat) ({ cls := "DimpleWellsModel", name := "driest", desc := "(I)I" } : Jvm.MethodName)) ∈ lw_all := lw_g (lw_at lw_m11 5 rfl) rfl
theorem q2505 : (Jvm.Cond.methodLink "DimpleWellsLaw" (231 : Nat) ({ cls := "DimpleWellsModel", name := "alike", desc := "(I)I" } : Jvm.MethodName)) ∈ lw_all := lw_g (lw_at lw_m11 9 rfl) rfl
theorem q2509 : (Jvm.Cond.methodLink "DimpleWellsLaw" (234 : Nat) ({ cls := "DimpleWellsModel", name := "year", desc := "(IIII)I" } : Jvm.MethodName)) ∈ lw_all := lw_g (lw_at lw_m11 13 rfl) rfl
theorem q2525 : (Jvm.Cond.methodLink "DimpleWellsLaw" (238 : Nat) ({ cls := "DimpleWellsModel", name := "span", desc := "(IIIIII)I" } : Jvm.MethodName)) ∈ lw_all := lw_g (lw_at lw_m11 29 rfl) rfl
theorem q2529 : (Jvm.Cond.methodLink "DimpleWellsLaw" (242 : Nat) ({ cls := "DimpleWellsModel", name := "image", desc := "()I" } : Jvm.MethodName)) ∈ lw_all := lw_g (lw_at lw_m11 33 rfl) rfl
theorem q2541 : (Jvm.Cond.methodLink "DimpleWellsLaw" (246 : Nat) ({ cls := "DimpleWellsModel", name := "restore", desc := "()I" } : Jvm.MethodName)) ∈ lw_all := lw_g (lw_at lw_m11 45 rfl) rfl
theorem q2545 : (Jvm.Cond.methodLink "DimpleWellsLaw" (250 : Nat) ({ cls := "DimpleWellsModel", name := "status", desc := "(I)I" } : Jvm.MethodName)) ∈ lw_all := lw_g (lw_at lw_m11 49 rfl) rfl
theorem q2549 : (Jvm.Cond.methodLink "DimpleWellsLaw" (254 : Nat) ({ cls := "DimpleWellsModel", name := "count", desc := "(I)I" } : Jvm.MethodName)) ∈ lw_all := lw_g (lw_at lw_m11 53 rfl) rfl
/-! the law's own entry -/
set_option maxRecDepth 100000
abbrev cL_law : ByteArray := code
def dkwL_law_102 : List UInt8 := [46, 182, 0, 254, 159, 0, 5, 3, 172, 132, 4, 11, 167, 246, 46, 4, 172]
abbrev dktL_law_102 : List UInt8 := dkwL_law_102 ++ []
def dkwL_law_101 : List UInt8 := [182, 0, 250, 159, 0, 30, 3, 172, 43, 42, 21, 4, 4, 96, 46, 182, 0, 251, 44, 42, 21, 4, 4, 96]
abbrev dktL_law_101 : List UInt8 := dkwL_law_101 ++ dktL_law_102
def dkwL_law_100 : List UInt8 := [159, 0, 55, 3, 172, 43, 42, 21, 4, 4, 96, 46, 182, 0, 247, 44, 42, 21, 4, 4, 96, 46]
abbrev dktL_law_100 : List UInt8 := dkwL_law_100 ++ dktL_law_101
def dkwL_law_99 : List UInt8 := [167, 0, 79, 43, 182, 0, 239, 44, 182, 0, 242, 159, 0, 68, 3, 172, 43, 182, 0, 243, 44, 182, 0, 246]
abbrev dktL_law_99 : List UInt8 := dkwL_law_99 ++ dktL_law_100
def dkwL_law_98 : List UInt8 := [21, 5, 159, 0, 5, 3, 172, 21, 5, 154, 0, 15, 45, 3, 47, 21, 6, 133, 148, 153, 0, 5, 3, 172]
abbrev dktL_law_98 : List UInt8 := dkwL_law_98 ++ dktL_law_99
def dkwL_law_97 : List UInt8 := [46, 42, 21, 4, 8, 96, 46, 42, 21, 4, 16, 6, 96, 46, 182, 0, 238, 54, 6, 44, 182, 0, 122]
abbrev dktL_law_97 : List UInt8 := dkwL_law_97 ++ dktL_law_98
def dkwL_law_96 : List UInt8 := [44, 42, 21, 4, 4, 96, 46, 42, 21, 4, 5, 96, 46, 42, 21, 4, 6, 96, 46, 42, 21, 4, 7, 96]
abbrev dktL_law_96 : List UInt8 := dkwL_law_96 ++ dktL_law_97
def dkwL_law_95 : List UInt8 := [21, 4, 7, 96, 46, 42, 21, 4, 8, 96, 46, 42, 21, 4, 16, 6, 96, 46, 45, 184, 0, 235, 54, 5]
abbrev dktL_law_95 : List UInt8 := dkwL_law_95 ++ dktL_law_96
def dkwL_law_94 : List UInt8 := [167, 0, 197, 43, 42, 21, 4, 4, 96, 46, 42, 21, 4, 5, 96, 46, 42, 21, 4, 6, 96, 46, 42]
abbrev dktL_law_94 : List UInt8 := dkwL_law_94 ++ dktL_law_95
def dkwL_law_93 : List UInt8 := [159, 0, 5, 3, 172, 21, 5, 154, 0, 15, 45, 3, 47, 21, 6, 133, 148, 153, 0, 5, 3, 172]
abbrev dktL_law_93 : List UInt8 := dkwL_law_93 ++ dktL_law_94
def dkwL_law_92 : List UInt8 := [42, 21, 4, 6, 96, 46, 42, 21, 4, 7, 96, 46, 182, 0, 234, 54, 6, 44, 182, 0, 122, 21, 5]
abbrev dktL_law_92 : List UInt8 := dkwL_law_92 ++ dktL_law_93
def dkwL_law_91 : List UInt8 := [21, 4, 7, 96, 46, 45, 184, 0, 232, 54, 5, 44, 42, 21, 4, 4, 96, 46, 42, 21, 4, 5, 96, 46]
abbrev dktL_law_91 : List UInt8 := dkwL_law_91 ++ dktL_law_92
def dkwL_law_90 : List UInt8 := [167, 1, 33, 43, 42, 21, 4, 4, 96, 46, 42, 21, 4, 5, 96, 46, 42, 21, 4, 6, 96, 46, 42]
abbrev dktL_law_90 : List UInt8 := dkwL_law_90 ++ dktL_law_91
def dkwL_law_89 : List UInt8 := [159, 0, 5, 3, 172, 21, 5, 154, 0, 15, 45, 3, 47, 21, 6, 133, 148, 153, 0, 5, 3, 172]
abbrev dktL_law_89 : List UInt8 := dkwL_law_89 ++ dktL_law_90
def dkwL_law_88 : List UInt8 := [184, 0, 229, 54, 5, 44, 42, 21, 4, 4, 96, 46, 182, 0, 231, 54, 6, 44, 182, 0, 122, 21, 5]
abbrev dktL_law_88 : List UInt8 := dkwL_law_88 ++ dktL_law_89
def dkwL_law_87 : List UInt8 := [167, 1, 102, 43, 182, 0, 225, 44, 182, 0, 228, 159, 1, 91, 3, 172, 43, 42, 21, 4, 4, 96, 46, 45]
abbrev dktL_law_87 : List UInt8 := dkwL_law_87 ++ dktL_law_88
def dkwL_law_86 : List UInt8 := [21, 5, 159, 0, 5, 3, 172, 21, 5, 154, 0, 15, 45, 3, 47, 21, 6, 133, 148, 153, 0, 5, 3, 172]
abbrev dktL_law_86 : List UInt8 := dkwL_law_86 ++ dktL_law_87
def dkwL_law_85 : List UInt8 := [46, 45, 184, 0, 222, 54, 5, 44, 42, 21, 4, 4, 96, 46, 182, 0, 224, 54, 6, 44, 182, 0, 122]
abbrev dktL_law_85 : List UInt8 := dkwL_law_85 ++ dktL_law_86
def dkwL_law_84 : List UInt8 := [154, 0, 15, 45, 3, 47, 21, 6, 133, 148, 153, 0, 5, 3, 172, 167, 1, 158, 43, 42, 21, 4, 4, 96]
abbrev dktL_law_84 : List UInt8 := dkwL_law_84 ++ dktL_law_85
def dkwL_law_83 : List UInt8 := [21, 4, 4, 96, 46, 182, 0, 221, 54, 6, 44, 182, 0, 122, 21, 5, 159, 0, 5, 3, 172, 21, 5]
abbrev dktL_law_83 : List UInt8 := dkwL_law_83 ++ dktL_law_84
def dkwL_law_82 : List UInt8 := [148, 153, 0, 5, 3, 172, 167, 1, 214, 43, 42, 21, 4, 4, 96, 46, 45, 184, 0, 219, 54, 5, 44, 42]
abbrev dktL_law_82 : List UInt8 := dkwL_law_82 ++ dktL_law_83
def dkwL_law_81 : List UInt8 := [54, 6, 44, 182, 0, 122, 21, 5, 159, 0, 5, 3, 172, 21, 5, 154, 0, 15, 45, 3, 47, 21, 6, 133]
abbrev dktL_law_81 : List UInt8 := dkwL_law_81 ++ dktL_law_82
def dkwL_law_80 : List UInt8 := [96, 46, 45, 184, 0, 216, 54, 5, 44, 42, 21, 4, 4, 96, 46, 42, 21, 4, 5, 96, 46, 182, 0, 218]
abbrev dktL_law_80 : List UInt8 := dkwL_law_80 ++ dktL_law_81
def dkwL_law_79 : List UInt8 := [47, 21, 6, 133, 148, 153, 0, 5, 3, 172, 167, 2, 26, 43, 42, 21, 4, 4, 96, 46, 42, 21, 4, 5]
abbrev dktL_law_79 : List UInt8 := dkwL_law_79 ++ dktL_law_80
def dkwL_law_78 : List UInt8 := [46, 182, 0, 215, 54, 6, 44, 182, 0, 122, 21, 5, 159, 0, 5, 3, 172, 21, 5, 154, 0, 15, 45, 3]
abbrev dktL_law_78 : List UInt8 := dkwL_law_78 ++ dktL_law_79
def dkwL_law_77 : List UInt8 := [45, 184, 0, 212, 54, 5, 44, 42, 21, 4, 4, 96, 46, 42, 21, 4, 5, 96, 46, 42, 21, 4, 6, 96]
abbrev dktL_law_77 : List UInt8 := dkwL_law_77 ++ dktL_law_78
def dkwL_law_76 : List UInt8 := [3, 172, 167, 2, 106, 43, 42, 21, 4, 4, 96, 46, 42, 21, 4, 5, 96, 46, 42, 21, 4, 6, 96, 46]
abbrev dktL_law_76 : List UInt8 := dkwL_law_76 ++ dktL_law_77
def dkwL_law_75 : List UInt8 := [182, 0, 122, 21, 5, 159, 0, 5, 3, 172, 21, 5, 154, 0, 14, 45, 3, 47, 22, 6, 148, 153, 0, 5]
abbrev dktL_law_75 : List UInt8 := dkwL_law_75 ++ dktL_law_76
def dkwL_law_74 : List UInt8 := [21, 4, 5, 96, 46, 42, 21, 4, 6, 96, 46, 42, 21, 4, 7, 96, 46, 182, 0, 211, 55, 6, 44]
abbrev dktL_law_74 : List UInt8 := dkwL_law_74 ++ dktL_law_75
def dkwL_law_73 : List UInt8 := [6, 96, 46, 42, 21, 4, 7, 96, 46, 45, 184, 0, 209, 54, 5, 44, 42, 21, 4, 4, 96, 46, 42]
abbrev dktL_law_73 : List UInt8 := dkwL_law_73 ++ dktL_law_74
def dkwL_law_72 : List UInt8 := [153, 0, 5, 3, 172, 167, 2, 197, 43, 42, 21, 4, 4, 96, 46, 42, 21, 4, 5, 96, 46, 42, 21, 4]
abbrev dktL_law_72 : List UInt8 := dkwL_law_72 ++ dktL_law_73
def dkwL_law_71 : List UInt8 := [182, 0, 122, 21, 5, 159, 0, 5, 3, 172, 21, 5, 154, 0, 15, 45, 3, 47, 21, 6, 133, 148]
abbrev dktL_law_71 : List UInt8 := dkwL_law_71 ++ dktL_law_72
def dkwL_law_70 : List UInt8 := [21, 4, 5, 96, 46, 42, 21, 4, 6, 96, 46, 42, 21, 4, 7, 96, 46, 182, 0, 208, 54, 6, 44]
abbrev dktL_law_70 : List UInt8 := dkwL_law_70 ++ dktL_law_71
def dkwL_law_69 : List UInt8 := [6, 96, 46, 42, 21, 4, 7, 96, 46, 45, 184, 0, 205, 54, 5, 44, 42, 21, 4, 4, 96, 46, 42]
abbrev dktL_law_69 : List UInt8 := dkwL_law_69 ++ dktL_law_70
def dkwL_law_68 : List UInt8 := [182, 0, 204, 159, 3, 35, 3, 172, 43, 42, 21, 4, 4, 96, 46, 42, 21, 4, 5, 96, 46, 42, 21, 4]
abbrev dktL_law_68 : List UInt8 := dkwL_law_68 ++ dktL_law_69
def dkwL_law_67 : List UInt8 := [154, 0, 15, 45, 3, 47, 21, 6, 133, 148, 153, 0, 5, 3, 172, 167, 3, 46, 43, 182, 0, 201, 44]
abbrev dktL_law_67 : List UInt8 := dkwL_law_67 ++ dktL_law_68
def dkwL_law_66 : List UInt8 := [42, 21, 4, 5, 96, 46, 182, 0, 200, 54, 6, 44, 182, 0, 122, 21, 5, 159, 0, 5, 3, 172, 21, 5]
abbrev dktL_law_66 : List UInt8 := dkwL_law_66 ++ dktL_law_67
def dkwL_law_65 : List UInt8 := [21, 4, 4, 96, 46, 42, 21, 4, 5, 96, 46, 45, 184, 0, 198, 54, 5, 44, 42, 21, 4, 4, 96, 46]
abbrev dktL_law_65 : List UInt8 := dkwL_law_65 ++ dktL_law_66
def dkwL_law_64 : List UInt8 := [153, 0, 5, 3, 172, 167, 3, 127, 43, 182, 0, 194, 44, 182, 0, 197, 159, 3, 116, 3, 172, 43, 42]
abbrev dktL_law_64 : List UInt8 := dkwL_law_64 ++ dktL_law_65
def dkwL_law_63 : List UInt8 := [182, 0, 122, 21, 5, 159, 0, 5, 3, 172, 21, 5, 154, 0, 15, 45, 3, 47, 21, 6, 133, 148]
abbrev dktL_law_63 : List UInt8 := dkwL_law_63 ++ dktL_law_64
def dkwL_law_62 : List UInt8 := [184, 0, 191, 54, 5, 44, 42, 21, 4, 4, 96, 46, 42, 21, 4, 5, 96, 46, 182, 0, 193, 54, 6, 44]
abbrev dktL_law_62 : List UInt8 := dkwL_law_62 ++ dktL_law_63
def dkwL_law_61 : List UInt8 := [148, 153, 0, 5, 3, 172, 167, 3, 195, 43, 42, 21, 4, 4, 96, 46, 42, 21, 4, 5, 96, 46, 45]
abbrev dktL_law_61 : List UInt8 := dkwL_law_61 ++ dktL_law_62
def dkwL_law_60 : List UInt8 := [54, 6, 44, 182, 0, 122, 21, 5, 159, 0, 5, 3, 172, 21, 5, 154, 0, 15, 45, 3, 47, 21, 6, 133]
abbrev dktL_law_60 : List UInt8 := dkwL_law_60 ++ dktL_law_61
def dkwL_law_59 : List UInt8 := [46, 45, 184, 0, 188, 54, 5, 44, 42, 21, 4, 4, 96, 46, 42, 21, 4, 5, 96, 46, 182, 0, 190]
abbrev dktL_law_59 : List UInt8 := dkwL_law_59 ++ dktL_law_60
def dkwL_law_58 : List UInt8 := [21, 6, 133, 148, 153, 0, 5, 3, 172, 167, 4, 7, 43, 42, 21, 4, 4, 96, 46, 42, 21, 4, 5, 96]
abbrev dktL_law_58 : List UInt8 := dkwL_law_58 ++ dktL_law_59
def dkwL_law_57 : List UInt8 := [182, 0, 187, 54, 6, 44, 182, 0, 122, 21, 5, 159, 0, 5, 3, 172, 21, 5, 154, 0, 15, 45, 3, 47]
abbrev dktL_law_57 : List UInt8 := dkwL_law_57 ++ dktL_law_58
def dkwL_law_56 : List UInt8 := [5, 96, 46, 45, 184, 0, 185, 54, 5, 44, 42, 21, 4, 4, 96, 46, 42, 21, 4, 5, 96, 46]
abbrev dktL_law_56 : List UInt8 := dkwL_law_56 ++ dktL_law_57
def dkwL_law_55 : List UInt8 := [3, 47, 21, 6, 133, 148, 153, 0, 5, 3, 172, 167, 4, 75, 43, 42, 21, 4, 4, 96, 46, 42, 21, 4]
abbrev dktL_law_55 : List UInt8 := dkwL_law_55 ++ dktL_law_56
def dkwL_law_54 : List UInt8 := [96, 46, 182, 0, 184, 54, 6, 44, 182, 0, 122, 21, 5, 159, 0, 5, 3, 172, 21, 5, 154, 0, 15, 45]
abbrev dktL_law_54 : List UInt8 := dkwL_law_54 ++ dktL_law_55
def dkwL_law_53 : List UInt8 := [46, 42, 21, 4, 5, 96, 46, 45, 184, 0, 182, 54, 5, 44, 42, 21, 4, 4, 96, 46, 42, 21, 4, 5]
abbrev dktL_law_53 : List UInt8 := dkwL_law_53 ++ dktL_law_54
def dkwL_law_52 : List UInt8 := [154, 0, 15, 45, 3, 47, 21, 6, 133, 148, 153, 0, 5, 3, 172, 167, 4, 143, 43, 42, 21, 4, 4, 96]
abbrev dktL_law_52 : List UInt8 := dkwL_law_52 ++ dktL_law_53
def dkwL_law_51 : List UInt8 := [21, 4, 4, 96, 46, 182, 0, 181, 54, 6, 44, 182, 0, 122, 21, 5, 159, 0, 5, 3, 172, 21, 5]
abbrev dktL_law_51 : List UInt8 := dkwL_law_51 ++ dktL_law_52
def dkwL_law_50 : List UInt8 := [153, 0, 5, 3, 172, 167, 4, 199, 43, 42, 21, 4, 4, 96, 46, 45, 184, 0, 179, 54, 5, 44, 42]
abbrev dktL_law_50 : List UInt8 := dkwL_law_50 ++ dktL_law_51
def dkwL_law_49 : List UInt8 := [182, 0, 122, 21, 5, 159, 0, 5, 3, 172, 21, 5, 154, 0, 15, 45, 3, 47, 21, 6, 133, 148]
abbrev dktL_law_49 : List UInt8 := dkwL_law_49 ++ dktL_law_50
def dkwL_law_48 : List UInt8 := [21, 4, 4, 96, 46, 45, 184, 0, 176, 54, 5, 44, 42, 21, 4, 4, 96, 46, 182, 0, 178, 54, 6, 44]
abbrev dktL_law_48 : List UInt8 := dkwL_law_48 ++ dktL_law_49
def dkwL_law_47 : List UInt8 := [148, 153, 0, 5, 3, 172, 167, 5, 12, 43, 182, 0, 172, 44, 182, 0, 175, 159, 5, 1, 3, 172, 43, 42]
abbrev dktL_law_47 : List UInt8 := dkwL_law_47 ++ dktL_law_48
def dkwL_law_46 : List UInt8 := [54, 6, 44, 182, 0, 122, 21, 5, 159, 0, 5, 3, 172, 21, 5, 154, 0, 15, 45, 3, 47, 21, 6, 133]
abbrev dktL_law_46 : List UInt8 := dkwL_law_46 ++ dktL_law_47
def dkwL_law_45 : List UInt8 := [46, 45, 184, 0, 169, 54, 5, 44, 42, 21, 4, 4, 96, 46, 42, 21, 4, 5, 96, 46, 182, 0, 171]
abbrev dktL_law_45 : List UInt8 := dkwL_law_45 ++ dktL_law_46
def dkwL_law_44 : List UInt8 := [21, 6, 133, 148, 153, 0, 5, 3, 172, 167, 5, 80, 43, 42, 21, 4, 4, 96, 46, 42, 21, 4, 5, 96]
abbrev dktL_law_44 : List UInt8 := dkwL_law_44 ++ dktL_law_45
def dkwL_law_43 : List UInt8 := [182, 0, 168, 54, 6, 44, 182, 0, 122, 21, 5, 159, 0, 5, 3, 172, 21, 5, 154, 0, 15, 45, 3, 47]
abbrev dktL_law_43 : List UInt8 := dkwL_law_43 ++ dktL_law_44
def dkwL_law_42 : List UInt8 := [96, 46, 42, 21, 4, 16, 8, 96, 46, 42, 21, 4, 16, 9, 96, 46, 42, 21, 4, 16, 10, 96, 46]
abbrev dktL_law_42 : List UInt8 := dkwL_law_42 ++ dktL_law_43
def dkwL_law_41 : List UInt8 := [42, 21, 4, 7, 96, 46, 42, 21, 4, 8, 96, 46, 42, 21, 4, 16, 6, 96, 46, 42, 21, 4, 16, 7]
abbrev dktL_law_41 : List UInt8 := dkwL_law_41 ++ dktL_law_42
def dkwL_law_40 : List UInt8 := [184, 0, 165, 54, 5, 44, 42, 21, 4, 4, 96, 46, 42, 21, 4, 5, 96, 46, 42, 21, 4, 6, 96, 46]
abbrev dktL_law_40 : List UInt8 := dkwL_law_40 ++ dktL_law_41
def dkwL_law_39 : List UInt8 := [46, 42, 21, 4, 16, 8, 96, 46, 42, 21, 4, 16, 9, 96, 46, 42, 21, 4, 16, 10, 96, 46, 45]
abbrev dktL_law_39 : List UInt8 := dkwL_law_39 ++ dktL_law_40
def dkwL_law_38 : List UInt8 := [21, 4, 7, 96, 46, 42, 21, 4, 8, 96, 46, 42, 21, 4, 16, 6, 96, 46, 42, 21, 4, 16, 7, 96]
abbrev dktL_law_38 : List UInt8 := dkwL_law_38 ++ dktL_law_39
def dkwL_law_37 : List UInt8 := [167, 5, 254, 43, 42, 21, 4, 4, 96, 46, 42, 21, 4, 5, 96, 46, 42, 21, 4, 6, 96, 46, 42]
abbrev dktL_law_37 : List UInt8 := dkwL_law_37 ++ dktL_law_38
def dkwL_law_36 : List UInt8 := [159, 0, 5, 3, 172, 21, 5, 154, 0, 15, 45, 3, 47, 21, 6, 133, 148, 153, 0, 5, 3, 172]
abbrev dktL_law_36 : List UInt8 := dkwL_law_36 ++ dktL_law_37
def dkwL_law_35 : List UInt8 := [21, 4, 4, 96, 46, 42, 21, 4, 5, 96, 46, 182, 0, 164, 54, 6, 44, 182, 0, 122, 21, 5]
abbrev dktL_law_35 : List UInt8 := dkwL_law_35 ++ dktL_law_36
def dkwL_law_34 : List UInt8 := [167, 6, 66, 43, 42, 21, 4, 4, 96, 46, 42, 21, 4, 5, 96, 46, 45, 184, 0, 162, 54, 5, 44, 42]
abbrev dktL_law_34 : List UInt8 := dkwL_law_34 ++ dktL_law_35
def dkwL_law_33 : List UInt8 := [159, 0, 5, 3, 172, 21, 5, 154, 0, 15, 45, 3, 47, 21, 6, 133, 148, 153, 0, 5, 3, 172]
abbrev dktL_law_33 : List UInt8 := dkwL_law_33 ++ dktL_law_34
def dkwL_law_32 : List UInt8 := [21, 4, 4, 96, 46, 42, 21, 4, 5, 96, 46, 182, 0, 161, 54, 6, 44, 182, 0, 122, 21, 5]
abbrev dktL_law_32 : List UInt8 := dkwL_law_32 ++ dktL_law_33
def dkwL_law_31 : List UInt8 := [167, 6, 134, 43, 42, 21, 4, 4, 96, 46, 42, 21, 4, 5, 96, 46, 45, 184, 0, 159, 54, 5, 44, 42]
abbrev dktL_law_31 : List UInt8 := dkwL_law_31 ++ dktL_law_32
def dkwL_law_30 : List UInt8 := [159, 0, 5, 3, 172, 21, 5, 154, 0, 15, 45, 3, 47, 21, 6, 133, 148, 153, 0, 5, 3, 172]
abbrev dktL_law_30 : List UInt8 := dkwL_law_30 ++ dktL_law_31
def dkwL_law_29 : List UInt8 := [21, 4, 4, 96, 46, 42, 21, 4, 5, 96, 46, 182, 0, 158, 54, 6, 44, 182, 0, 122, 21, 5]
abbrev dktL_law_29 : List UInt8 := dkwL_law_29 ++ dktL_law_30
def dkwL_law_28 : List UInt8 := [167, 6, 202, 43, 42, 21, 4, 4, 96, 46, 42, 21, 4, 5, 96, 46, 45, 184, 0, 156, 54, 5, 44, 42]
abbrev dktL_law_28 : List UInt8 := dkwL_law_28 ++ dktL_law_29
def dkwL_law_27 : List UInt8 := [159, 0, 5, 3, 172, 21, 5, 154, 0, 15, 45, 3, 47, 21, 6, 133, 148, 153, 0, 5, 3, 172]
abbrev dktL_law_27 : List UInt8 := dkwL_law_27 ++ dktL_law_28
def dkwL_law_26 : List UInt8 := [21, 4, 4, 96, 46, 42, 21, 4, 5, 96, 46, 182, 0, 155, 54, 6, 44, 182, 0, 122, 21, 5]
abbrev dktL_law_26 : List UInt8 := dkwL_law_26 ++ dktL_law_27
def dkwL_law_25 : List UInt8 := [167, 7, 14, 43, 42, 21, 4, 4, 96, 46, 42, 21, 4, 5, 96, 46, 45, 184, 0, 153, 54, 5, 44, 42]
abbrev dktL_law_25 : List UInt8 := dkwL_law_25 ++ dktL_law_26
def dkwL_law_24 : List UInt8 := [159, 0, 5, 3, 172, 21, 5, 154, 0, 15, 45, 3, 47, 21, 6, 133, 148, 153, 0, 5, 3, 172]
abbrev dktL_law_24 : List UInt8 := dkwL_law_24 ++ dktL_law_25
def dkwL_law_23 : List UInt8 := [21, 4, 4, 96, 46, 42, 21, 4, 5, 96, 46, 182, 0, 152, 54, 6, 44, 182, 0, 122, 21, 5]
abbrev dktL_law_23 : List UInt8 := dkwL_law_23 ++ dktL_law_24
def dkwL_law_22 : List UInt8 := [167, 7, 82, 43, 42, 21, 4, 4, 96, 46, 42, 21, 4, 5, 96, 46, 45, 184, 0, 150, 54, 5, 44, 42]
abbrev dktL_law_22 : List UInt8 := dkwL_law_22 ++ dktL_law_23
def dkwL_law_21 : List UInt8 := [159, 0, 5, 3, 172, 21, 5, 154, 0, 15, 45, 3, 47, 21, 6, 133, 148, 153, 0, 5, 3, 172]
abbrev dktL_law_21 : List UInt8 := dkwL_law_21 ++ dktL_law_22
def dkwL_law_20 : List UInt8 := [21, 4, 4, 96, 46, 42, 21, 4, 5, 96, 46, 182, 0, 149, 54, 6, 44, 182, 0, 122, 21, 5]
abbrev dktL_law_20 : List UInt8 := dkwL_law_20 ++ dktL_law_21
def dkwL_law_19 : List UInt8 := [167, 7, 150, 43, 42, 21, 4, 4, 96, 46, 42, 21, 4, 5, 96, 46, 45, 184, 0, 146, 54, 5, 44, 42]
abbrev dktL_law_19 : List UInt8 := dkwL_law_19 ++ dktL_law_20
def dkwL_law_18 : List UInt8 := [159, 0, 5, 3, 172, 21, 5, 154, 0, 15, 45, 3, 47, 21, 6, 133, 148, 153, 0, 5, 3, 172]
abbrev dktL_law_18 : List UInt8 := dkwL_law_18 ++ dktL_law_19
def dkwL_law_17 : List UInt8 := [184, 0, 143, 54, 5, 44, 42, 21, 4, 4, 96, 46, 182, 0, 145, 54, 6, 44, 182, 0, 122, 21, 5]
abbrev dktL_law_17 : List UInt8 := dkwL_law_17 ++ dktL_law_18
def dkwL_law_16 : List UInt8 := [172, 43, 182, 0, 139, 44, 182, 0, 142, 159, 7, 208, 3, 172, 43, 42, 21, 4, 4, 96, 46, 45]
abbrev dktL_law_16 : List UInt8 := dkwL_law_16 ++ dktL_law_17
def dkwL_law_15 : List UInt8 := [21, 6, 133, 148, 153, 0, 5, 3, 172, 167, 7, 232, 43, 182, 0, 135, 44, 182, 0, 138, 159, 7, 221, 3]
abbrev dktL_law_15 : List UInt8 := dkwL_law_15 ++ dktL_law_16
def dkwL_law_14 : List UInt8 := [182, 0, 134, 54, 6, 44, 182, 0, 122, 21, 5, 159, 0, 5, 3, 172, 21, 5, 154, 0, 15, 45, 3, 47]
abbrev dktL_law_14 : List UInt8 := dkwL_law_14 ++ dktL_law_15
def dkwL_law_13 : List UInt8 := [167, 8, 32, 43, 42, 21, 4, 4, 96, 46, 45, 184, 0, 132, 54, 5, 44, 42, 21, 4, 4, 96, 46]
abbrev dktL_law_13 : List UInt8 := dkwL_law_13 ++ dktL_law_14
def dkwL_law_12 : List UInt8 := [21, 5, 159, 0, 5, 3, 172, 21, 5, 154, 0, 15, 45, 3, 47, 21, 6, 133, 148, 153, 0, 5, 3, 172]
abbrev dktL_law_12 : List UInt8 := dkwL_law_12 ++ dktL_law_13
def dkwL_law_11 : List UInt8 := [46, 45, 184, 0, 129, 54, 5, 44, 42, 21, 4, 4, 96, 46, 182, 0, 131, 54, 6, 44, 182, 0, 122]
abbrev dktL_law_11 : List UInt8 := dkwL_law_11 ++ dktL_law_12
def dkwL_law_10 : List UInt8 := [154, 0, 15, 45, 3, 47, 21, 6, 133, 148, 153, 0, 5, 3, 172, 167, 8, 88, 43, 42, 21, 4, 4, 96]
abbrev dktL_law_10 : List UInt8 := dkwL_law_10 ++ dktL_law_11
def dkwL_law_9 : List UInt8 := [21, 4, 4, 96, 46, 182, 0, 128, 54, 6, 44, 182, 0, 122, 21, 5, 159, 0, 5, 3, 172, 21, 5]
abbrev dktL_law_9 : List UInt8 := dkwL_law_9 ++ dktL_law_10
def dkwL_law_8 : List UInt8 := [148, 153, 0, 5, 3, 172, 167, 8, 144, 43, 42, 21, 4, 4, 96, 46, 45, 184, 0, 126, 54, 5, 44, 42]
abbrev dktL_law_8 : List UInt8 := dkwL_law_8 ++ dktL_law_9
def dkwL_law_7 : List UInt8 := [54, 6, 44, 182, 0, 122, 21, 5, 159, 0, 5, 3, 172, 21, 5, 154, 0, 15, 45, 3, 47, 21, 6, 133]
abbrev dktL_law_7 : List UInt8 := dkwL_law_7 ++ dktL_law_8
def dkwL_law_6 : List UInt8 := [172, 43, 42, 21, 4, 4, 96, 46, 45, 184, 0, 116, 54, 5, 44, 42, 21, 4, 4, 96, 46, 182, 0, 121]
abbrev dktL_law_6 : List UInt8 := dkwL_law_6 ++ dktL_law_7
def dkwL_law_5 : List UInt8 := [21, 4, 6, 96, 46, 42, 21, 4, 7, 96, 46, 42, 21, 4, 8, 96, 46, 182, 0, 115, 159, 8, 202, 3]
abbrev dktL_law_5 : List UInt8 := dkwL_law_5 ++ dktL_law_6
def dkwL_law_4 : List UInt8 := [46, 42, 21, 4, 8, 96, 46, 182, 0, 111, 44, 42, 21, 4, 4, 96, 46, 42, 21, 4, 5, 96, 46, 42]
abbrev dktL_law_4 : List UInt8 := dkwL_law_4 ++ dktL_law_5
def dkwL_law_3 : List UInt8 := [43, 42, 21, 4, 4, 96, 46, 42, 21, 4, 5, 96, 46, 42, 21, 4, 6, 96, 46, 42, 21, 4, 7, 96]
abbrev dktL_law_3 : List UInt8 := dkwL_law_3 ++ dktL_law_4
def dkwL_law_2 : List UInt8 := [170, 0, 0, 0, 0, 0, 9, 190, 0, 0, 0, 0, 0, 0, 0, 39, 0, 0, 0, 176, 0, 0, 0, 249, 0, 0, 1, 49, 0, 0, 1, 105, 0, 0, 1, 161, 0, 0, 1, 217, 0, 0, 1, 230, 0, 0, 1, 243, 0, 0, 2, 43, 0, 0, 2, 111, 0, 0, 2, 179, 0, 0, 2, 247, 0, 0, 3, 59, 0, 0, 3, 127, 0, 0, 3, 195, 0, 0, 4, 113, 0, 0, 4, 181, 0, 0, 4, 194, 0, 0, 4, 250, 0, 0, 5, 50, 0, 0, 5, 118, 0, 0, 5, 186, 0, 0, 5, 254, 0, 0, 6, 66, 0, 0, 6, 79, 0, 0, 6, 147, 0, 0, 6, 160, 0, 0, 6, 252, 0, 0, 7, 87, 0, 0, 7, 167, 0, 0, 7, 235, 0, 0, 8, 35, 0, 0, 8, 91, 0, 0, 8, 104, 0, 0, 8, 160, 0, 0, 8, 252, 0, 0, 9, 114, 0, 0, 9, 127, 0, 0, 9, 140, 0, 0, 9, 165]
abbrev dktL_law_2 : List UInt8 := dkwL_law_2 ++ dktL_law_3
def dkwL_law_1 : List UInt8 := [21, 4, 42, 190, 16, 11, 100, 163, 9, 206, 42, 21, 4, 46, 16, 63, 126]
abbrev dktL_law_1 : List UInt8 := dkwL_law_1 ++ dktL_law_2
def dkwL_law_0 : List UInt8 := [187, 0, 8, 89, 183, 0, 107, 76, 187, 0, 108, 89, 183, 0, 110, 77, 4, 188, 11, 78, 3, 54, 4]
abbrev dktL_law_0 : List UInt8 := dkwL_law_0 ++ dktL_law_1
theorem dksL_law_0 : cL_law.data.toList.drop 0 = dktL_law_0 := by decide +kernel
theorem dksL_law_1 : cL_law.data.toList.drop 23 = dktL_law_1 := dk_seg dksL_law_0 23 rfl rfl
theorem dksL_law_2 : cL_law.data.toList.drop 40 = dktL_law_2 := dk_seg dksL_law_1 17 rfl rfl
theorem dksL_law_3 : cL_law.data.toList.drop 216 = dktL_law_3 := dk_seg dksL_law_2 176 rfl rfl
theorem dksL_law_4 : cL_law.data.toList.drop 240 = dktL_law_4 := dk_seg dksL_law_3 24 rfl rfl
theorem dksL_law_5 : cL_law.data.toList.drop 264 = dktL_law_5 := dk_seg dksL_law_4 24 rfl rfl
theorem dksL_law_6 : cL_law.data.toList.drop 288 = dktL_law_6 := dk_seg dksL_law_5 24 rfl rfl
theorem dksL_law_7 : cL_law.data.toList.drop 312 = dktL_law_7 := dk_seg dksL_law_6 24 rfl rfl
theorem dksL_law_8 : cL_law.data.toList.drop 336 = dktL_law_8 := dk_seg dksL_law_7 24 rfl rfl
theorem dksL_law_9 : cL_law.data.toList.drop 360 = dktL_law_9 := dk_seg dksL_law_8 24 rfl rfl
theorem dksL_law_10 : cL_law.data.toList.drop 383 = dktL_law_10 := dk_seg dksL_law_9 23 rfl rfl
theorem dksL_law_11 : cL_law.data.toList.drop 407 = dktL_law_11 := dk_seg dksL_law_10 24 rfl rfl
theorem dksL_law_12 : cL_law.data.toList.drop 430 = dktL_law_12 := dk_seg dksL_law_11 23 rfl rfl
theorem dksL_law_13 : cL_law.data.toList.drop 454 = dktL_law_13 := dk_seg dksL_law_12 24 rfl rfl
theorem dksL_law_14 : cL_law.data.toList.drop 477 = dktL_law_14 := dk_seg dksL_law_13 23 rfl rfl
theorem dksL_law_15 : cL_law.data.toList.drop 501 = dktL_law_15 := dk_seg dksL_law_14 24 rfl rfl
theorem dksL_law_16 : cL_law.data.toList.drop 525 = dktL_law_16 := dk_seg dksL_law_15 24 rfl rfl
theorem dksL_law_17 : cL_law.data.toList.drop 547 = dktL_law_17 := dk_seg dksL_law_16 22 rfl rfl
theorem dksL_law_18 : cL_law.data.toList.drop 570 = dktL_law_18 := dk_seg dksL_law_17 23 rfl rfl
theorem dksL_law_19 : cL_law.data.toList.drop 592 = dktL_law_19 := dk_seg dksL_law_18 22 rfl rfl
theorem dksL_law_20 : cL_law.data.toList.drop 616 = dktL_law_20 := dk_seg dksL_law_19 24 rfl rfl
theorem dksL_law_21 : cL_law.data.toList.drop 638 = dktL_law_21 := dk_seg dksL_law_20 22 rfl rfl
theorem dksL_law_22 : cL_law.data.toList.drop 660 = dktL_law_22 := dk_seg dksL_law_21 22 rfl rfl
theorem dksL_law_23 : cL_law.data.toList.drop 684 = dktL_law_23 := dk_seg dksL_law_22 24 rfl rfl
theorem dksL_law_24 : cL_law.data.toList.drop 706 = dktL_law_24 := dk_seg dksL_law_23 22 rfl rfl
theorem dksL_law_25 : cL_law.data.toList.drop 728 = dktL_law_25 := dk_seg dksL_law_24 22 rfl rfl
theorem dksL_law_26 : cL_law.data.toList.drop 752 = dktL_law_26 := dk_seg dksL_law_25 24 rfl rfl
theorem dksL_law_27 : cL_law.data.toList.drop 774 = dktL_law_27 := dk_seg dksL_law_26 22 rfl rfl
theorem dksL_law_28 : cL_law.data.toList.drop 796 = dktL_law_28 := dk_seg dksL_law_27 22 rfl rfl
theorem dksL_law_29 : cL_law.data.toList.drop 820 = dktL_law_29 := dk_seg dksL_law_28 24 rfl rfl
theorem dksL_law_30 : cL_law.data.toList.drop 842 = dktL_law_30 := dk_seg dksL_law_29 22 rfl rfl
theorem dksL_law_31 : cL_law.data.toList.drop 864 = dktL_law_31 := dk_seg dksL_law_30 22 rfl rfl
theorem dksL_law_32 : cL_law.data.toList.drop 888 = dktL_law_32 := dk_seg dksL_law_31 24 rfl rfl
theorem dksL_law_33 : cL_law.data.toList.drop 910 = dktL_law_33 := dk_seg dksL_law_32 22 rfl rfl
theorem dksL_law_34 : cL_law.data.toList.drop 932 = dktL_law_34 := dk_seg dksL_law_33 22 rfl rfl
theorem dksL_law_35 : cL_law.data.toList.drop 956 = dktL_law_35 := dk_seg dksL_law_34 24 rfl rfl
theorem dksL_law_36 : cL_law.data.toList.drop 978 = dktL_law_36 := dk_seg dksL_law_35 22 rfl rfl
theorem dksL_law_37 : cL_law.data.toList.drop 1000 = dktL_law_37 := dk_seg dksL_law_36 22 rfl rfl
theorem dksL_law_38 : cL_law.data.toList.drop 1023 = dktL_law_38 := dk_seg dksL_law_37 23 rfl rfl
theorem dksL_law_39 : cL_law.data.toList.drop 1047 = dktL_law_39 := dk_seg dksL_law_38 24 rfl rfl
theorem dksL_law_40 : cL_law.data.toList.drop 1070 = dktL_law_40 := dk_seg dksL_law_39 23 rfl rfl
theorem dksL_law_41 : cL_law.data.toList.drop 1094 = dktL_law_41 := dk_seg dksL_law_40 24 rfl rfl
theorem dksL_law_42 : cL_law.data.toList.drop 1118 = dktL_law_42 := dk_seg dksL_law_41 24 rfl rfl
theorem dksL_law_43 : cL_law.data.toList.drop 1141 = dktL_law_43 := dk_seg dksL_law_42 23 rfl rfl
theorem dksL_law_44 : cL_law.data.toList.drop 1165 = dktL_law_44 := dk_seg dksL_law_43 24 rfl rfl
theorem dksL_law_45 : cL_law.data.toList.drop 1189 = dktL_law_45 := dk_seg dksL_law_44 24 rfl rfl
theorem dksL_law_46 : cL_law.data.toList.drop 1212 = dktL_law_46 := dk_seg dksL_law_45 23 rfl rfl
theorem dksL_law_47 : cL_law.data.toList.drop 1236 = dktL_law_47 := dk_seg dksL_law_46 24 rfl rfl
theorem dksL_law_48 : cL_law.data.toList.drop 1260 = dktL_law_48 := dk_seg dksL_law_47 24 rfl rfl
theorem dksL_law_49 : cL_law.data.toList.drop 1284 = dktL_law_49 := dk_seg dksL_law_48 24 rfl rfl
theorem dksL_law_50 : cL_law.data.toList.drop 1306 = dktL_law_50 := dk_seg dksL_law_49 22 rfl rfl
theorem dksL_law_51 : cL_law.data.toList.drop 1329 = dktL_law_51 := dk_seg dksL_law_50 23 rfl rfl
theorem dksL_law_52 : cL_law.data.toList.drop 1352 = dktL_law_52 := dk_seg dksL_law_51 23 rfl rfl
theorem dksL_law_53 : cL_law.data.toList.drop 1376 = dktL_law_53 := dk_seg dksL_law_52 24 rfl rfl
theorem dksL_law_54 : cL_law.data.toList.drop 1400 = dktL_law_54 := dk_seg dksL_law_53 24 rfl rfl
theorem dksL_law_55 : cL_law.data.toList.drop 1424 = dktL_law_55 := dk_seg dksL_law_54 24 rfl rfl
theorem dksL_law_56 : cL_law.data.toList.drop 1448 = dktL_law_56 := dk_seg dksL_law_55 24 rfl rfl
theorem dksL_law_57 : cL_law.data.toList.drop 1470 = dktL_law_57 := dk_seg dksL_law_56 22 rfl rfl
theorem dksL_law_58 : cL_law.data.toList.drop 1494 = dktL_law_58 := dk_seg dksL_law_57 24 rfl rfl
theorem dksL_law_59 : cL_law.data.toList.drop 1518 = dktL_law_59 := dk_seg dksL_law_58 24 rfl rfl
theorem dksL_law_60 : cL_law.data.toList.drop 1541 = dktL_law_60 := dk_seg dksL_law_59 23 rfl rfl
theorem dksL_law_61 : cL_law.data.toList.drop 1565 = dktL_law_61 := dk_seg dksL_law_60 24 rfl rfl
theorem dksL_law_62 : cL_law.data.toList.drop 1588 = dktL_law_62 := dk_seg dksL_law_61 23 rfl rfl
theorem dksL_law_63 : cL_law.data.toList.drop 1612 = dktL_law_63 := dk_seg dksL_law_62 24 rfl rfl
theorem dksL_law_64 : cL_law.data.toList.drop 1634 = dktL_law_64 := dk_seg dksL_law_63 22 rfl rfl
theorem dksL_law_65 : cL_law.data.toList.drop 1657 = dktL_law_65 := dk_seg dksL_law_64 23 rfl rfl
theorem dksL_law_66 : cL_law.data.toList.drop 1681 = dktL_law_66 := dk_seg dksL_law_65 24 rfl rfl
theorem dksL_law_67 : cL_law.data.toList.drop 1705 = dktL_law_67 := dk_seg dksL_law_66 24 rfl rfl
theorem dksL_law_68 : cL_law.data.toList.drop 1728 = dktL_law_68 := dk_seg dksL_law_67 23 rfl rfl
theorem dksL_law_69 : cL_law.data.toList.drop 1752 = dktL_law_69 := dk_seg dksL_law_68 24 rfl rfl
theorem dksL_law_70 : cL_law.data.toList.drop 1775 = dktL_law_70 := dk_seg dksL_law_69 23 rfl rfl
theorem dksL_law_71 : cL_law.data.toList.drop 1798 = dktL_law_71 := dk_seg dksL_law_70 23 rfl rfl
theorem dksL_law_72 : cL_law.data.toList.drop 1820 = dktL_law_72 := dk_seg dksL_law_71 22 rfl rfl
theorem dksL_law_73 : cL_law.data.toList.drop 1844 = dktL_law_73 := dk_seg dksL_law_72 24 rfl rfl
theorem dksL_law_74 : cL_law.data.toList.drop 1867 = dktL_law_74 := dk_seg dksL_law_73 23 rfl rfl
theorem dksL_law_75 : cL_law.data.toList.drop 1890 = dktL_law_75 := dk_seg dksL_law_74 23 rfl rfl
theorem dksL_law_76 : cL_law.data.toList.drop 1914 = dktL_law_76 := dk_seg dksL_law_75 24 rfl rfl
theorem dksL_law_77 : cL_law.data.toList.drop 1938 = dktL_law_77 := dk_seg dksL_law_76 24 rfl rfl
theorem dksL_law_78 : cL_law.data.toList.drop 1962 = dktL_law_78 := dk_seg dksL_law_77 24 rfl rfl
theorem dksL_law_79 : cL_law.data.toList.drop 1986 = dktL_law_79 := dk_seg dksL_law_78 24 rfl rfl
theorem dksL_law_80 : cL_law.data.toList.drop 2010 = dktL_law_80 := dk_seg dksL_law_79 24 rfl rfl
theorem dksL_law_81 : cL_law.data.toList.drop 2034 = dktL_law_81 := dk_seg dksL_law_80 24 rfl rfl
theorem dksL_law_82 : cL_law.data.toList.drop 2058 = dktL_law_82 := dk_seg dksL_law_81 24 rfl rfl
theorem dksL_law_83 : cL_law.data.toList.drop 2082 = dktL_law_83 := dk_seg dksL_law_82 24 rfl rfl
theorem dksL_law_84 : cL_law.data.toList.drop 2105 = dktL_law_84 := dk_seg dksL_law_83 23 rfl rfl
theorem dksL_law_85 : cL_law.data.toList.drop 2129 = dktL_law_85 := dk_seg dksL_law_84 24 rfl rfl
theorem dksL_law_86 : cL_law.data.toList.drop 2152 = dktL_law_86 := dk_seg dksL_law_85 23 rfl rfl
theorem dksL_law_87 : cL_law.data.toList.drop 2176 = dktL_law_87 := dk_seg dksL_law_86 24 rfl rfl
theorem dksL_law_88 : cL_law.data.toList.drop 2200 = dktL_law_88 := dk_seg dksL_law_87 24 rfl rfl
theorem dksL_law_89 : cL_law.data.toList.drop 2223 = dktL_law_89 := dk_seg dksL_law_88 23 rfl rfl
theorem dksL_law_90 : cL_law.data.toList.drop 2245 = dktL_law_90 := dk_seg dksL_law_89 22 rfl rfl
theorem dksL_law_91 : cL_law.data.toList.drop 2268 = dktL_law_91 := dk_seg dksL_law_90 23 rfl rfl
theorem dksL_law_92 : cL_law.data.toList.drop 2292 = dktL_law_92 := dk_seg dksL_law_91 24 rfl rfl
theorem dksL_law_93 : cL_law.data.toList.drop 2315 = dktL_law_93 := dk_seg dksL_law_92 23 rfl rfl
theorem dksL_law_94 : cL_law.data.toList.drop 2337 = dktL_law_94 := dk_seg dksL_law_93 22 rfl rfl
theorem dksL_law_95 : cL_law.data.toList.drop 2360 = dktL_law_95 := dk_seg dksL_law_94 23 rfl rfl
theorem dksL_law_96 : cL_law.data.toList.drop 2384 = dktL_law_96 := dk_seg dksL_law_95 24 rfl rfl
theorem dksL_law_97 : cL_law.data.toList.drop 2408 = dktL_law_97 := dk_seg dksL_law_96 24 rfl rfl
theorem dksL_law_98 : cL_law.data.toList.drop 2431 = dktL_law_98 := dk_seg dksL_law_97 23 rfl rfl
theorem dksL_law_99 : cL_law.data.toList.drop 2455 = dktL_law_99 := dk_seg dksL_law_98 24 rfl rfl
theorem dksL_law_100 : cL_law.data.toList.drop 2479 = dktL_law_100 := dk_seg dksL_law_99 24 rfl rfl
theorem dksL_law_101 : cL_law.data.toList.drop 2501 = dktL_law_101 := dk_seg dksL_law_100 22 rfl rfl
theorem dksL_law_102 : cL_law.data.toList.drop 2525 = dktL_law_102 := dk_seg dksL_law_101 24 rfl rfl
theorem dL_law_0 : decode cL_law 0 = .ok (.new 8, 3) := dk_187 0 8 (dk_at dksL_law_0 0 rfl rfl)
theorem dL_law_3 : decode cL_law 3 = .ok (.dup, 1) := dk_89 (dk_at dksL_law_0 3 rfl rfl)
theorem dL_law_4 : decode cL_law 4 = .ok (.invokespecial 107, 3) := dk_183 0 107 (dk_at dksL_law_0 4 rfl rfl)
theorem dL_law_7 : decode cL_law 7 = .ok (.astore_n 1, 1) := dk_76 (dk_at dksL_law_0 7 rfl rfl)
theorem dL_law_8 : decode cL_law 8 = .ok (.new 108, 3) := dk_187 0 108 (dk_at dksL_law_0 8 rfl rfl)
theorem dL_law_11 : decode cL_law 11 = .ok (.dup, 1) := dk_89 (dk_at dksL_law_0 11 rfl rfl)
theorem dL_law_12 : decode cL_law 12 = .ok (.invokespecial 110, 3) := dk_183 0 110 (dk_at dksL_law_0 12 rfl rfl)
theorem dL_law_15 : decode cL_law 15 = .ok (.astore_n 2, 1) := dk_77 (dk_at dksL_law_0 15 rfl rfl)
theorem dL_law_16 : decode cL_law 16 = .ok (.iconst 1, 1) := dk_4 (dk_at dksL_law_0 16 rfl rfl)
theorem dL_law_17 : decode cL_law 17 = .ok (.newarray .long, 2) := dk_188_11 (dk_at dksL_law_0 17 rfl rfl)
theorem dL_law_19 : decode cL_law 19 = .ok (.astore_n 3, 1) := dk_78 (dk_at dksL_law_0 19 rfl rfl)
theorem dL_law_20 : decode cL_law 20 = .ok (.iconst 0, 1) := dk_3 (dk_at dksL_law_0 20 rfl rfl)
theorem dL_law_21 : decode cL_law 21 = .ok (.istore 4, 2) := dk_54 4 (dk_at dksL_law_0 21 rfl rfl)
theorem dL_law_23 : decode cL_law 23 = .ok (.iload 4, 2) := dk_21 4 (dk_at dksL_law_1 0 rfl rfl)
theorem dL_law_25 : decode cL_law 25 = .ok (.aload_n 0, 1) := dk_42 (dk_at dksL_law_1 2 rfl rfl)
theorem dL_law_26 : decode cL_law 26 = .ok (.arraylength, 1) := dk_190 (dk_at dksL_law_1 3 rfl rfl)
theorem dL_law_27 : decode cL_law 27 = .ok (.bipush 11, 2) := dk_16 11 (dk_at dksL_law_1 4 rfl rfl)
theorem dL_law_29 : decode cL_law 29 = .ok (.isub, 1) := dk_100 (dk_at dksL_law_1 6 rfl rfl)
theorem dL_law_30 : decode cL_law 30 = .ok (.if_icmp .gt 2510, 3) := dk_163 9 206 (dk_at dksL_law_1 7 rfl rfl)
theorem dL_law_33 : decode cL_law 33 = .ok (.aload_n 0, 1) := dk_42 (dk_at dksL_law_1 10 rfl rfl)
theorem dL_law_34 : decode cL_law 34 = .ok (.iload 4, 2) := dk_21 4 (dk_at dksL_law_1 11 rfl rfl)
theorem dL_law_36 : decode cL_law 36 = .ok (.iaload, 1) := dk_46 (dk_at dksL_law_1 13 rfl rfl)
theorem dL_law_37 : decode cL_law 37 = .ok (.bipush 63, 2) := dk_16 63 (dk_at dksL_law_1 14 rfl rfl)
theorem dL_law_39 : decode cL_law 39 = .ok (.iand, 1) := dk_126 (dk_at dksL_law_1 16 rfl rfl)
theorem dL_law_40 : decode cL_law 40 = .ok (.tableswitch 2494 0 39 #[176, 249, 305, 361, 417, 473, 486, 499, 555, 623, 691, 759, 827, 895, 963, 1137, 1205, 1218, 1274, 1330, 1398, 1466, 1534, 1602, 1615, 1683, 1696, 1788, 1879, 1959, 2027, 2083, 2139, 2152, 2208, 2300, 2418, 2431, 2444, 2469], 176) := by decide +kernel
theorem dL_law_216 : decode cL_law 216 = .ok (.aload_n 1, 1) := dk_43 (dk_at dksL_law_3 0 rfl rfl)
theorem dL_law_217 : decode cL_law 217 = .ok (.aload_n 0, 1) := dk_42 (dk_at dksL_law_3 1 rfl rfl)
theorem dL_law_218 : decode cL_law 218 = .ok (.iload 4, 2) := dk_21 4 (dk_at dksL_law_3 2 rfl rfl)
theorem dL_law_220 : decode cL_law 220 = .ok (.iconst 1, 1) := dk_4 (dk_at dksL_law_3 4 rfl rfl)
theorem dL_law_221 : decode cL_law 221 = .ok (.iadd, 1) := dk_96 (dk_at dksL_law_3 5 rfl rfl)
theorem dL_law_222 : decode cL_law 222 = .ok (.iaload, 1) := dk_46 (dk_at dksL_law_3 6 rfl rfl)
theorem dL_law_223 : decode cL_law 223 = .ok (.aload_n 0, 1) := dk_42 (dk_at dksL_law_3 7 rfl rfl)
theorem dL_law_224 : decode cL_law 224 = .ok (.iload 4, 2) := dk_21 4 (dk_at dksL_law_3 8 rfl rfl)
theorem dL_law_226 : decode cL_law 226 = .ok (.iconst 2, 1) := dk_5 (dk_at dksL_law_3 10 rfl rfl)
theorem dL_law_227 : decode cL_law 227 = .ok (.iadd, 1) := dk_96 (dk_at dksL_law_3 11 rfl rfl)
theorem dL_law_228 : decode cL_law 228 = .ok (.iaload, 1) := dk_46 (dk_at dksL_law_3 12 rfl rfl)
theorem dL_law_229 : decode cL_law 229 = .ok (.aload_n 0, 1) := dk_42 (dk_at dksL_law_3 13 rfl rfl)
theorem dL_law_230 : decode cL_law 230 = .ok (.iload 4, 2) := dk_21 4 (dk_at dksL_law_3 14 rfl rfl)
theorem dL_law_232 : decode cL_law 232 = .ok (.iconst 3, 1) := dk_6 (dk_at dksL_law_3 16 rfl rfl)
theorem dL_law_233 : decode cL_law 233 = .ok (.iadd, 1) := dk_96 (dk_at dksL_law_3 17 rfl rfl)
theorem dL_law_234 : decode cL_law 234 = .ok (.iaload, 1) := dk_46 (dk_at dksL_law_3 18 rfl rfl)
theorem dL_law_235 : decode cL_law 235 = .ok (.aload_n 0, 1) := dk_42 (dk_at dksL_law_3 19 rfl rfl)
theorem dL_law_236 : decode cL_law 236 = .ok (.iload 4, 2) := dk_21 4 (dk_at dksL_law_3 20 rfl rfl)
theorem dL_law_238 : decode cL_law 238 = .ok (.iconst 4, 1) := dk_7 (dk_at dksL_law_3 22 rfl rfl)
theorem dL_law_239 : decode cL_law 239 = .ok (.iadd, 1) := dk_96 (dk_at dksL_law_3 23 rfl rfl)
theorem dL_law_240 : decode cL_law 240 = .ok (.iaload, 1) := dk_46 (dk_at dksL_law_4 0 rfl rfl)
theorem dL_law_241 : decode cL_law 241 = .ok (.aload_n 0, 1) := dk_42 (dk_at dksL_law_4 1 rfl rfl)
theorem dL_law_242 : decode cL_law 242 = .ok (.iload 4, 2) := dk_21 4 (dk_at dksL_law_4 2 rfl rfl)
theorem dL_law_244 : decode cL_law 244 = .ok (.iconst 5, 1) := dk_8 (dk_at dksL_law_4 4 rfl rfl)
theorem dL_law_245 : decode cL_law 245 = .ok (.iadd, 1) := dk_96 (dk_at dksL_law_4 5 rfl rfl)
theorem dL_law_246 : decode cL_law 246 = .ok (.iaload, 1) := dk_46 (dk_at dksL_law_4 6 rfl rfl)
theorem dL_law_247 : decode cL_law 247 = .ok (.invokevirtual 111, 3) := dk_182 0 111 (dk_at dksL_law_4 7 rfl rfl)
theorem dL_law_250 : decode cL_law 250 = .ok (.aload_n 2, 1) := dk_44 (dk_at dksL_law_4 10 rfl rfl)
theorem dL_law_251 : decode cL_law 251 = .ok (.aload_n 0, 1) := dk_42 (dk_at dksL_law_4 11 rfl rfl)
theorem dL_law_252 : decode cL_law 252 = .ok (.iload 4, 2) := dk_21 4 (dk_at dksL_law_4 12 rfl rfl)
theorem dL_law_254 : decode cL_law 254 = .ok (.iconst 1, 1) := dk_4 (dk_at dksL_law_4 14 rfl rfl)
theorem dL_law_255 : decode cL_law 255 = .ok (.iadd, 1) := dk_96 (dk_at dksL_law_4 15 rfl rfl)
theorem dL_law_256 : decode cL_law 256 = .ok (.iaload, 1) := dk_46 (dk_at dksL_law_4 16 rfl rfl)
theorem dL_law_257 : decode cL_law 257 = .ok (.aload_n 0, 1) := dk_42 (dk_at dksL_law_4 17 rfl rfl)
theorem dL_law_258 : decode cL_law 258 = .ok (.iload 4, 2) := dk_21 4 (dk_at dksL_law_4 18 rfl rfl)
theorem dL_law_260 : decode cL_law 260 = .ok (.iconst 2, 1) := dk_5 (dk_at dksL_law_4 20 rfl rfl)
theorem dL_law_261 : decode cL_law 261 = .ok (.iadd, 1) := dk_96 (dk_at dksL_law_4 21 rfl rfl)
theorem dL_law_262 : decode cL_law 262 = .ok (.iaload, 1) := dk_46 (dk_at dksL_law_4 22 rfl rfl)
theorem dL_law_263 : decode cL_law 263 = .ok (.aload_n 0, 1) := dk_42 (dk_at dksL_law_4 23 rfl rfl)
theorem dL_law_264 : decode cL_law 264 = .ok (.iload 4, 2) := dk_21 4 (dk_at dksL_law_5 0 rfl rfl)
theorem dL_law_266 : decode cL_law 266 = .ok (.iconst 3, 1) := dk_6 (dk_at dksL_law_5 2 rfl rfl)
theorem dL_law_267 : decode cL_law 267 = .ok (.iadd, 1) := dk_96 (dk_at dksL_law_5 3 rfl rfl)
theorem dL_law_268 : decode cL_law 268 = .ok (.iaload, 1) := dk_46 (dk_at dksL_law_5 4 rfl rfl)
theorem dL_law_269 : decode cL_law 269 = .ok (.aload_n 0, 1) := dk_42 (dk_at dksL_law_5 5 rfl rfl)
theorem dL_law_270 : decode cL_law 270 = .ok (.iload 4, 2) := dk_21 4 (dk_at dksL_law_5 6 rfl rfl)
theorem dL_law_272 : decode cL_law 272 = .ok (.iconst 4, 1) := dk_7 (dk_at dksL_law_5 8 rfl rfl)
theorem dL_law_273 : decode cL_law 273 = .ok (.iadd, 1) := dk_96 (dk_at dksL_law_5 9 rfl rfl)
theorem dL_law_274 : decode cL_law 274 = .ok (.iaload, 1) := dk_46 (dk_at dksL_law_5 10 rfl rfl)
theorem dL_law_275 : decode cL_law 275 = .ok (.aload_n 0, 1) := dk_42 (dk_at dksL_law_5 11 rfl rfl)
theorem dL_law_276 : decode cL_law 276 = .ok (.iload 4, 2) := dk_21 4 (dk_at dksL_law_5 12 rfl rfl)
theorem dL_law_278 : decode cL_law 278 = .ok (.iconst 5, 1) := dk_8 (dk_at dksL_law_5 14 rfl rfl)
theorem dL_law_279 : decode cL_law 279 = .ok (.iadd, 1) := dk_96 (dk_at dksL_law_5 15 rfl rfl)
theorem dL_law_280 : decode cL_law 280 = .ok (.iaload, 1) := dk_46 (dk_at dksL_law_5 16 rfl rfl)
theorem dL_law_281 : decode cL_law 281 = .ok (.invokevirtual 115, 3) := dk_182 0 115 (dk_at dksL_law_5 17 rfl rfl)
theorem dL_law_284 : decode cL_law 284 = .ok (.if_icmp .eq 2250, 3) := dk_159 8 202 (dk_at dksL_law_5 20 rfl rfl)
theorem dL_law_287 : decode cL_law 287 = .ok (.iconst 0, 1) := dk_3 (dk_at dksL_law_5 23 rfl rfl)
theorem dL_law_288 : decode cL_law 288 = .ok (.ireturn, 1) := dk_172 (dk_at dksL_law_6 0 rfl rfl)
theorem dL_law_289 : decode cL_law 289 = .ok (.aload_n 1, 1) := dk_43 (dk_at dksL_law_6 1 rfl rfl)
theorem dL_law_290 : decode cL_law 290 = .ok (.aload_n 0, 1) := dk_42 (dk_at dksL_law_6 2 rfl rfl)
theorem dL_law_291 : decode cL_law 291 = .ok (.iload 4, 2) := dk_21 4 (dk_at dksL_law_6 3 rfl rfl)
theorem dL_law_293 : decode cL_law 293 = .ok (.iconst 1, 1) := dk_4 (dk_at dksL_law_6 5 rfl rfl)
theorem dL_law_294 : decode cL_law 294 = .ok (.iadd, 1) := dk_96 (dk_at dksL_law_6 6 rfl rfl)
theorem dL_law_295 : decode cL_law 295 = .ok (.iaload, 1) := dk_46 (dk_at dksL_law_6 7 rfl rfl)
theorem dL_law_296 : decode cL_law 296 = .ok (.aload_n 3, 1) := dk_45 (dk_at dksL_law_6 8 rfl rfl)
theorem dL_law_297 : decode cL_law 297 = .ok (.invokestatic 116, 3) := dk_184 0 116 (dk_at dksL_law_6 9 rfl rfl)
theorem dL_law_300 : decode cL_law 300 = .ok (.istore 5, 2) := dk_54 5 (dk_at dksL_law_6 12 rfl rfl)
theorem dL_law_302 : decode cL_law 302 = .ok (.aload_n 2, 1) := dk_44 (dk_at dksL_law_6 14 rfl rfl)
theorem dL_law_303 : decode cL_law 303 = .ok (.aload_n 0, 1) := dk_42 (dk_at dksL_law_6 15 rfl rfl)
theorem dL_law_304 : decode cL_law 304 = .ok (.iload 4, 2) := dk_21 4 (dk_at dksL_law_6 16 rfl rfl)
theorem dL_law_306 : decode cL_law 306 = .ok (.iconst 1, 1) := dk_4 (dk_at dksL_law_6 18 rfl rfl)
theorem dL_law_307 : decode cL_law 307 = .ok (.iadd, 1) := dk_96 (dk_at dksL_law_6 19 rfl rfl)
theorem dL_law_308 : decode cL_law 308 = .ok (.iaload, 1) := dk_46 (dk_at dksL_law_6 20 rfl rfl)
theorem dL_law_309 : decode cL_law 309 = .ok (.invokevirtual 121, 3) := dk_182 0 121 (dk_at dksL_law_6 21 rfl rfl)
theorem dL_law_312 : decode cL_law 312 = .ok (.istore 6, 2) := dk_54 6 (dk_at dksL_law_7 0 rfl rfl)
theorem dL_law_314 : decode cL_law 314 = .ok (.aload_n 2, 1) := dk_44 (dk_at dksL_law_7 2 rfl rfl)
theorem dL_law_315 : decode cL_law 315 = .ok (.invokevirtual 122, 3) := dk_182 0 122 (dk_at dksL_law_7 3 rfl rfl)
theorem dL_law_318 : decode cL_law 318 = .ok (.iload 5, 2) := dk_21 5 (dk_at dksL_law_7 6 rfl rfl)
theorem dL_law_320 : decode cL_law 320 = .ok (.if_icmp .eq 5, 3) := dk_159 0 5 (dk_at dksL_law_7 8 rfl rfl)
theorem dL_law_323 : decode cL_law 323 = .ok (.iconst 0, 1) := dk_3 (dk_at dksL_law_7 11 rfl rfl)
theorem dL_law_324 : decode cL_law 324 = .ok (.ireturn, 1) := dk_172 (dk_at dksL_law_7 12 rfl rfl)
theorem dL_law_325 : decode cL_law 325 = .ok (.iload 5, 2) := dk_21 5 (dk_at dksL_law_7 13 rfl rfl)
theorem dL_law_327 : decode cL_law 327 = .ok (.ifCond .ne 15, 3) := dk_154 0 15 (dk_at dksL_law_7 15 rfl rfl)
theorem dL_law_330 : decode cL_law 330 = .ok (.aload_n 3, 1) := dk_45 (dk_at dksL_law_7 18 rfl rfl)
theorem dL_law_331 : decode cL_law 331 = .ok (.iconst 0, 1) := dk_3 (dk_at dksL_law_7 19 rfl rfl)
theorem dL_law_332 : decode cL_law 332 = .ok (.laload, 1) := dk_47 (dk_at dksL_law_7 20 rfl rfl)
theorem dL_law_333 : decode cL_law 333 = .ok (.iload 6, 2) := dk_21 6 (dk_at dksL_law_7 21 rfl rfl)
theorem dL_law_335 : decode cL_law 335 = .ok (.i2l, 1) := dk_133 (dk_at dksL_law_7 23 rfl rfl)
theorem dL_law_336 : decode cL_law 336 = .ok (.lcmp, 1) := dk_148 (dk_at dksL_law_8 0 rfl rfl)
theorem dL_law_337 : decode cL_law 337 = .ok (.ifCond .eq 5, 3) := dk_153 0 5 (dk_at dksL_law_8 1 rfl rfl)
theorem dL_law_340 : decode cL_law 340 = .ok (.iconst 0, 1) := dk_3 (dk_at dksL_law_8 4 rfl rfl)
theorem dL_law_341 : decode cL_law 341 = .ok (.ireturn, 1) := dk_172 (dk_at dksL_law_8 5 rfl rfl)
theorem dL_law_342 : decode cL_law 342 = .ok (.goto 2192, 3) := dk_167 8 144 (dk_at dksL_law_8 6 rfl rfl)
theorem dL_law_345 : decode cL_law 345 = .ok (.aload_n 1, 1) := dk_43 (dk_at dksL_law_8 9 rfl rfl)
theorem dL_law_346 : decode cL_law 346 = .ok (.aload_n 0, 1) := dk_42 (dk_at dksL_law_8 10 rfl rfl)
theorem dL_law_347 : decode cL_law 347 = .ok (.iload 4, 2) := dk_21 4 (dk_at dksL_law_8 11 rfl rfl)
theorem dL_law_349 : decode cL_law 349 = .ok (.iconst 1, 1) := dk_4 (dk_at dksL_law_8 13 rfl rfl)
theorem dL_law_350 : decode cL_law 350 = .ok (.iadd, 1) := dk_96 (dk_at dksL_law_8 14 rfl rfl)
theorem dL_law_351 : decode cL_law 351 = .ok (.iaload, 1) := dk_46 (dk_at dksL_law_8 15 rfl rfl)
theorem dL_law_352 : decode cL_law 352 = .ok (.aload_n 3, 1) := dk_45 (dk_at dksL_law_8 16 rfl rfl)
theorem dL_law_353 : decode cL_law 353 = .ok (.invokestatic 126, 3) := dk_184 0 126 (dk_at dksL_law_8 17 rfl rfl)
theorem dL_law_356 : decode cL_law 356 = .ok (.istore 5, 2) := dk_54 5 (dk_at dksL_law_8 20 rfl rfl)
theorem dL_law_358 : decode cL_law 358 = .ok (.aload_n 2, 1) := dk_44 (dk_at dksL_law_8 22 rfl rfl)
theorem dL_law_359 : decode cL_law 359 = .ok (.aload_n 0, 1) := dk_42 (dk_at dksL_law_8 23 rfl rfl)
theorem dL_law_360 : decode cL_law 360 = .ok (.iload 4, 2) := dk_21 4 (dk_at dksL_law_9 0 rfl rfl)
theorem dL_law_362 : decode cL_law 362 = .ok (.iconst 1, 1) := dk_4 (dk_at dksL_law_9 2 rfl rfl)
theorem dL_law_363 : decode cL_law 363 = .ok (.iadd, 1) := dk_96 (dk_at dksL_law_9 3 rfl rfl)
theorem dL_law_364 : decode cL_law 364 = .ok (.iaload, 1) := dk_46 (dk_at dksL_law_9 4 rfl rfl)
theorem dL_law_365 : decode cL_law 365 = .ok (.invokevirtual 128, 3) := dk_182 0 128 (dk_at dksL_law_9 5 rfl rfl)
theorem dL_law_368 : decode cL_law 368 = .ok (.istore 6, 2) := dk_54 6 (dk_at dksL_law_9 8 rfl rfl)
theorem dL_law_370 : decode cL_law 370 = .ok (.aload_n 2, 1) := dk_44 (dk_at dksL_law_9 10 rfl rfl)
theorem dL_law_371 : decode cL_law 371 = .ok (.invokevirtual 122, 3) := dk_182 0 122 (dk_at dksL_law_9 11 rfl rfl)
theorem dL_law_374 : decode cL_law 374 = .ok (.iload 5, 2) := dk_21 5 (dk_at dksL_law_9 14 rfl rfl)
theorem dL_law_376 : decode cL_law 376 = .ok (.if_icmp .eq 5, 3) := dk_159 0 5 (dk_at dksL_law_9 16 rfl rfl)
theorem dL_law_379 : decode cL_law 379 = .ok (.iconst 0, 1) := dk_3 (dk_at dksL_law_9 19 rfl rfl)
theorem dL_law_380 : decode cL_law 380 = .ok (.ireturn, 1) := dk_172 (dk_at dksL_law_9 20 rfl rfl)
theorem dL_law_381 : decode cL_law 381 = .ok (.iload 5, 2) := dk_21 5 (dk_at dksL_law_9 21 rfl rfl)
theorem dL_law_383 : decode cL_law 383 = .ok (.ifCond .ne 15, 3) := dk_154 0 15 (dk_at dksL_law_10 0 rfl rfl)
theorem dL_law_386 : decode cL_law 386 = .ok (.aload_n 3, 1) := dk_45 (dk_at dksL_law_10 3 rfl rfl)
theorem dL_law_387 : decode cL_law 387 = .ok (.iconst 0, 1) := dk_3 (dk_at dksL_law_10 4 rfl rfl)
theorem dL_law_388 : decode cL_law 388 = .ok (.laload, 1) := dk_47 (dk_at dksL_law_10 5 rfl rfl)
theorem dL_law_389 : decode cL_law 389 = .ok (.iload 6, 2) := dk_21 6 (dk_at dksL_law_10 6 rfl rfl)
theorem dL_law_391 : decode cL_law 391 = .ok (.i2l, 1) := dk_133 (dk_at dksL_law_10 8 rfl rfl)
theorem dL_law_392 : decode cL_law 392 = .ok (.lcmp, 1) := dk_148 (dk_at dksL_law_10 9 rfl rfl)
theorem dL_law_393 : decode cL_law 393 = .ok (.ifCond .eq 5, 3) := dk_153 0 5 (dk_at dksL_law_10 10 rfl rfl)
theorem dL_law_396 : decode cL_law 396 = .ok (.iconst 0, 1) := dk_3 (dk_at dksL_law_10 13 rfl rfl)
theorem dL_law_397 : decode cL_law 397 = .ok (.ireturn, 1) := dk_172 (dk_at dksL_law_10 14 rfl rfl)
theorem dL_law_398 : decode cL_law 398 = .ok (.goto 2136, 3) := dk_167 8 88 (dk_at dksL_law_10 15 rfl rfl)
theorem dL_law_401 : decode cL_law 401 = .ok (.aload_n 1, 1) := dk_43 (dk_at dksL_law_10 18 rfl rfl)
theorem dL_law_402 : decode cL_law 402 = .ok (.aload_n 0, 1) := dk_42 (dk_at dksL_law_10 19 rfl rfl)
theorem dL_law_403 : decode cL_law 403 = .ok (.iload 4, 2) := dk_21 4 (dk_at dksL_law_10 20 rfl rfl)
theorem dL_law_405 : decode cL_law 405 = .ok (.iconst 1, 1) := dk_4 (dk_at dksL_law_10 22 rfl rfl)
theorem dL_law_406 : decode cL_law 406 = .ok (.iadd, 1) := dk_96 (dk_at dksL_law_10 23 rfl rfl)
theorem dL_law_407 : decode cL_law 407 = .ok (.iaload, 1) := dk_46 (dk_at dksL_law_11 0 rfl rfl)
theorem dL_law_408 : decode cL_law 408 = .ok (.aload_n 3, 1) := dk_45 (dk_at dksL_law_11 1 rfl rfl)
theorem dL_law_409 : decode cL_law 409 = .ok (.invokestatic 129, 3) := dk_184 0 129 (dk_at dksL_law_11 2 rfl rfl)
theorem dL_law_412 : decode cL_law 412 = .ok (.istore 5, 2) := dk_54 5 (dk_at dksL_law_11 5 rfl rfl)
theorem dL_law_414 : decode cL_law 414 = .ok (.aload_n 2, 1) := dk_44 (dk_at dksL_law_11 7 rfl rfl)
theorem dL_law_415 : decode cL_law 415 = .ok (.aload_n 0, 1) := dk_42 (dk_at dksL_law_11 8 rfl rfl)
theorem dL_law_416 : decode cL_law 416 = .ok (.iload 4, 2) := dk_21 4 (dk_at dksL_law_11 9 rfl rfl)
theorem dL_law_418 : decode cL_law 418 = .ok (.iconst 1, 1) := dk_4 (dk_at dksL_law_11 11 rfl rfl)
theorem dL_law_419 : decode cL_law 419 = .ok (.iadd, 1) := dk_96 (dk_at dksL_law_11 12 rfl rfl)
theorem dL_law_420 : decode cL_law 420 = .ok (.iaload, 1) := dk_46 (dk_at dksL_law_11 13 rfl rfl)
theorem dL_law_421 : decode cL_law 421 = .ok (.invokevirtual 131, 3) := dk_182 0 131 (dk_at dksL_law_11 14 rfl rfl)
theorem dL_law_424 : decode cL_law 424 = .ok (.istore 6, 2) := dk_54 6 (dk_at dksL_law_11 17 rfl rfl)
theorem dL_law_426 : decode cL_law 426 = .ok (.aload_n 2, 1) := dk_44 (dk_at dksL_law_11 19 rfl rfl)
theorem dL_law_427 : decode cL_law 427 = .ok (.invokevirtual 122, 3) := dk_182 0 122 (dk_at dksL_law_11 20 rfl rfl)
theorem dL_law_430 : decode cL_law 430 = .ok (.iload 5, 2) := dk_21 5 (dk_at dksL_law_12 0 rfl rfl)
theorem dL_law_432 : decode cL_law 432 = .ok (.if_icmp .eq 5, 3) := dk_159 0 5 (dk_at dksL_law_12 2 rfl rfl)
theorem dL_law_435 : decode cL_law 435 = .ok (.iconst 0, 1) := dk_3 (dk_at dksL_law_12 5 rfl rfl)
theorem dL_law_436 : decode cL_law 436 = .ok (.ireturn, 1) := dk_172 (dk_at dksL_law_12 6 rfl rfl)
theorem dL_law_437 : decode cL_law 437 = .ok (.iload 5, 2) := dk_21 5 (dk_at dksL_law_12 7 rfl rfl)
theorem dL_law_439 : decode cL_law 439 = .ok (.ifCond .ne 15, 3) := dk_154 0 15 (dk_at dksL_law_12 9 rfl rfl)
theorem dL_law_442 : decode cL_law 442 = .ok (.aload_n 3, 1) := dk_45 (dk_at dksL_law_12 12 rfl rfl)
theorem dL_law_443 : decode cL_law 443 = .ok (.iconst 0, 1) := dk_3 (dk_at dksL_law_12 13 rfl rfl)
theorem dL_law_444 : decode cL_law 444 = .ok (.laload, 1) := dk_47 (dk_at dksL_law_12 14 rfl rfl)
theorem dL_law_445 : decode cL_law 445 = .ok (.iload 6, 2) := dk_21 6 (dk_at dksL_law_12 15 rfl rfl)
theorem dL_law_447 : decode cL_law 447 = .ok (.i2l, 1) := dk_133 (dk_at dksL_law_12 17 rfl rfl)
theorem dL_law_448 : decode cL_law 448 = .ok (.lcmp, 1) := dk_148 (dk_at dksL_law_12 18 rfl rfl)
theorem dL_law_449 : decode cL_law 449 = .ok (.ifCond .eq 5, 3) := dk_153 0 5 (dk_at dksL_law_12 19 rfl rfl)
theorem dL_law_452 : decode cL_law 452 = .ok (.iconst 0, 1) := dk_3 (dk_at dksL_law_12 22 rfl rfl)
theorem dL_law_453 : decode cL_law 453 = .ok (.ireturn, 1) := dk_172 (dk_at dksL_law_12 23 rfl rfl)
theorem dL_law_454 : decode cL_law 454 = .ok (.goto 2080, 3) := dk_167 8 32 (dk_at dksL_law_13 0 rfl rfl)
theorem dL_law_457 : decode cL_law 457 = .ok (.aload_n 1, 1) := dk_43 (dk_at dksL_law_13 3 rfl rfl)
theorem dL_law_458 : decode cL_law 458 = .ok (.aload_n 0, 1) := dk_42 (dk_at dksL_law_13 4 rfl rfl)
theorem dL_law_459 : decode cL_law 459 = .ok (.iload 4, 2) := dk_21 4 (dk_at dksL_law_13 5 rfl rfl)
theorem dL_law_461 : decode cL_law 461 = .ok (.iconst 1, 1) := dk_4 (dk_at dksL_law_13 7 rfl rfl)
theorem dL_law_462 : decode cL_law 462 = .ok (.iadd, 1) := dk_96 (dk_at dksL_law_13 8 rfl rfl)
theorem dL_law_463 : decode cL_law 463 = .ok (.iaload, 1) := dk_46 (dk_at dksL_law_13 9 rfl rfl)
theorem dL_law_464 : decode cL_law 464 = .ok (.aload_n 3, 1) := dk_45 (dk_at dksL_law_13 10 rfl rfl)
theorem dL_law_465 : decode cL_law 465 = .ok (.invokestatic 132, 3) := dk_184 0 132 (dk_at dksL_law_13 11 rfl rfl)
theorem dL_law_468 : decode cL_law 468 = .ok (.istore 5, 2) := dk_54 5 (dk_at dksL_law_13 14 rfl rfl)
theorem dL_law_470 : decode cL_law 470 = .ok (.aload_n 2, 1) := dk_44 (dk_at dksL_law_13 16 rfl rfl)
theorem dL_law_471 : decode cL_law 471 = .ok (.aload_n 0, 1) := dk_42 (dk_at dksL_law_13 17 rfl rfl)
theorem dL_law_472 : decode cL_law 472 = .ok (.iload 4, 2) := dk_21 4 (dk_at dksL_law_13 18 rfl rfl)
theorem dL_law_474 : decode cL_law 474 = .ok (.iconst 1, 1) := dk_4 (dk_at dksL_law_13 20 rfl rfl)
theorem dL_law_475 : decode cL_law 475 = .ok (.iadd, 1) := dk_96 (dk_at dksL_law_13 21 rfl rfl)
theorem dL_law_476 : decode cL_law 476 = .ok (.iaload, 1) := dk_46 (dk_at dksL_law_13 22 rfl rfl)
theorem dL_law_477 : decode cL_law 477 = .ok (.invokevirtual 134, 3) := dk_182 0 134 (dk_at dksL_law_14 0 rfl rfl)
theorem dL_law_480 : decode cL_law 480 = .ok (.istore 6, 2) := dk_54 6 (dk_at dksL_law_14 3 rfl rfl)
theorem dL_law_482 : decode cL_law 482 = .ok (.aload_n 2, 1) := dk_44 (dk_at dksL_law_14 5 rfl rfl)
theorem dL_law_483 : decode cL_law 483 = .ok (.invokevirtual 122, 3) := dk_182 0 122 (dk_at dksL_law_14 6 rfl rfl)
theorem dL_law_486 : decode cL_law 486 = .ok (.iload 5, 2) := dk_21 5 (dk_at dksL_law_14 9 rfl rfl)
theorem dL_law_488 : decode cL_law 488 = .ok (.if_icmp .eq 5, 3) := dk_159 0 5 (dk_at dksL_law_14 11 rfl rfl)
theorem dL_law_491 : decode cL_law 491 = .ok (.iconst 0, 1) := dk_3 (dk_at dksL_law_14 14 rfl rfl)
theorem dL_law_492 : decode cL_law 492 = .ok (.ireturn, 1) := dk_172 (dk_at dksL_law_14 15 rfl rfl)
theorem dL_law_493 : decode cL_law 493 = .ok (.iload 5, 2) := dk_21 5 (dk_at dksL_law_14 16 rfl rfl)
theorem dL_law_495 : decode cL_law 495 = .ok (.ifCond .ne 15, 3) := dk_154 0 15 (dk_at dksL_law_14 18 rfl rfl)
theorem dL_law_498 : decode cL_law 498 = .ok (.aload_n 3, 1) := dk_45 (dk_at dksL_law_14 21 rfl rfl)
theorem dL_law_499 : decode cL_law 499 = .ok (.iconst 0, 1) := dk_3 (dk_at dksL_law_14 22 rfl rfl)
theorem dL_law_500 : decode cL_law 500 = .ok (.laload, 1) := dk_47 (dk_at dksL_law_14 23 rfl rfl)
theorem dL_law_501 : decode cL_law 501 = .ok (.iload 6, 2) := dk_21 6 (dk_at dksL_law_15 0 rfl rfl)
theorem dL_law_503 : decode cL_law 503 = .ok (.i2l, 1) := dk_133 (dk_at dksL_law_15 2 rfl rfl)
theorem dL_law_504 : decode cL_law 504 = .ok (.lcmp, 1) := dk_148 (dk_at dksL_law_15 3 rfl rfl)
theorem dL_law_505 : decode cL_law 505 = .ok (.ifCond .eq 5, 3) := dk_153 0 5 (dk_at dksL_law_15 4 rfl rfl)
theorem dL_law_508 : decode cL_law 508 = .ok (.iconst 0, 1) := dk_3 (dk_at dksL_law_15 7 rfl rfl)
theorem dL_law_509 : decode cL_law 509 = .ok (.ireturn, 1) := dk_172 (dk_at dksL_law_15 8 rfl rfl)
theorem dL_law_510 : decode cL_law 510 = .ok (.goto 2024, 3) := dk_167 7 232 (dk_at dksL_law_15 9 rfl rfl)
theorem dL_law_513 : decode cL_law 513 = .ok (.aload_n 1, 1) := dk_43 (dk_at dksL_law_15 12 rfl rfl)
theorem dL_law_514 : decode cL_law 514 = .ok (.invokevirtual 135, 3) := dk_182 0 135 (dk_at dksL_law_15 13 rfl rfl)
theorem dL_law_517 : decode cL_law 517 = .ok (.aload_n 2, 1) := dk_44 (dk_at dksL_law_15 16 rfl rfl)
theorem dL_law_518 : decode cL_law 518 = .ok (.invokevirtual 138, 3) := dk_182 0 138 (dk_at dksL_law_15 17 rfl rfl)
theorem dL_law_521 : decode cL_law 521 = .ok (.if_icmp .eq 2013, 3) := dk_159 7 221 (dk_at dksL_law_15 20 rfl rfl)
theorem dL_law_524 : decode cL_law 524 = .ok (.iconst 0, 1) := dk_3 (dk_at dksL_law_15 23 rfl rfl)
theorem dL_law_525 : decode cL_law 525 = .ok (.ireturn, 1) := dk_172 (dk_at dksL_law_16 0 rfl rfl)
theorem dL_law_526 : decode cL_law 526 = .ok (.aload_n 1, 1) := dk_43 (dk_at dksL_law_16 1 rfl rfl)
theorem dL_law_527 : decode cL_law 527 = .ok (.invokevirtual 139, 3) := dk_182 0 139 (dk_at dksL_law_16 2 rfl rfl)
theorem dL_law_530 : decode cL_law 530 = .ok (.aload_n 2, 1) := dk_44 (dk_at dksL_law_16 5 rfl rfl)
theorem dL_law_531 : decode cL_law 531 = .ok (.invokevirtual 142, 3) := dk_182 0 142 (dk_at dksL_law_16 6 rfl rfl)
theorem dL_law_534 : decode cL_law 534 = .ok (.if_icmp .eq 2000, 3) := dk_159 7 208 (dk_at dksL_law_16 9 rfl rfl)
theorem dL_law_537 : decode cL_law 537 = .ok (.iconst 0, 1) := dk_3 (dk_at dksL_law_16 12 rfl rfl)
theorem dL_law_538 : decode cL_law 538 = .ok (.ireturn, 1) := dk_172 (dk_at dksL_law_16 13 rfl rfl)
theorem dL_law_539 : decode cL_law 539 = .ok (.aload_n 1, 1) := dk_43 (dk_at dksL_law_16 14 rfl rfl)
theorem dL_law_540 : decode cL_law 540 = .ok (.aload_n 0, 1) := dk_42 (dk_at dksL_law_16 15 rfl rfl)
theorem dL_law_541 : decode cL_law 541 = .ok (.iload 4, 2) := dk_21 4 (dk_at dksL_law_16 16 rfl rfl)
theorem dL_law_543 : decode cL_law 543 = .ok (.iconst 1, 1) := dk_4 (dk_at dksL_law_16 18 rfl rfl)
theorem dL_law_544 : decode cL_law 544 = .ok (.iadd, 1) := dk_96 (dk_at dksL_law_16 19 rfl rfl)
theorem dL_law_545 : decode cL_law 545 = .ok (.iaload, 1) := dk_46 (dk_at dksL_law_16 20 rfl rfl)
theorem dL_law_546 : decode cL_law 546 = .ok (.aload_n 3, 1) := dk_45 (dk_at dksL_law_16 21 rfl rfl)
theorem dL_law_547 : decode cL_law 547 = .ok (.invokestatic 143, 3) := dk_184 0 143 (dk_at dksL_law_17 0 rfl rfl)
theorem dL_law_550 : decode cL_law 550 = .ok (.istore 5, 2) := dk_54 5 (dk_at dksL_law_17 3 rfl rfl)
theorem dL_law_552 : decode cL_law 552 = .ok (.aload_n 2, 1) := dk_44 (dk_at dksL_law_17 5 rfl rfl)
theorem dL_law_553 : decode cL_law 553 = .ok (.aload_n 0, 1) := dk_42 (dk_at dksL_law_17 6 rfl rfl)
theorem dL_law_554 : decode cL_law 554 = .ok (.iload 4, 2) := dk_21 4 (dk_at dksL_law_17 7 rfl rfl)
theorem dL_law_556 : decode cL_law 556 = .ok (.iconst 1, 1) := dk_4 (dk_at dksL_law_17 9 rfl rfl)
theorem dL_law_557 : decode cL_law 557 = .ok (.iadd, 1) := dk_96 (dk_at dksL_law_17 10 rfl rfl)
theorem dL_law_558 : decode cL_law 558 = .ok (.iaload, 1) := dk_46 (dk_at dksL_law_17 11 rfl rfl)
theorem dL_law_559 : decode cL_law 559 = .ok (.invokevirtual 145, 3) := dk_182 0 145 (dk_at dksL_law_17 12 rfl rfl)
theorem dL_law_562 : decode cL_law 562 = .ok (.istore 6, 2) := dk_54 6 (dk_at dksL_law_17 15 rfl rfl)
theorem dL_law_564 : decode cL_law 564 = .ok (.aload_n 2, 1) := dk_44 (dk_at dksL_law_17 17 rfl rfl)
theorem dL_law_565 : decode cL_law 565 = .ok (.invokevirtual 122, 3) := dk_182 0 122 (dk_at dksL_law_17 18 rfl rfl)
theorem dL_law_568 : decode cL_law 568 = .ok (.iload 5, 2) := dk_21 5 (dk_at dksL_law_17 21 rfl rfl)
theorem dL_law_570 : decode cL_law 570 = .ok (.if_icmp .eq 5, 3) := dk_159 0 5 (dk_at dksL_law_18 0 rfl rfl)
theorem dL_law_573 : decode cL_law 573 = .ok (.iconst 0, 1) := dk_3 (dk_at dksL_law_18 3 rfl rfl)
theorem dL_law_574 : decode cL_law 574 = .ok (.ireturn, 1) := dk_172 (dk_at dksL_law_18 4 rfl rfl)
theorem dL_law_575 : decode cL_law 575 = .ok (.iload 5, 2) := dk_21 5 (dk_at dksL_law_18 5 rfl rfl)
theorem dL_law_577 : decode cL_law 577 = .ok (.ifCond .ne 15, 3) := dk_154 0 15 (dk_at dksL_law_18 7 rfl rfl)
theorem dL_law_580 : decode cL_law 580 = .ok (.aload_n 3, 1) := dk_45 (dk_at dksL_law_18 10 rfl rfl)
theorem dL_law_581 : decode cL_law 581 = .ok (.iconst 0, 1) := dk_3 (dk_at dksL_law_18 11 rfl rfl)
theorem dL_law_582 : decode cL_law 582 = .ok (.laload, 1) := dk_47 (dk_at dksL_law_18 12 rfl rfl)
theorem dL_law_583 : decode cL_law 583 = .ok (.iload 6, 2) := dk_21 6 (dk_at dksL_law_18 13 rfl rfl)
theorem dL_law_585 : decode cL_law 585 = .ok (.i2l, 1) := dk_133 (dk_at dksL_law_18 15 rfl rfl)
theorem dL_law_586 : decode cL_law 586 = .ok (.lcmp, 1) := dk_148 (dk_at dksL_law_18 16 rfl rfl)
theorem dL_law_587 : decode cL_law 587 = .ok (.ifCond .eq 5, 3) := dk_153 0 5 (dk_at dksL_law_18 17 rfl rfl)
theorem dL_law_590 : decode cL_law 590 = .ok (.iconst 0, 1) := dk_3 (dk_at dksL_law_18 20 rfl rfl)
theorem dL_law_591 : decode cL_law 591 = .ok (.ireturn, 1) := dk_172 (dk_at dksL_law_18 21 rfl rfl)
theorem dL_law_592 : decode cL_law 592 = .ok (.goto 1942, 3) := dk_167 7 150 (dk_at dksL_law_19 0 rfl rfl)
theorem dL_law_595 : decode cL_law 595 = .ok (.aload_n 1, 1) := dk_43 (dk_at dksL_law_19 3 rfl rfl)
theorem dL_law_596 : decode cL_law 596 = .ok (.aload_n 0, 1) := dk_42 (dk_at dksL_law_19 4 rfl rfl)
theorem dL_law_597 : decode cL_law 597 = .ok (.iload 4, 2) := dk_21 4 (dk_at dksL_law_19 5 rfl rfl)
theorem dL_law_599 : decode cL_law 599 = .ok (.iconst 1, 1) := dk_4 (dk_at dksL_law_19 7 rfl rfl)
theorem dL_law_600 : decode cL_law 600 = .ok (.iadd, 1) := dk_96 (dk_at dksL_law_19 8 rfl rfl)
theorem dL_law_601 : decode cL_law 601 = .ok (.iaload, 1) := dk_46 (dk_at dksL_law_19 9 rfl rfl)
theorem dL_law_602 : decode cL_law 602 = .ok (.aload_n 0, 1) := dk_42 (dk_at dksL_law_19 10 rfl rfl)
theorem dL_law_603 : decode cL_law 603 = .ok (.iload 4, 2) := dk_21 4 (dk_at dksL_law_19 11 rfl rfl)
theorem dL_law_605 : decode cL_law 605 = .ok (.iconst 2, 1) := dk_5 (dk_at dksL_law_19 13 rfl rfl)
theorem dL_law_606 : decode cL_law 606 = .ok (.iadd, 1) := dk_96 (dk_at dksL_law_19 14 rfl rfl)
theorem dL_law_607 : decode cL_law 607 = .ok (.iaload, 1) := dk_46 (dk_at dksL_law_19 15 rfl rfl)
theorem dL_law_608 : decode cL_law 608 = .ok (.aload_n 3, 1) := dk_45 (dk_at dksL_law_19 16 rfl rfl)
theorem dL_law_609 : decode cL_law 609 = .ok (.invokestatic 146, 3) := dk_184 0 146 (dk_at dksL_law_19 17 rfl rfl)
theorem dL_law_612 : decode cL_law 612 = .ok (.istore 5, 2) := dk_54 5 (dk_at dksL_law_19 20 rfl rfl)
theorem dL_law_614 : decode cL_law 614 = .ok (.aload_n 2, 1) := dk_44 (dk_at dksL_law_19 22 rfl rfl)
theorem dL_law_615 : decode cL_law 615 = .ok (.aload_n 0, 1) := dk_42 (dk_at dksL_law_19 23 rfl rfl)
theorem dL_law_616 : decode cL_law 616 = .ok (.iload 4, 2) := dk_21 4 (dk_at dksL_law_20 0 rfl rfl)
theorem dL_law_618 : decode cL_law 618 = .ok (.iconst 1, 1) := dk_4 (dk_at dksL_law_20 2 rfl rfl)
theorem dL_law_619 : decode cL_law 619 = .ok (.iadd, 1) := dk_96 (dk_at dksL_law_20 3 rfl rfl)
theorem dL_law_620 : decode cL_law 620 = .ok (.iaload, 1) := dk_46 (dk_at dksL_law_20 4 rfl rfl)
theorem dL_law_621 : decode cL_law 621 = .ok (.aload_n 0, 1) := dk_42 (dk_at dksL_law_20 5 rfl rfl)
theorem dL_law_622 : decode cL_law 622 = .ok (.iload 4, 2) := dk_21 4 (dk_at dksL_law_20 6 rfl rfl)
theorem dL_law_624 : decode cL_law 624 = .ok (.iconst 2, 1) := dk_5 (dk_at dksL_law_20 8 rfl rfl)
theorem dL_law_625 : decode cL_law 625 = .ok (.iadd, 1) := dk_96 (dk_at dksL_law_20 9 rfl rfl)
theorem dL_law_626 : decode cL_law 626 = .ok (.iaload, 1) := dk_46 (dk_at dksL_law_20 10 rfl rfl)
theorem dL_law_627 : decode cL_law 627 = .ok (.invokevirtual 149, 3) := dk_182 0 149 (dk_at dksL_law_20 11 rfl rfl)
theorem dL_law_630 : decode cL_law 630 = .ok (.istore 6, 2) := dk_54 6 (dk_at dksL_law_20 14 rfl rfl)
theorem dL_law_632 : decode cL_law 632 = .ok (.aload_n 2, 1) := dk_44 (dk_at dksL_law_20 16 rfl rfl)
theorem dL_law_633 : decode cL_law 633 = .ok (.invokevirtual 122, 3) := dk_182 0 122 (dk_at dksL_law_20 17 rfl rfl)
theorem dL_law_636 : decode cL_law 636 = .ok (.iload 5, 2) := dk_21 5 (dk_at dksL_law_20 20 rfl rfl)
theorem dL_law_638 : decode cL_law 638 = .ok (.if_icmp .eq 5, 3) := dk_159 0 5 (dk_at dksL_law_21 0 rfl rfl)
theorem dL_law_641 : decode cL_law 641 = .ok (.iconst 0, 1) := dk_3 (dk_at dksL_law_21 3 rfl rfl)
theorem dL_law_642 : decode cL_law 642 = .ok (.ireturn, 1) := dk_172 (dk_at dksL_law_21 4 rfl rfl)
theorem dL_law_643 : decode cL_law 643 = .ok (.iload 5, 2) := dk_21 5 (dk_at dksL_law_21 5 rfl rfl)
theorem dL_law_645 : decode cL_law 645 = .ok (.ifCond .ne 15, 3) := dk_154 0 15 (dk_at dksL_law_21 7 rfl rfl)
theorem dL_law_648 : decode cL_law 648 = .ok (.aload_n 3, 1) := dk_45 (dk_at dksL_law_21 10 rfl rfl)
theorem dL_law_649 : decode cL_law 649 = .ok (.iconst 0, 1) := dk_3 (dk_at dksL_law_21 11 rfl rfl)
theorem dL_law_650 : decode cL_law 650 = .ok (.laload, 1) := dk_47 (dk_at dksL_law_21 12 rfl rfl)
theorem dL_law_651 : decode cL_law 651 = .ok (.iload 6, 2) := dk_21 6 (dk_at dksL_law_21 13 rfl rfl)
theorem dL_law_653 : decode cL_law 653 = .ok (.i2l, 1) := dk_133 (dk_at dksL_law_21 15 rfl rfl)
theorem dL_law_654 : decode cL_law 654 = .ok (.lcmp, 1) := dk_148 (dk_at dksL_law_21 16 rfl rfl)
theorem dL_law_655 : decode cL_law 655 = .ok (.ifCond .eq 5, 3) := dk_153 0 5 (dk_at dksL_law_21 17 rfl rfl)
theorem dL_law_658 : decode cL_law 658 = .ok (.iconst 0, 1) := dk_3 (dk_at dksL_law_21 20 rfl rfl)
theorem dL_law_659 : decode cL_law 659 = .ok (.ireturn, 1) := dk_172 (dk_at dksL_law_21 21 rfl rfl)
theorem dL_law_660 : decode cL_law 660 = .ok (.goto 1874, 3) := dk_167 7 82 (dk_at dksL_law_22 0 rfl rfl)
theorem dL_law_663 : decode cL_law 663 = .ok (.aload_n 1, 1) := dk_43 (dk_at dksL_law_22 3 rfl rfl)
theorem dL_law_664 : decode cL_law 664 = .ok (.aload_n 0, 1) := dk_42 (dk_at dksL_law_22 4 rfl rfl)
theorem dL_law_665 : decode cL_law 665 = .ok (.iload 4, 2) := dk_21 4 (dk_at dksL_law_22 5 rfl rfl)
theorem dL_law_667 : decode cL_law 667 = .ok (.iconst 1, 1) := dk_4 (dk_at dksL_law_22 7 rfl rfl)
theorem dL_law_668 : decode cL_law 668 = .ok (.iadd, 1) := dk_96 (dk_at dksL_law_22 8 rfl rfl)
theorem dL_law_669 : decode cL_law 669 = .ok (.iaload, 1) := dk_46 (dk_at dksL_law_22 9 rfl rfl)
theorem dL_law_670 : decode cL_law 670 = .ok (.aload_n 0, 1) := dk_42 (dk_at dksL_law_22 10 rfl rfl)
theorem dL_law_671 : decode cL_law 671 = .ok (.iload 4, 2) := dk_21 4 (dk_at dksL_law_22 11 rfl rfl)
theorem dL_law_673 : decode cL_law 673 = .ok (.iconst 2, 1) := dk_5 (dk_at dksL_law_22 13 rfl rfl)
theorem dL_law_674 : decode cL_law 674 = .ok (.iadd, 1) := dk_96 (dk_at dksL_law_22 14 rfl rfl)
theorem dL_law_675 : decode cL_law 675 = .ok (.iaload, 1) := dk_46 (dk_at dksL_law_22 15 rfl rfl)
theorem dL_law_676 : decode cL_law 676 = .ok (.aload_n 3, 1) := dk_45 (dk_at dksL_law_22 16 rfl rfl)
theorem dL_law_677 : decode cL_law 677 = .ok (.invokestatic 150, 3) := dk_184 0 150 (dk_at dksL_law_22 17 rfl rfl)
theorem dL_law_680 : decode cL_law 680 = .ok (.istore 5, 2) := dk_54 5 (dk_at dksL_law_22 20 rfl rfl)
theorem dL_law_682 : decode cL_law 682 = .ok (.aload_n 2, 1) := dk_44 (dk_at dksL_law_22 22 rfl rfl)
theorem dL_law_683 : decode cL_law 683 = .ok (.aload_n 0, 1) := dk_42 (dk_at dksL_law_22 23 rfl rfl)
theorem dL_law_684 : decode cL_law 684 = .ok (.iload 4, 2) := dk_21 4 (dk_at dksL_law_23 0 rfl rfl)
theorem dL_law_686 : decode cL_law 686 = .ok (.iconst 1, 1) := dk_4 (dk_at dksL_law_23 2 rfl rfl)
theorem dL_law_687 : decode cL_law 687 = .ok (.iadd, 1) := dk_96 (dk_at dksL_law_23 3 rfl rfl)
theorem dL_law_688 : decode cL_law 688 = .ok (.iaload, 1) := dk_46 (dk_at dksL_law_23 4 rfl rfl)
theorem dL_law_689 : decode cL_law 689 = .ok (.aload_n 0, 1) := dk_42 (dk_at dksL_law_23 5 rfl rfl)
theorem dL_law_690 : decode cL_law 690 = .ok (.iload 4, 2) := dk_21 4 (dk_at dksL_law_23 6 rfl rfl)
theorem dL_law_692 : decode cL_law 692 = .ok (.iconst 2, 1) := dk_5 (dk_at dksL_law_23 8 rfl rfl)
theorem dL_law_693 : decode cL_law 693 = .ok (.iadd, 1) := dk_96 (dk_at dksL_law_23 9 rfl rfl)
theorem dL_law_694 : decode cL_law 694 = .ok (.iaload, 1) := dk_46 (dk_at dksL_law_23 10 rfl rfl)
theorem dL_law_695 : decode cL_law 695 = .ok (.invokevirtual 152, 3) := dk_182 0 152 (dk_at dksL_law_23 11 rfl rfl)
theorem dL_law_698 : decode cL_law 698 = .ok (.istore 6, 2) := dk_54 6 (dk_at dksL_law_23 14 rfl rfl)
theorem dL_law_700 : decode cL_law 700 = .ok (.aload_n 2, 1) := dk_44 (dk_at dksL_law_23 16 rfl rfl)
theorem dL_law_701 : decode cL_law 701 = .ok (.invokevirtual 122, 3) := dk_182 0 122 (dk_at dksL_law_23 17 rfl rfl)
theorem dL_law_704 : decode cL_law 704 = .ok (.iload 5, 2) := dk_21 5 (dk_at dksL_law_23 20 rfl rfl)
theorem dL_law_706 : decode cL_law 706 = .ok (.if_icmp .eq 5, 3) := dk_159 0 5 (dk_at dksL_law_24 0 rfl rfl)
theorem dL_law_709 : decode cL_law 709 = .ok (.iconst 0, 1) := dk_3 (dk_at dksL_law_24 3 rfl rfl)
theorem dL_law_710 : decode cL_law 710 = .ok (.ireturn, 1) := dk_172 (dk_at dksL_law_24 4 rfl rfl)
theorem dL_law_711 : decode cL_law 711 = .ok (.iload 5, 2) := dk_21 5 (dk_at dksL_law_24 5 rfl rfl)
theorem dL_law_713 : decode cL_law 713 = .ok (.ifCond .ne 15, 3) := dk_154 0 15 (dk_at dksL_law_24 7 rfl rfl)
theorem dL_law_716 : decode cL_law 716 = .ok (.aload_n 3, 1) := dk_45 (dk_at dksL_law_24 10 rfl rfl)
theorem dL_law_717 : decode cL_law 717 = .ok (.iconst 0, 1) := dk_3 (dk_at dksL_law_24 11 rfl rfl)
theorem dL_law_718 : decode cL_law 718 = .ok (.laload, 1) := dk_47 (dk_at dksL_law_24 12 rfl rfl)
theorem dL_law_719 : decode cL_law 719 = .ok (.iload 6, 2) := dk_21 6 (dk_at dksL_law_24 13 rfl rfl)
theorem dL_law_721 : decode cL_law 721 = .ok (.i2l, 1) := dk_133 (dk_at dksL_law_24 15 rfl rfl)
theorem dL_law_722 : decode cL_law 722 = .ok (.lcmp, 1) := dk_148 (dk_at dksL_law_24 16 rfl rfl)
theorem dL_law_723 : decode cL_law 723 = .ok (.ifCond .eq 5, 3) := dk_153 0 5 (dk_at dksL_law_24 17 rfl rfl)
theorem dL_law_726 : decode cL_law 726 = .ok (.iconst 0, 1) := dk_3 (dk_at dksL_law_24 20 rfl rfl)
theorem dL_law_727 : decode cL_law 727 = .ok (.ireturn, 1) := dk_172 (dk_at dksL_law_24 21 rfl rfl)
theorem dL_law_728 : decode cL_law 728 = .ok (.goto 1806, 3) := dk_167 7 14 (dk_at dksL_law_25 0 rfl rfl)
theorem dL_law_731 : decode cL_law 731 = .ok (.aload_n 1, 1) := dk_43 (dk_at dksL_law_25 3 rfl rfl)
theorem dL_law_732 : decode cL_law 732 = .ok (.aload_n 0, 1) := dk_42 (dk_at dksL_law_25 4 rfl rfl)
theorem dL_law_733 : decode cL_law 733 = .ok (.iload 4, 2) := dk_21 4 (dk_at dksL_law_25 5 rfl rfl)
theorem dL_law_735 : decode cL_law 735 = .ok (.iconst 1, 1) := dk_4 (dk_at dksL_law_25 7 rfl rfl)
theorem dL_law_736 : decode cL_law 736 = .ok (.iadd, 1) := dk_96 (dk_at dksL_law_25 8 rfl rfl)
theorem dL_law_737 : decode cL_law 737 = .ok (.iaload, 1) := dk_46 (dk_at dksL_law_25 9 rfl rfl)
theorem dL_law_738 : decode cL_law 738 = .ok (.aload_n 0, 1) := dk_42 (dk_at dksL_law_25 10 rfl rfl)
theorem dL_law_739 : decode cL_law 739 = .ok (.iload 4, 2) := dk_21 4 (dk_at dksL_law_25 11 rfl rfl)
theorem dL_law_741 : decode cL_law 741 = .ok (.iconst 2, 1) := dk_5 (dk_at dksL_law_25 13 rfl rfl)
theorem dL_law_742 : decode cL_law 742 = .ok (.iadd, 1) := dk_96 (dk_at dksL_law_25 14 rfl rfl)
theorem dL_law_743 : decode cL_law 743 = .ok (.iaload, 1) := dk_46 (dk_at dksL_law_25 15 rfl rfl)
theorem dL_law_744 : decode cL_law 744 = .ok (.aload_n 3, 1) := dk_45 (dk_at dksL_law_25 16 rfl rfl)
theorem dL_law_745 : decode cL_law 745 = .ok (.invokestatic 153, 3) := dk_184 0 153 (dk_at dksL_law_25 17 rfl rfl)
theorem dL_law_748 : decode cL_law 748 = .ok (.istore 5, 2) := dk_54 5 (dk_at dksL_law_25 20 rfl rfl)
theorem dL_law_750 : decode cL_law 750 = .ok (.aload_n 2, 1) := dk_44 (dk_at dksL_law_25 22 rfl rfl)
theorem dL_law_751 : decode cL_law 751 = .ok (.aload_n 0, 1) := dk_42 (dk_at dksL_law_25 23 rfl rfl)
theorem dL_law_752 : decode cL_law 752 = .ok (.iload 4, 2) := dk_21 4 (dk_at dksL_law_26 0 rfl rfl)
theorem dL_law_754 : decode cL_law 754 = .ok (.iconst 1, 1) := dk_4 (dk_at dksL_law_26 2 rfl rfl)
theorem dL_law_755 : decode cL_law 755 = .ok (.iadd, 1) := dk_96 (dk_at dksL_law_26 3 rfl rfl)
theorem dL_law_756 : decode cL_law 756 = .ok (.iaload, 1) := dk_46 (dk_at dksL_law_26 4 rfl rfl)
theorem dL_law_757 : decode cL_law 757 = .ok (.aload_n 0, 1) := dk_42 (dk_at dksL_law_26 5 rfl rfl)
theorem dL_law_758 : decode cL_law 758 = .ok (.iload 4, 2) := dk_21 4 (dk_at dksL_law_26 6 rfl rfl)
theorem dL_law_760 : decode cL_law 760 = .ok (.iconst 2, 1) := dk_5 (dk_at dksL_law_26 8 rfl rfl)
theorem dL_law_761 : decode cL_law 761 = .ok (.iadd, 1) := dk_96 (dk_at dksL_law_26 9 rfl rfl)
theorem dL_law_762 : decode cL_law 762 = .ok (.iaload, 1) := dk_46 (dk_at dksL_law_26 10 rfl rfl)
theorem dL_law_763 : decode cL_law 763 = .ok (.invokevirtual 155, 3) := dk_182 0 155 (dk_at dksL_law_26 11 rfl rfl)
theorem dL_law_766 : decode cL_law 766 = .ok (.istore 6, 2) := dk_54 6 (dk_at dksL_law_26 14 rfl rfl)
theorem dL_law_768 : decode cL_law 768 = .ok (.aload_n 2, 1) := dk_44 (dk_at dksL_law_26 16 rfl rfl)
theorem dL_law_769 : decode cL_law 769 = .ok (.invokevirtual 122, 3) := dk_182 0 122 (dk_at dksL_law_26 17 rfl rfl)
theorem dL_law_772 : decode cL_law 772 = .ok (.iload 5, 2) := dk_21 5 (dk_at dksL_law_26 20 rfl rfl)
theorem dL_law_774 : decode cL_law 774 = .ok (.if_icmp .eq 5, 3) := dk_159 0 5 (dk_at dksL_law_27 0 rfl rfl)
theorem dL_law_777 : decode cL_law 777 = .ok (.iconst 0, 1) := dk_3 (dk_at dksL_law_27 3 rfl rfl)
theorem dL_law_778 : decode cL_law 778 = .ok (.ireturn, 1) := dk_172 (dk_at dksL_law_27 4 rfl rfl)
theorem dL_law_779 : decode cL_law 779 = .ok (.iload 5, 2) := dk_21 5 (dk_at dksL_law_27 5 rfl rfl)
theorem dL_law_781 : decode cL_law 781 = .ok (.ifCond .ne 15, 3) := dk_154 0 15 (dk_at dksL_law_27 7 rfl rfl)
theorem dL_law_784 : decode cL_law 784 = .ok (.aload_n 3, 1) := dk_45 (dk_at dksL_law_27 10 rfl rfl)
theorem dL_law_785 : decode cL_law 785 = .ok (.iconst 0, 1) := dk_3 (dk_at dksL_law_27 11 rfl rfl)
theorem dL_law_786 : decode cL_law 786 = .ok (.laload, 1) := dk_47 (dk_at dksL_law_27 12 rfl rfl)
theorem dL_law_787 : decode cL_law 787 = .ok (.iload 6, 2) := dk_21 6 (dk_at dksL_law_27 13 rfl rfl)
theorem dL_law_789 : decode cL_law 789 = .ok (.i2l, 1) := dk_133 (dk_at dksL_law_27 15 rfl rfl)
theorem dL_law_790 : decode cL_law 790 = .ok (.lcmp, 1) := dk_148 (dk_at dksL_law_27 16 rfl rfl)
theorem dL_law_791 : decode cL_law 791 = .ok (.ifCond .eq 5, 3) := dk_153 0 5 (dk_at dksL_law_27 17 rfl rfl)
theorem dL_law_794 : decode cL_law 794 = .ok (.iconst 0, 1) := dk_3 (dk_at dksL_law_27 20 rfl rfl)
theorem dL_law_795 : decode cL_law 795 = .ok (.ireturn, 1) := dk_172 (dk_at dksL_law_27 21 rfl rfl)
theorem dL_law_796 : decode cL_law 796 = .ok (.goto 1738, 3) := dk_167 6 202 (dk_at dksL_law_28 0 rfl rfl)
theorem dL_law_799 : decode cL_law 799 = .ok (.aload_n 1, 1) := dk_43 (dk_at dksL_law_28 3 rfl rfl)
theorem dL_law_800 : decode cL_law 800 = .ok (.aload_n 0, 1) := dk_42 (dk_at dksL_law_28 4 rfl rfl)
theorem dL_law_801 : decode cL_law 801 = .ok (.iload 4, 2) := dk_21 4 (dk_at dksL_law_28 5 rfl rfl)
theorem dL_law_803 : decode cL_law 803 = .ok (.iconst 1, 1) := dk_4 (dk_at dksL_law_28 7 rfl rfl)
theorem dL_law_804 : decode cL_law 804 = .ok (.iadd, 1) := dk_96 (dk_at dksL_law_28 8 rfl rfl)
theorem dL_law_805 : decode cL_law 805 = .ok (.iaload, 1) := dk_46 (dk_at dksL_law_28 9 rfl rfl)
theorem dL_law_806 : decode cL_law 806 = .ok (.aload_n 0, 1) := dk_42 (dk_at dksL_law_28 10 rfl rfl)
theorem dL_law_807 : decode cL_law 807 = .ok (.iload 4, 2) := dk_21 4 (dk_at dksL_law_28 11 rfl rfl)
theorem dL_law_809 : decode cL_law 809 = .ok (.iconst 2, 1) := dk_5 (dk_at dksL_law_28 13 rfl rfl)
theorem dL_law_810 : decode cL_law 810 = .ok (.iadd, 1) := dk_96 (dk_at dksL_law_28 14 rfl rfl)
theorem dL_law_811 : decode cL_law 811 = .ok (.iaload, 1) := dk_46 (dk_at dksL_law_28 15 rfl rfl)
theorem dL_law_812 : decode cL_law 812 = .ok (.aload_n 3, 1) := dk_45 (dk_at dksL_law_28 16 rfl rfl)
theorem dL_law_813 : decode cL_law 813 = .ok (.invokestatic 156, 3) := dk_184 0 156 (dk_at dksL_law_28 17 rfl rfl)
theorem dL_law_816 : decode cL_law 816 = .ok (.istore 5, 2) := dk_54 5 (dk_at dksL_law_28 20 rfl rfl)
theorem dL_law_818 : decode cL_law 818 = .ok (.aload_n 2, 1) := dk_44 (dk_at dksL_law_28 22 rfl rfl)
theorem dL_law_819 : decode cL_law 819 = .ok (.aload_n 0, 1) := dk_42 (dk_at dksL_law_28 23 rfl rfl)
theorem dL_law_820 : decode cL_law 820 = .ok (.iload 4, 2) := dk_21 4 (dk_at dksL_law_29 0 rfl rfl)
theorem dL_law_822 : decode cL_law 822 = .ok (.iconst 1, 1) := dk_4 (dk_at dksL_law_29 2 rfl rfl)
theorem dL_law_823 : decode cL_law 823 = .ok (.iadd, 1) := dk_96 (dk_at dksL_law_29 3 rfl rfl)
theorem dL_law_824 : decode cL_law 824 = .ok (.iaload, 1) := dk_46 (dk_at dksL_law_29 4 rfl rfl)
theorem dL_law_825 : decode cL_law 825 = .ok (.aload_n 0, 1) := dk_42 (dk_at dksL_law_29 5 rfl rfl)
theorem dL_law_826 : decode cL_law 826 = .ok (.iload 4, 2) := dk_21 4 (dk_at dksL_law_29 6 rfl rfl)
theorem dL_law_828 : decode cL_law 828 = .ok (.iconst 2, 1) := dk_5 (dk_at dksL_law_29 8 rfl rfl)
theorem dL_law_829 : decode cL_law 829 = .ok (.iadd, 1) := dk_96 (dk_at dksL_law_29 9 rfl rfl)
theorem dL_law_830 : decode cL_law 830 = .ok (.iaload, 1) := dk_46 (dk_at dksL_law_29 10 rfl rfl)
theorem dL_law_831 : decode cL_law 831 = .ok (.invokevirtual 158, 3) := dk_182 0 158 (dk_at dksL_law_29 11 rfl rfl)
theorem dL_law_834 : decode cL_law 834 = .ok (.istore 6, 2) := dk_54 6 (dk_at dksL_law_29 14 rfl rfl)
theorem dL_law_836 : decode cL_law 836 = .ok (.aload_n 2, 1) := dk_44 (dk_at dksL_law_29 16 rfl rfl)
theorem dL_law_837 : decode cL_law 837 = .ok (.invokevirtual 122, 3) := dk_182 0 122 (dk_at dksL_law_29 17 rfl rfl)
theorem dL_law_840 : decode cL_law 840 = .ok (.iload 5, 2) := dk_21 5 (dk_at dksL_law_29 20 rfl rfl)
theorem dL_law_842 : decode cL_law 842 = .ok (.if_icmp .eq 5, 3) := dk_159 0 5 (dk_at dksL_law_30 0 rfl rfl)
theorem dL_law_845 : decode cL_law 845 = .ok (.iconst 0, 1) := dk_3 (dk_at dksL_law_30 3 rfl rfl)
theorem dL_law_846 : decode cL_law 846 = .ok (.ireturn, 1) := dk_172 (dk_at dksL_law_30 4 rfl rfl)
theorem dL_law_847 : decode cL_law 847 = .ok (.iload 5, 2) := dk_21 5 (dk_at dksL_law_30 5 rfl rfl)
theorem dL_law_849 : decode cL_law 849 = .ok (.ifCond .ne 15, 3) := dk_154 0 15 (dk_at dksL_law_30 7 rfl rfl)
theorem dL_law_852 : decode cL_law 852 = .ok (.aload_n 3, 1) := dk_45 (dk_at dksL_law_30 10 rfl rfl)
theorem dL_law_853 : decode cL_law 853 = .ok (.iconst 0, 1) := dk_3 (dk_at dksL_law_30 11 rfl rfl)
theorem dL_law_854 : decode cL_law 854 = .ok (.laload, 1) := dk_47 (dk_at dksL_law_30 12 rfl rfl)
theorem dL_law_855 : decode cL_law 855 = .ok (.iload 6, 2) := dk_21 6 (dk_at dksL_law_30 13 rfl rfl)
theorem dL_law_857 : decode cL_law 857 = .ok (.i2l, 1) := dk_133 (dk_at dksL_law_30 15 rfl rfl)
theorem dL_law_858 : decode cL_law 858 = .ok (.lcmp, 1) := dk_148 (dk_at dksL_law_30 16 rfl rfl)
theorem dL_law_859 : decode cL_law 859 = .ok (.ifCond .eq 5, 3) := dk_153 0 5 (dk_at dksL_law_30 17 rfl rfl)
theorem dL_law_862 : decode cL_law 862 = .ok (.iconst 0, 1) := dk_3 (dk_at dksL_law_30 20 rfl rfl)
theorem dL_law_863 : decode cL_law 863 = .ok (.ireturn, 1) := dk_172 (dk_at dksL_law_30 21 rfl rfl)
theorem dL_law_864 : decode cL_law 864 = .ok (.goto 1670, 3) := dk_167 6 134 (dk_at dksL_law_31 0 rfl rfl)
theorem dL_law_867 : decode cL_law 867 = .ok (.aload_n 1, 1) := dk_43 (dk_at dksL_law_31 3 rfl rfl)
theorem dL_law_868 : decode cL_law 868 = .ok (.aload_n 0, 1) := dk_42 (dk_at dksL_law_31 4 rfl rfl)
theorem dL_law_869 : decode cL_law 869 = .ok (.iload 4, 2) := dk_21 4 (dk_at dksL_law_31 5 rfl rfl)
theorem dL_law_871 : decode cL_law 871 = .ok (.iconst 1, 1) := dk_4 (dk_at dksL_law_31 7 rfl rfl)
theorem dL_law_872 : decode cL_law 872 = .ok (.iadd, 1) := dk_96 (dk_at dksL_law_31 8 rfl rfl)
theorem dL_law_873 : decode cL_law 873 = .ok (.iaload, 1) := dk_46 (dk_at dksL_law_31 9 rfl rfl)
theorem dL_law_874 : decode cL_law 874 = .ok (.aload_n 0, 1) := dk_42 (dk_at dksL_law_31 10 rfl rfl)
theorem dL_law_875 : decode cL_law 875 = .ok (.iload 4, 2) := dk_21 4 (dk_at dksL_law_31 11 rfl rfl)
theorem dL_law_877 : decode cL_law 877 = .ok (.iconst 2, 1) := dk_5 (dk_at dksL_law_31 13 rfl rfl)
theorem dL_law_878 : decode cL_law 878 = .ok (.iadd, 1) := dk_96 (dk_at dksL_law_31 14 rfl rfl)
theorem dL_law_879 : decode cL_law 879 = .ok (.iaload, 1) := dk_46 (dk_at dksL_law_31 15 rfl rfl)
theorem dL_law_880 : decode cL_law 880 = .ok (.aload_n 3, 1) := dk_45 (dk_at dksL_law_31 16 rfl rfl)
theorem dL_law_881 : decode cL_law 881 = .ok (.invokestatic 159, 3) := dk_184 0 159 (dk_at dksL_law_31 17 rfl rfl)
theorem dL_law_884 : decode cL_law 884 = .ok (.istore 5, 2) := dk_54 5 (dk_at dksL_law_31 20 rfl rfl)
theorem dL_law_886 : decode cL_law 886 = .ok (.aload_n 2, 1) := dk_44 (dk_at dksL_law_31 22 rfl rfl)
theorem dL_law_887 : decode cL_law 887 = .ok (.aload_n 0, 1) := dk_42 (dk_at dksL_law_31 23 rfl rfl)
theorem dL_law_888 : decode cL_law 888 = .ok (.iload 4, 2) := dk_21 4 (dk_at dksL_law_32 0 rfl rfl)
theorem dL_law_890 : decode cL_law 890 = .ok (.iconst 1, 1) := dk_4 (dk_at dksL_law_32 2 rfl rfl)
theorem dL_law_891 : decode cL_law 891 = .ok (.iadd, 1) := dk_96 (dk_at dksL_law_32 3 rfl rfl)
theorem dL_law_892 : decode cL_law 892 = .ok (.iaload, 1) := dk_46 (dk_at dksL_law_32 4 rfl rfl)
theorem dL_law_893 : decode cL_law 893 = .ok (.aload_n 0, 1) := dk_42 (dk_at dksL_law_32 5 rfl rfl)
theorem dL_law_894 : decode cL_law 894 = .ok (.iload 4, 2) := dk_21 4 (dk_at dksL_law_32 6 rfl rfl)
theorem dL_law_896 : decode cL_law 896 = .ok (.iconst 2, 1) := dk_5 (dk_at dksL_law_32 8 rfl rfl)
theorem dL_law_897 : decode cL_law 897 = .ok (.iadd, 1) := dk_96 (dk_at dksL_law_32 9 rfl rfl)
theorem dL_law_898 : decode cL_law 898 = .ok (.iaload, 1) := dk_46 (dk_at dksL_law_32 10 rfl rfl)
theorem dL_law_899 : decode cL_law 899 = .ok (.invokevirtual 161, 3) := dk_182 0 161 (dk_at dksL_law_32 11 rfl rfl)
theorem dL_law_902 : decode cL_law 902 = .ok (.istore 6, 2) := dk_54 6 (dk_at dksL_law_32 14 rfl rfl)
theorem dL_law_904 : decode cL_law 904 = .ok (.aload_n 2, 1) := dk_44 (dk_at dksL_law_32 16 rfl rfl)
theorem dL_law_905 : decode cL_law 905 = .ok (.invokevirtual 122, 3) := dk_182 0 122 (dk_at dksL_law_32 17 rfl rfl)
theorem dL_law_908 : decode cL_law 908 = .ok (.iload 5, 2) := dk_21 5 (dk_at dksL_law_32 20 rfl rfl)
theorem dL_law_910 : decode cL_law 910 = .ok (.if_icmp .eq 5, 3) := dk_159 0 5 (dk_at dksL_law_33 0 rfl rfl)
theorem dL_law_913 : decode cL_law 913 = .ok (.iconst 0, 1) := dk_3 (dk_at dksL_law_33 3 rfl rfl)
theorem dL_law_914 : decode cL_law 914 = .ok (.ireturn, 1) := dk_172 (dk_at dksL_law_33 4 rfl rfl)
theorem dL_law_915 : decode cL_law 915 = .ok (.iload 5, 2) := dk_21 5 (dk_at dksL_law_33 5 rfl rfl)
theorem dL_law_917 : decode cL_law 917 = .ok (.ifCond .ne 15, 3) := dk_154 0 15 (dk_at dksL_law_33 7 rfl rfl)
theorem dL_law_920 : decode cL_law 920 = .ok (.aload_n 3, 1) := dk_45 (dk_at dksL_law_33 10 rfl rfl)
theorem dL_law_921 : decode cL_law 921 = .ok (.iconst 0, 1) := dk_3 (dk_at dksL_law_33 11 rfl rfl)
theorem dL_law_922 : decode cL_law 922 = .ok (.laload, 1) := dk_47 (dk_at dksL_law_33 12 rfl rfl)
theorem dL_law_923 : decode cL_law 923 = .ok (.iload 6, 2) := dk_21 6 (dk_at dksL_law_33 13 rfl rfl)
theorem dL_law_925 : decode cL_law 925 = .ok (.i2l, 1) := dk_133 (dk_at dksL_law_33 15 rfl rfl)
theorem dL_law_926 : decode cL_law 926 = .ok (.lcmp, 1) := dk_148 (dk_at dksL_law_33 16 rfl rfl)
theorem dL_law_927 : decode cL_law 927 = .ok (.ifCond .eq 5, 3) := dk_153 0 5 (dk_at dksL_law_33 17 rfl rfl)
theorem dL_law_930 : decode cL_law 930 = .ok (.iconst 0, 1) := dk_3 (dk_at dksL_law_33 20 rfl rfl)
theorem dL_law_931 : decode cL_law 931 = .ok (.ireturn, 1) := dk_172 (dk_at dksL_law_33 21 rfl rfl)
theorem dL_law_932 : decode cL_law 932 = .ok (.goto 1602, 3) := dk_167 6 66 (dk_at dksL_law_34 0 rfl rfl)
theorem dL_law_935 : decode cL_law 935 = .ok (.aload_n 1, 1) := dk_43 (dk_at dksL_law_34 3 rfl rfl)
theorem dL_law_936 : decode cL_law 936 = .ok (.aload_n 0, 1) := dk_42 (dk_at dksL_law_34 4 rfl rfl)
theorem dL_law_937 : decode cL_law 937 = .ok (.iload 4, 2) := dk_21 4 (dk_at dksL_law_34 5 rfl rfl)
theorem dL_law_939 : decode cL_law 939 = .ok (.iconst 1, 1) := dk_4 (dk_at dksL_law_34 7 rfl rfl)
theorem dL_law_940 : decode cL_law 940 = .ok (.iadd, 1) := dk_96 (dk_at dksL_law_34 8 rfl rfl)
theorem dL_law_941 : decode cL_law 941 = .ok (.iaload, 1) := dk_46 (dk_at dksL_law_34 9 rfl rfl)
theorem dL_law_942 : decode cL_law 942 = .ok (.aload_n 0, 1) := dk_42 (dk_at dksL_law_34 10 rfl rfl)
theorem dL_law_943 : decode cL_law 943 = .ok (.iload 4, 2) := dk_21 4 (dk_at dksL_law_34 11 rfl rfl)
theorem dL_law_945 : decode cL_law 945 = .ok (.iconst 2, 1) := dk_5 (dk_at dksL_law_34 13 rfl rfl)
theorem dL_law_946 : decode cL_law 946 = .ok (.iadd, 1) := dk_96 (dk_at dksL_law_34 14 rfl rfl)
theorem dL_law_947 : decode cL_law 947 = .ok (.iaload, 1) := dk_46 (dk_at dksL_law_34 15 rfl rfl)
theorem dL_law_948 : decode cL_law 948 = .ok (.aload_n 3, 1) := dk_45 (dk_at dksL_law_34 16 rfl rfl)
theorem dL_law_949 : decode cL_law 949 = .ok (.invokestatic 162, 3) := dk_184 0 162 (dk_at dksL_law_34 17 rfl rfl)
theorem dL_law_952 : decode cL_law 952 = .ok (.istore 5, 2) := dk_54 5 (dk_at dksL_law_34 20 rfl rfl)
theorem dL_law_954 : decode cL_law 954 = .ok (.aload_n 2, 1) := dk_44 (dk_at dksL_law_34 22 rfl rfl)
theorem dL_law_955 : decode cL_law 955 = .ok (.aload_n 0, 1) := dk_42 (dk_at dksL_law_34 23 rfl rfl)
theorem dL_law_956 : decode cL_law 956 = .ok (.iload 4, 2) := dk_21 4 (dk_at dksL_law_35 0 rfl rfl)
theorem dL_law_958 : decode cL_law 958 = .ok (.iconst 1, 1) := dk_4 (dk_at dksL_law_35 2 rfl rfl)
theorem dL_law_959 : decode cL_law 959 = .ok (.iadd, 1) := dk_96 (dk_at dksL_law_35 3 rfl rfl)
theorem dL_law_960 : decode cL_law 960 = .ok (.iaload, 1) := dk_46 (dk_at dksL_law_35 4 rfl rfl)
theorem dL_law_961 : decode cL_law 961 = .ok (.aload_n 0, 1) := dk_42 (dk_at dksL_law_35 5 rfl rfl)
theorem dL_law_962 : decode cL_law 962 = .ok (.iload 4, 2) := dk_21 4 (dk_at dksL_law_35 6 rfl rfl)
theorem dL_law_964 : decode cL_law 964 = .ok (.iconst 2, 1) := dk_5 (dk_at dksL_law_35 8 rfl rfl)
theorem dL_law_965 : decode cL_law 965 = .ok (.iadd, 1) := dk_96 (dk_at dksL_law_35 9 rfl rfl)
theorem dL_law_966 : decode cL_law 966 = .ok (.iaload, 1) := dk_46 (dk_at dksL_law_35 10 rfl rfl)
theorem dL_law_967 : decode cL_law 967 = .ok (.invokevirtual 164, 3) := dk_182 0 164 (dk_at dksL_law_35 11 rfl rfl)
theorem dL_law_970 : decode cL_law 970 = .ok (.istore 6, 2) := dk_54 6 (dk_at dksL_law_35 14 rfl rfl)
theorem dL_law_972 : decode cL_law 972 = .ok (.aload_n 2, 1) := dk_44 (dk_at dksL_law_35 16 rfl rfl)
theorem dL_law_973 : decode cL_law 973 = .ok (.invokevirtual 122, 3) := dk_182 0 122 (dk_at dksL_law_35 17 rfl rfl)
theorem dL_law_976 : decode cL_law 976 = .ok (.iload 5, 2) := dk_21 5 (dk_at dksL_law_35 20 rfl rfl)
theorem dL_law_978 : decode cL_law 978 = .ok (.if_icmp .eq 5, 3) := dk_159 0 5 (dk_at dksL_law_36 0 rfl rfl)
theorem dL_law_981 : decode cL_law 981 = .ok (.iconst 0, 1) := dk_3 (dk_at dksL_law_36 3 rfl rfl)
theorem dL_law_982 : decode cL_law 982 = .ok (.ireturn, 1) := dk_172 (dk_at dksL_law_36 4 rfl rfl)
theorem dL_law_983 : decode cL_law 983 = .ok (.iload 5, 2) := dk_21 5 (dk_at dksL_law_36 5 rfl rfl)
theorem dL_law_985 : decode cL_law 985 = .ok (.ifCond .ne 15, 3) := dk_154 0 15 (dk_at dksL_law_36 7 rfl rfl)
theorem dL_law_988 : decode cL_law 988 = .ok (.aload_n 3, 1) := dk_45 (dk_at dksL_law_36 10 rfl rfl)
theorem dL_law_989 : decode cL_law 989 = .ok (.iconst 0, 1) := dk_3 (dk_at dksL_law_36 11 rfl rfl)
theorem dL_law_990 : decode cL_law 990 = .ok (.laload, 1) := dk_47 (dk_at dksL_law_36 12 rfl rfl)
theorem dL_law_991 : decode cL_law 991 = .ok (.iload 6, 2) := dk_21 6 (dk_at dksL_law_36 13 rfl rfl)
theorem dL_law_993 : decode cL_law 993 = .ok (.i2l, 1) := dk_133 (dk_at dksL_law_36 15 rfl rfl)
theorem dL_law_994 : decode cL_law 994 = .ok (.lcmp, 1) := dk_148 (dk_at dksL_law_36 16 rfl rfl)
theorem dL_law_995 : decode cL_law 995 = .ok (.ifCond .eq 5, 3) := dk_153 0 5 (dk_at dksL_law_36 17 rfl rfl)
theorem dL_law_998 : decode cL_law 998 = .ok (.iconst 0, 1) := dk_3 (dk_at dksL_law_36 20 rfl rfl)
theorem dL_law_999 : decode cL_law 999 = .ok (.ireturn, 1) := dk_172 (dk_at dksL_law_36 21 rfl rfl)
theorem dL_law_1000 : decode cL_law 1000 = .ok (.goto 1534, 3) := dk_167 5 254 (dk_at dksL_law_37 0 rfl rfl)
theorem dL_law_1003 : decode cL_law 1003 = .ok (.aload_n 1, 1) := dk_43 (dk_at dksL_law_37 3 rfl rfl)
theorem dL_law_1004 : decode cL_law 1004 = .ok (.aload_n 0, 1) := dk_42 (dk_at dksL_law_37 4 rfl rfl)
theorem dL_law_1005 : decode cL_law 1005 = .ok (.iload 4, 2) := dk_21 4 (dk_at dksL_law_37 5 rfl rfl)
theorem dL_law_1007 : decode cL_law 1007 = .ok (.iconst 1, 1) := dk_4 (dk_at dksL_law_37 7 rfl rfl)
theorem dL_law_1008 : decode cL_law 1008 = .ok (.iadd, 1) := dk_96 (dk_at dksL_law_37 8 rfl rfl)
theorem dL_law_1009 : decode cL_law 1009 = .ok (.iaload, 1) := dk_46 (dk_at dksL_law_37 9 rfl rfl)
theorem dL_law_1010 : decode cL_law 1010 = .ok (.aload_n 0, 1) := dk_42 (dk_at dksL_law_37 10 rfl rfl)
theorem dL_law_1011 : decode cL_law 1011 = .ok (.iload 4, 2) := dk_21 4 (dk_at dksL_law_37 11 rfl rfl)
theorem dL_law_1013 : decode cL_law 1013 = .ok (.iconst 2, 1) := dk_5 (dk_at dksL_law_37 13 rfl rfl)
theorem dL_law_1014 : decode cL_law 1014 = .ok (.iadd, 1) := dk_96 (dk_at dksL_law_37 14 rfl rfl)
theorem dL_law_1015 : decode cL_law 1015 = .ok (.iaload, 1) := dk_46 (dk_at dksL_law_37 15 rfl rfl)
theorem dL_law_1016 : decode cL_law 1016 = .ok (.aload_n 0, 1) := dk_42 (dk_at dksL_law_37 16 rfl rfl)
theorem dL_law_1017 : decode cL_law 1017 = .ok (.iload 4, 2) := dk_21 4 (dk_at dksL_law_37 17 rfl rfl)
theorem dL_law_1019 : decode cL_law 1019 = .ok (.iconst 3, 1) := dk_6 (dk_at dksL_law_37 19 rfl rfl)
theorem dL_law_1020 : decode cL_law 1020 = .ok (.iadd, 1) := dk_96 (dk_at dksL_law_37 20 rfl rfl)
theorem dL_law_1021 : decode cL_law 1021 = .ok (.iaload, 1) := dk_46 (dk_at dksL_law_37 21 rfl rfl)
theorem dL_law_1022 : decode cL_law 1022 = .ok (.aload_n 0, 1) := dk_42 (dk_at dksL_law_37 22 rfl rfl)
theorem dL_law_1023 : decode cL_law 1023 = .ok (.iload 4, 2) := dk_21 4 (dk_at dksL_law_38 0 rfl rfl)
theorem dL_law_1025 : decode cL_law 1025 = .ok (.iconst 4, 1) := dk_7 (dk_at dksL_law_38 2 rfl rfl)
theorem dL_law_1026 : decode cL_law 1026 = .ok (.iadd, 1) := dk_96 (dk_at dksL_law_38 3 rfl rfl)
theorem dL_law_1027 : decode cL_law 1027 = .ok (.iaload, 1) := dk_46 (dk_at dksL_law_38 4 rfl rfl)
theorem dL_law_1028 : decode cL_law 1028 = .ok (.aload_n 0, 1) := dk_42 (dk_at dksL_law_38 5 rfl rfl)
theorem dL_law_1029 : decode cL_law 1029 = .ok (.iload 4, 2) := dk_21 4 (dk_at dksL_law_38 6 rfl rfl)
theorem dL_law_1031 : decode cL_law 1031 = .ok (.iconst 5, 1) := dk_8 (dk_at dksL_law_38 8 rfl rfl)
theorem dL_law_1032 : decode cL_law 1032 = .ok (.iadd, 1) := dk_96 (dk_at dksL_law_38 9 rfl rfl)
theorem dL_law_1033 : decode cL_law 1033 = .ok (.iaload, 1) := dk_46 (dk_at dksL_law_38 10 rfl rfl)
theorem dL_law_1034 : decode cL_law 1034 = .ok (.aload_n 0, 1) := dk_42 (dk_at dksL_law_38 11 rfl rfl)
theorem dL_law_1035 : decode cL_law 1035 = .ok (.iload 4, 2) := dk_21 4 (dk_at dksL_law_38 12 rfl rfl)
theorem dL_law_1037 : decode cL_law 1037 = .ok (.bipush 6, 2) := dk_16 6 (dk_at dksL_law_38 14 rfl rfl)
theorem dL_law_1039 : decode cL_law 1039 = .ok (.iadd, 1) := dk_96 (dk_at dksL_law_38 16 rfl rfl)
theorem dL_law_1040 : decode cL_law 1040 = .ok (.iaload, 1) := dk_46 (dk_at dksL_law_38 17 rfl rfl)
theorem dL_law_1041 : decode cL_law 1041 = .ok (.aload_n 0, 1) := dk_42 (dk_at dksL_law_38 18 rfl rfl)
theorem dL_law_1042 : decode cL_law 1042 = .ok (.iload 4, 2) := dk_21 4 (dk_at dksL_law_38 19 rfl rfl)
theorem dL_law_1044 : decode cL_law 1044 = .ok (.bipush 7, 2) := dk_16 7 (dk_at dksL_law_38 21 rfl rfl)
theorem dL_law_1046 : decode cL_law 1046 = .ok (.iadd, 1) := dk_96 (dk_at dksL_law_38 23 rfl rfl)
theorem dL_law_1047 : decode cL_law 1047 = .ok (.iaload, 1) := dk_46 (dk_at dksL_law_39 0 rfl rfl)
theorem dL_law_1048 : decode cL_law 1048 = .ok (.aload_n 0, 1) := dk_42 (dk_at dksL_law_39 1 rfl rfl)
theorem dL_law_1049 : decode cL_law 1049 = .ok (.iload 4, 2) := dk_21 4 (dk_at dksL_law_39 2 rfl rfl)
theorem dL_law_1051 : decode cL_law 1051 = .ok (.bipush 8, 2) := dk_16 8 (dk_at dksL_law_39 4 rfl rfl)
theorem dL_law_1053 : decode cL_law 1053 = .ok (.iadd, 1) := dk_96 (dk_at dksL_law_39 6 rfl rfl)
theorem dL_law_1054 : decode cL_law 1054 = .ok (.iaload, 1) := dk_46 (dk_at dksL_law_39 7 rfl rfl)
theorem dL_law_1055 : decode cL_law 1055 = .ok (.aload_n 0, 1) := dk_42 (dk_at dksL_law_39 8 rfl rfl)
theorem dL_law_1056 : decode cL_law 1056 = .ok (.iload 4, 2) := dk_21 4 (dk_at dksL_law_39 9 rfl rfl)
theorem dL_law_1058 : decode cL_law 1058 = .ok (.bipush 9, 2) := dk_16 9 (dk_at dksL_law_39 11 rfl rfl)
theorem dL_law_1060 : decode cL_law 1060 = .ok (.iadd, 1) := dk_96 (dk_at dksL_law_39 13 rfl rfl)
theorem dL_law_1061 : decode cL_law 1061 = .ok (.iaload, 1) := dk_46 (dk_at dksL_law_39 14 rfl rfl)
theorem dL_law_1062 : decode cL_law 1062 = .ok (.aload_n 0, 1) := dk_42 (dk_at dksL_law_39 15 rfl rfl)
theorem dL_law_1063 : decode cL_law 1063 = .ok (.iload 4, 2) := dk_21 4 (dk_at dksL_law_39 16 rfl rfl)
theorem dL_law_1065 : decode cL_law 1065 = .ok (.bipush 10, 2) := dk_16 10 (dk_at dksL_law_39 18 rfl rfl)
theorem dL_law_1067 : decode cL_law 1067 = .ok (.iadd, 1) := dk_96 (dk_at dksL_law_39 20 rfl rfl)
theorem dL_law_1068 : decode cL_law 1068 = .ok (.iaload, 1) := dk_46 (dk_at dksL_law_39 21 rfl rfl)
theorem dL_law_1069 : decode cL_law 1069 = .ok (.aload_n 3, 1) := dk_45 (dk_at dksL_law_39 22 rfl rfl)
theorem dL_law_1070 : decode cL_law 1070 = .ok (.invokestatic 165, 3) := dk_184 0 165 (dk_at dksL_law_40 0 rfl rfl)
theorem dL_law_1073 : decode cL_law 1073 = .ok (.istore 5, 2) := dk_54 5 (dk_at dksL_law_40 3 rfl rfl)
theorem dL_law_1075 : decode cL_law 1075 = .ok (.aload_n 2, 1) := dk_44 (dk_at dksL_law_40 5 rfl rfl)
theorem dL_law_1076 : decode cL_law 1076 = .ok (.aload_n 0, 1) := dk_42 (dk_at dksL_law_40 6 rfl rfl)
theorem dL_law_1077 : decode cL_law 1077 = .ok (.iload 4, 2) := dk_21 4 (dk_at dksL_law_40 7 rfl rfl)
theorem dL_law_1079 : decode cL_law 1079 = .ok (.iconst 1, 1) := dk_4 (dk_at dksL_law_40 9 rfl rfl)
theorem dL_law_1080 : decode cL_law 1080 = .ok (.iadd, 1) := dk_96 (dk_at dksL_law_40 10 rfl rfl)
theorem dL_law_1081 : decode cL_law 1081 = .ok (.iaload, 1) := dk_46 (dk_at dksL_law_40 11 rfl rfl)
theorem dL_law_1082 : decode cL_law 1082 = .ok (.aload_n 0, 1) := dk_42 (dk_at dksL_law_40 12 rfl rfl)
theorem dL_law_1083 : decode cL_law 1083 = .ok (.iload 4, 2) := dk_21 4 (dk_at dksL_law_40 13 rfl rfl)
theorem dL_law_1085 : decode cL_law 1085 = .ok (.iconst 2, 1) := dk_5 (dk_at dksL_law_40 15 rfl rfl)
theorem dL_law_1086 : decode cL_law 1086 = .ok (.iadd, 1) := dk_96 (dk_at dksL_law_40 16 rfl rfl)
theorem dL_law_1087 : decode cL_law 1087 = .ok (.iaload, 1) := dk_46 (dk_at dksL_law_40 17 rfl rfl)
theorem dL_law_1088 : decode cL_law 1088 = .ok (.aload_n 0, 1) := dk_42 (dk_at dksL_law_40 18 rfl rfl)
theorem dL_law_1089 : decode cL_law 1089 = .ok (.iload 4, 2) := dk_21 4 (dk_at dksL_law_40 19 rfl rfl)
theorem dL_law_1091 : decode cL_law 1091 = .ok (.iconst 3, 1) := dk_6 (dk_at dksL_law_40 21 rfl rfl)
theorem dL_law_1092 : decode cL_law 1092 = .ok (.iadd, 1) := dk_96 (dk_at dksL_law_40 22 rfl rfl)
theorem dL_law_1093 : decode cL_law 1093 = .ok (.iaload, 1) := dk_46 (dk_at dksL_law_40 23 rfl rfl)
theorem dL_law_1094 : decode cL_law 1094 = .ok (.aload_n 0, 1) := dk_42 (dk_at dksL_law_41 0 rfl rfl)
theorem dL_law_1095 : decode cL_law 1095 = .ok (.iload 4, 2) := dk_21 4 (dk_at dksL_law_41 1 rfl rfl)
theorem dL_law_1097 : decode cL_law 1097 = .ok (.iconst 4, 1) := dk_7 (dk_at dksL_law_41 3 rfl rfl)
theorem dL_law_1098 : decode cL_law 1098 = .ok (.iadd, 1) := dk_96 (dk_at dksL_law_41 4 rfl rfl)
theorem dL_law_1099 : decode cL_law 1099 = .ok (.iaload, 1) := dk_46 (dk_at dksL_law_41 5 rfl rfl)
theorem dL_law_1100 : decode cL_law 1100 = .ok (.aload_n 0, 1) := dk_42 (dk_at dksL_law_41 6 rfl rfl)
theorem dL_law_1101 : decode cL_law 1101 = .ok (.iload 4, 2) := dk_21 4 (dk_at dksL_law_41 7 rfl rfl)
theorem dL_law_1103 : decode cL_law 1103 = .ok (.iconst 5, 1) := dk_8 (dk_at dksL_law_41 9 rfl rfl)
theorem dL_law_1104 : decode cL_law 1104 = .ok (.iadd, 1) := dk_96 (dk_at dksL_law_41 10 rfl rfl)
theorem dL_law_1105 : decode cL_law 1105 = .ok (.iaload, 1) := dk_46 (dk_at dksL_law_41 11 rfl rfl)
theorem dL_law_1106 : decode cL_law 1106 = .ok (.aload_n 0, 1) := dk_42 (dk_at dksL_law_41 12 rfl rfl)
theorem dL_law_1107 : decode cL_law 1107 = .ok (.iload 4, 2) := dk_21 4 (dk_at dksL_law_41 13 rfl rfl)
theorem dL_law_1109 : decode cL_law 1109 = .ok (.bipush 6, 2) := dk_16 6 (dk_at dksL_law_41 15 rfl rfl)
theorem dL_law_1111 : decode cL_law 1111 = .ok (.iadd, 1) := dk_96 (dk_at dksL_law_41 17 rfl rfl)
theorem dL_law_1112 : decode cL_law 1112 = .ok (.iaload, 1) := dk_46 (dk_at dksL_law_41 18 rfl rfl)
theorem dL_law_1113 : decode cL_law 1113 = .ok (.aload_n 0, 1) := dk_42 (dk_at dksL_law_41 19 rfl rfl)
theorem dL_law_1114 : decode cL_law 1114 = .ok (.iload 4, 2) := dk_21 4 (dk_at dksL_law_41 20 rfl rfl)
theorem dL_law_1116 : decode cL_law 1116 = .ok (.bipush 7, 2) := dk_16 7 (dk_at dksL_law_41 22 rfl rfl)
theorem dL_law_1118 : decode cL_law 1118 = .ok (.iadd, 1) := dk_96 (dk_at dksL_law_42 0 rfl rfl)
theorem dL_law_1119 : decode cL_law 1119 = .ok (.iaload, 1) := dk_46 (dk_at dksL_law_42 1 rfl rfl)
theorem dL_law_1120 : decode cL_law 1120 = .ok (.aload_n 0, 1) := dk_42 (dk_at dksL_law_42 2 rfl rfl)
theorem dL_law_1121 : decode cL_law 1121 = .ok (.iload 4, 2) := dk_21 4 (dk_at dksL_law_42 3 rfl rfl)
theorem dL_law_1123 : decode cL_law 1123 = .ok (.bipush 8, 2) := dk_16 8 (dk_at dksL_law_42 5 rfl rfl)
theorem dL_law_1125 : decode cL_law 1125 = .ok (.iadd, 1) := dk_96 (dk_at dksL_law_42 7 rfl rfl)
theorem dL_law_1126 : decode cL_law 1126 = .ok (.iaload, 1) := dk_46 (dk_at dksL_law_42 8 rfl rfl)
theorem dL_law_1127 : decode cL_law 1127 = .ok (.aload_n 0, 1) := dk_42 (dk_at dksL_law_42 9 rfl rfl)
theorem dL_law_1128 : decode cL_law 1128 = .ok (.iload 4, 2) := dk_21 4 (dk_at dksL_law_42 10 rfl rfl)
theorem dL_law_1130 : decode cL_law 1130 = .ok (.bipush 9, 2) := dk_16 9 (dk_at dksL_law_42 12 rfl rfl)
theorem dL_law_1132 : decode cL_law 1132 = .ok (.iadd, 1) := dk_96 (dk_at dksL_law_42 14 rfl rfl)
theorem dL_law_1133 : decode cL_law 1133 = .ok (.iaload, 1) := dk_46 (dk_at dksL_law_42 15 rfl rfl)
theorem dL_law_1134 : decode cL_law 1134 = .ok (.aload_n 0, 1) := dk_42 (dk_at dksL_law_42 16 rfl rfl)
theorem dL_law_1135 : decode cL_law 1135 = .ok (.iload 4, 2) := dk_21 4 (dk_at dksL_law_42 17 rfl rfl)
theorem dL_law_1137 : decode cL_law 1137 = .ok (.bipush 10, 2) := dk_16 10 (dk_at dksL_law_42 19 rfl rfl)
theorem dL_law_1139 : decode cL_law 1139 = .ok (.iadd, 1) := dk_96 (dk_at dksL_law_42 21 rfl rfl)
theorem dL_law_1140 : decode cL_law 1140 = .ok (.iaload, 1) := dk_46 (dk_at dksL_law_42 22 rfl rfl)
theorem dL_law_1141 : decode cL_law 1141 = .ok (.invokevirtual 168, 3) := dk_182 0 168 (dk_at dksL_law_43 0 rfl rfl)
theorem dL_law_1144 : decode cL_law 1144 = .ok (.istore 6, 2) := dk_54 6 (dk_at dksL_law_43 3 rfl rfl)
theorem dL_law_1146 : decode cL_law 1146 = .ok (.aload_n 2, 1) := dk_44 (dk_at dksL_law_43 5 rfl rfl)
theorem dL_law_1147 : decode cL_law 1147 = .ok (.invokevirtual 122, 3) := dk_182 0 122 (dk_at dksL_law_43 6 rfl rfl)
theorem dL_law_1150 : decode cL_law 1150 = .ok (.iload 5, 2) := dk_21 5 (dk_at dksL_law_43 9 rfl rfl)
theorem dL_law_1152 : decode cL_law 1152 = .ok (.if_icmp .eq 5, 3) := dk_159 0 5 (dk_at dksL_law_43 11 rfl rfl)
theorem dL_law_1155 : decode cL_law 1155 = .ok (.iconst 0, 1) := dk_3 (dk_at dksL_law_43 14 rfl rfl)
theorem dL_law_1156 : decode cL_law 1156 = .ok (.ireturn, 1) := dk_172 (dk_at dksL_law_43 15 rfl rfl)
theorem dL_law_1157 : decode cL_law 1157 = .ok (.iload 5, 2) := dk_21 5 (dk_at dksL_law_43 16 rfl rfl)
theorem dL_law_1159 : decode cL_law 1159 = .ok (.ifCond .ne 15, 3) := dk_154 0 15 (dk_at dksL_law_43 18 rfl rfl)
theorem dL_law_1162 : decode cL_law 1162 = .ok (.aload_n 3, 1) := dk_45 (dk_at dksL_law_43 21 rfl rfl)
theorem dL_law_1163 : decode cL_law 1163 = .ok (.iconst 0, 1) := dk_3 (dk_at dksL_law_43 22 rfl rfl)
theorem dL_law_1164 : decode cL_law 1164 = .ok (.laload, 1) := dk_47 (dk_at dksL_law_43 23 rfl rfl)
theorem dL_law_1165 : decode cL_law 1165 = .ok (.iload 6, 2) := dk_21 6 (dk_at dksL_law_44 0 rfl rfl)
theorem dL_law_1167 : decode cL_law 1167 = .ok (.i2l, 1) := dk_133 (dk_at dksL_law_44 2 rfl rfl)
theorem dL_law_1168 : decode cL_law 1168 = .ok (.lcmp, 1) := dk_148 (dk_at dksL_law_44 3 rfl rfl)
theorem dL_law_1169 : decode cL_law 1169 = .ok (.ifCond .eq 5, 3) := dk_153 0 5 (dk_at dksL_law_44 4 rfl rfl)
theorem dL_law_1172 : decode cL_law 1172 = .ok (.iconst 0, 1) := dk_3 (dk_at dksL_law_44 7 rfl rfl)
theorem dL_law_1173 : decode cL_law 1173 = .ok (.ireturn, 1) := dk_172 (dk_at dksL_law_44 8 rfl rfl)
theorem dL_law_1174 : decode cL_law 1174 = .ok (.goto 1360, 3) := dk_167 5 80 (dk_at dksL_law_44 9 rfl rfl)
theorem dL_law_1177 : decode cL_law 1177 = .ok (.aload_n 1, 1) := dk_43 (dk_at dksL_law_44 12 rfl rfl)
theorem dL_law_1178 : decode cL_law 1178 = .ok (.aload_n 0, 1) := dk_42 (dk_at dksL_law_44 13 rfl rfl)
theorem dL_law_1179 : decode cL_law 1179 = .ok (.iload 4, 2) := dk_21 4 (dk_at dksL_law_44 14 rfl rfl)
theorem dL_law_1181 : decode cL_law 1181 = .ok (.iconst 1, 1) := dk_4 (dk_at dksL_law_44 16 rfl rfl)
theorem dL_law_1182 : decode cL_law 1182 = .ok (.iadd, 1) := dk_96 (dk_at dksL_law_44 17 rfl rfl)
theorem dL_law_1183 : decode cL_law 1183 = .ok (.iaload, 1) := dk_46 (dk_at dksL_law_44 18 rfl rfl)
theorem dL_law_1184 : decode cL_law 1184 = .ok (.aload_n 0, 1) := dk_42 (dk_at dksL_law_44 19 rfl rfl)
theorem dL_law_1185 : decode cL_law 1185 = .ok (.iload 4, 2) := dk_21 4 (dk_at dksL_law_44 20 rfl rfl)
theorem dL_law_1187 : decode cL_law 1187 = .ok (.iconst 2, 1) := dk_5 (dk_at dksL_law_44 22 rfl rfl)
theorem dL_law_1188 : decode cL_law 1188 = .ok (.iadd, 1) := dk_96 (dk_at dksL_law_44 23 rfl rfl)
theorem dL_law_1189 : decode cL_law 1189 = .ok (.iaload, 1) := dk_46 (dk_at dksL_law_45 0 rfl rfl)
theorem dL_law_1190 : decode cL_law 1190 = .ok (.aload_n 3, 1) := dk_45 (dk_at dksL_law_45 1 rfl rfl)
theorem dL_law_1191 : decode cL_law 1191 = .ok (.invokestatic 169, 3) := dk_184 0 169 (dk_at dksL_law_45 2 rfl rfl)
theorem dL_law_1194 : decode cL_law 1194 = .ok (.istore 5, 2) := dk_54 5 (dk_at dksL_law_45 5 rfl rfl)
theorem dL_law_1196 : decode cL_law 1196 = .ok (.aload_n 2, 1) := dk_44 (dk_at dksL_law_45 7 rfl rfl)
theorem dL_law_1197 : decode cL_law 1197 = .ok (.aload_n 0, 1) := dk_42 (dk_at dksL_law_45 8 rfl rfl)
theorem dL_law_1198 : decode cL_law 1198 = .ok (.iload 4, 2) := dk_21 4 (dk_at dksL_law_45 9 rfl rfl)
theorem dL_law_1200 : decode cL_law 1200 = .ok (.iconst 1, 1) := dk_4 (dk_at dksL_law_45 11 rfl rfl)
theorem dL_law_1201 : decode cL_law 1201 = .ok (.iadd, 1) := dk_96 (dk_at dksL_law_45 12 rfl rfl)
theorem dL_law_1202 : decode cL_law 1202 = .ok (.iaload, 1) := dk_46 (dk_at dksL_law_45 13 rfl rfl)
theorem dL_law_1203 : decode cL_law 1203 = .ok (.aload_n 0, 1) := dk_42 (dk_at dksL_law_45 14 rfl rfl)
theorem dL_law_1204 : decode cL_law 1204 = .ok (.iload 4, 2) := dk_21 4 (dk_at dksL_law_45 15 rfl rfl)
theorem dL_law_1206 : decode cL_law 1206 = .ok (.iconst 2, 1) := dk_5 (dk_at dksL_law_45 17 rfl rfl)
theorem dL_law_1207 : decode cL_law 1207 = .ok (.iadd, 1) := dk_96 (dk_at dksL_law_45 18 rfl rfl)
theorem dL_law_1208 : decode cL_law 1208 = .ok (.iaload, 1) := dk_46 (dk_at dksL_law_45 19 rfl rfl)
theorem dL_law_1209 : decode cL_law 1209 = .ok (.invokevirtual 171, 3) := dk_182 0 171 (dk_at dksL_law_45 20 rfl rfl)
theorem dL_law_1212 : decode cL_law 1212 = .ok (.istore 6, 2) := dk_54 6 (dk_at dksL_law_46 0 rfl rfl)
theorem dL_law_1214 : decode cL_law 1214 = .ok (.aload_n 2, 1) := dk_44 (dk_at dksL_law_46 2 rfl rfl)
theorem dL_law_1215 : decode cL_law 1215 = .ok (.invokevirtual 122, 3) := dk_182 0 122 (dk_at dksL_law_46 3 rfl rfl)
theorem dL_law_1218 : decode cL_law 1218 = .ok (.iload 5, 2) := dk_21 5 (dk_at dksL_law_46 6 rfl rfl)
theorem dL_law_1220 : decode cL_law 1220 = .ok (.if_icmp .eq 5, 3) := dk_159 0 5 (dk_at dksL_law_46 8 rfl rfl)
theorem dL_law_1223 : decode cL_law 1223 = .ok (.iconst 0, 1) := dk_3 (dk_at dksL_law_46 11 rfl rfl)
theorem dL_law_1224 : decode cL_law 1224 = .ok (.ireturn, 1) := dk_172 (dk_at dksL_law_46 12 rfl rfl)
theorem dL_law_1225 : decode cL_law 1225 = .ok (.iload 5, 2) := dk_21 5 (dk_at dksL_law_46 13 rfl rfl)
theorem dL_law_1227 : decode cL_law 1227 = .ok (.ifCond .ne 15, 3) := dk_154 0 15 (dk_at dksL_law_46 15 rfl rfl)
theorem dL_law_1230 : decode cL_law 1230 = .ok (.aload_n 3, 1) := dk_45 (dk_at dksL_law_46 18 rfl rfl)
theorem dL_law_1231 : decode cL_law 1231 = .ok (.iconst 0, 1) := dk_3 (dk_at dksL_law_46 19 rfl rfl)
theorem dL_law_1232 : decode cL_law 1232 = .ok (.laload, 1) := dk_47 (dk_at dksL_law_46 20 rfl rfl)
theorem dL_law_1233 : decode cL_law 1233 = .ok (.iload 6, 2) := dk_21 6 (dk_at dksL_law_46 21 rfl rfl)
theorem dL_law_1235 : decode cL_law 1235 = .ok (.i2l, 1) := dk_133 (dk_at dksL_law_46 23 rfl rfl)
theorem dL_law_1236 : decode cL_law 1236 = .ok (.lcmp, 1) := dk_148 (dk_at dksL_law_47 0 rfl rfl)
theorem dL_law_1237 : decode cL_law 1237 = .ok (.ifCond .eq 5, 3) := dk_153 0 5 (dk_at dksL_law_47 1 rfl rfl)
theorem dL_law_1240 : decode cL_law 1240 = .ok (.iconst 0, 1) := dk_3 (dk_at dksL_law_47 4 rfl rfl)
theorem dL_law_1241 : decode cL_law 1241 = .ok (.ireturn, 1) := dk_172 (dk_at dksL_law_47 5 rfl rfl)
theorem dL_law_1242 : decode cL_law 1242 = .ok (.goto 1292, 3) := dk_167 5 12 (dk_at dksL_law_47 6 rfl rfl)
theorem dL_law_1245 : decode cL_law 1245 = .ok (.aload_n 1, 1) := dk_43 (dk_at dksL_law_47 9 rfl rfl)
theorem dL_law_1246 : decode cL_law 1246 = .ok (.invokevirtual 172, 3) := dk_182 0 172 (dk_at dksL_law_47 10 rfl rfl)
theorem dL_law_1249 : decode cL_law 1249 = .ok (.aload_n 2, 1) := dk_44 (dk_at dksL_law_47 13 rfl rfl)
theorem dL_law_1250 : decode cL_law 1250 = .ok (.invokevirtual 175, 3) := dk_182 0 175 (dk_at dksL_law_47 14 rfl rfl)
theorem dL_law_1253 : decode cL_law 1253 = .ok (.if_icmp .eq 1281, 3) := dk_159 5 1 (dk_at dksL_law_47 17 rfl rfl)
theorem dL_law_1256 : decode cL_law 1256 = .ok (.iconst 0, 1) := dk_3 (dk_at dksL_law_47 20 rfl rfl)
theorem dL_law_1257 : decode cL_law 1257 = .ok (.ireturn, 1) := dk_172 (dk_at dksL_law_47 21 rfl rfl)
theorem dL_law_1258 : decode cL_law 1258 = .ok (.aload_n 1, 1) := dk_43 (dk_at dksL_law_47 22 rfl rfl)
theorem dL_law_1259 : decode cL_law 1259 = .ok (.aload_n 0, 1) := dk_42 (dk_at dksL_law_47 23 rfl rfl)
theorem dL_law_1260 : decode cL_law 1260 = .ok (.iload 4, 2) := dk_21 4 (dk_at dksL_law_48 0 rfl rfl)
theorem dL_law_1262 : decode cL_law 1262 = .ok (.iconst 1, 1) := dk_4 (dk_at dksL_law_48 2 rfl rfl)
theorem dL_law_1263 : decode cL_law 1263 = .ok (.iadd, 1) := dk_96 (dk_at dksL_law_48 3 rfl rfl)
theorem dL_law_1264 : decode cL_law 1264 = .ok (.iaload, 1) := dk_46 (dk_at dksL_law_48 4 rfl rfl)
theorem dL_law_1265 : decode cL_law 1265 = .ok (.aload_n 3, 1) := dk_45 (dk_at dksL_law_48 5 rfl rfl)
theorem dL_law_1266 : decode cL_law 1266 = .ok (.invokestatic 176, 3) := dk_184 0 176 (dk_at dksL_law_48 6 rfl rfl)
theorem dL_law_1269 : decode cL_law 1269 = .ok (.istore 5, 2) := dk_54 5 (dk_at dksL_law_48 9 rfl rfl)
theorem dL_law_1271 : decode cL_law 1271 = .ok (.aload_n 2, 1) := dk_44 (dk_at dksL_law_48 11 rfl rfl)
theorem dL_law_1272 : decode cL_law 1272 = .ok (.aload_n 0, 1) := dk_42 (dk_at dksL_law_48 12 rfl rfl)
theorem dL_law_1273 : decode cL_law 1273 = .ok (.iload 4, 2) := dk_21 4 (dk_at dksL_law_48 13 rfl rfl)
theorem dL_law_1275 : decode cL_law 1275 = .ok (.iconst 1, 1) := dk_4 (dk_at dksL_law_48 15 rfl rfl)
theorem dL_law_1276 : decode cL_law 1276 = .ok (.iadd, 1) := dk_96 (dk_at dksL_law_48 16 rfl rfl)
theorem dL_law_1277 : decode cL_law 1277 = .ok (.iaload, 1) := dk_46 (dk_at dksL_law_48 17 rfl rfl)
theorem dL_law_1278 : decode cL_law 1278 = .ok (.invokevirtual 178, 3) := dk_182 0 178 (dk_at dksL_law_48 18 rfl rfl)
theorem dL_law_1281 : decode cL_law 1281 = .ok (.istore 6, 2) := dk_54 6 (dk_at dksL_law_48 21 rfl rfl)
theorem dL_law_1283 : decode cL_law 1283 = .ok (.aload_n 2, 1) := dk_44 (dk_at dksL_law_48 23 rfl rfl)
theorem dL_law_1284 : decode cL_law 1284 = .ok (.invokevirtual 122, 3) := dk_182 0 122 (dk_at dksL_law_49 0 rfl rfl)
theorem dL_law_1287 : decode cL_law 1287 = .ok (.iload 5, 2) := dk_21 5 (dk_at dksL_law_49 3 rfl rfl)
theorem dL_law_1289 : decode cL_law 1289 = .ok (.if_icmp .eq 5, 3) := dk_159 0 5 (dk_at dksL_law_49 5 rfl rfl)
theorem dL_law_1292 : decode cL_law 1292 = .ok (.iconst 0, 1) := dk_3 (dk_at dksL_law_49 8 rfl rfl)
theorem dL_law_1293 : decode cL_law 1293 = .ok (.ireturn, 1) := dk_172 (dk_at dksL_law_49 9 rfl rfl)
theorem dL_law_1294 : decode cL_law 1294 = .ok (.iload 5, 2) := dk_21 5 (dk_at dksL_law_49 10 rfl rfl)
theorem dL_law_1296 : decode cL_law 1296 = .ok (.ifCond .ne 15, 3) := dk_154 0 15 (dk_at dksL_law_49 12 rfl rfl)
theorem dL_law_1299 : decode cL_law 1299 = .ok (.aload_n 3, 1) := dk_45 (dk_at dksL_law_49 15 rfl rfl)
theorem dL_law_1300 : decode cL_law 1300 = .ok (.iconst 0, 1) := dk_3 (dk_at dksL_law_49 16 rfl rfl)
theorem dL_law_1301 : decode cL_law 1301 = .ok (.laload, 1) := dk_47 (dk_at dksL_law_49 17 rfl rfl)
theorem dL_law_1302 : decode cL_law 1302 = .ok (.iload 6, 2) := dk_21 6 (dk_at dksL_law_49 18 rfl rfl)
theorem dL_law_1304 : decode cL_law 1304 = .ok (.i2l, 1) := dk_133 (dk_at dksL_law_49 20 rfl rfl)
theorem dL_law_1305 : decode cL_law 1305 = .ok (.lcmp, 1) := dk_148 (dk_at dksL_law_49 21 rfl rfl)
theorem dL_law_1306 : decode cL_law 1306 = .ok (.ifCond .eq 5, 3) := dk_153 0 5 (dk_at dksL_law_50 0 rfl rfl)
theorem dL_law_1309 : decode cL_law 1309 = .ok (.iconst 0, 1) := dk_3 (dk_at dksL_law_50 3 rfl rfl)
theorem dL_law_1310 : decode cL_law 1310 = .ok (.ireturn, 1) := dk_172 (dk_at dksL_law_50 4 rfl rfl)
theorem dL_law_1311 : decode cL_law 1311 = .ok (.goto 1223, 3) := dk_167 4 199 (dk_at dksL_law_50 5 rfl rfl)
theorem dL_law_1314 : decode cL_law 1314 = .ok (.aload_n 1, 1) := dk_43 (dk_at dksL_law_50 8 rfl rfl)
theorem dL_law_1315 : decode cL_law 1315 = .ok (.aload_n 0, 1) := dk_42 (dk_at dksL_law_50 9 rfl rfl)
theorem dL_law_1316 : decode cL_law 1316 = .ok (.iload 4, 2) := dk_21 4 (dk_at dksL_law_50 10 rfl rfl)
theorem dL_law_1318 : decode cL_law 1318 = .ok (.iconst 1, 1) := dk_4 (dk_at dksL_law_50 12 rfl rfl)
theorem dL_law_1319 : decode cL_law 1319 = .ok (.iadd, 1) := dk_96 (dk_at dksL_law_50 13 rfl rfl)
theorem dL_law_1320 : decode cL_law 1320 = .ok (.iaload, 1) := dk_46 (dk_at dksL_law_50 14 rfl rfl)
theorem dL_law_1321 : decode cL_law 1321 = .ok (.aload_n 3, 1) := dk_45 (dk_at dksL_law_50 15 rfl rfl)
theorem dL_law_1322 : decode cL_law 1322 = .ok (.invokestatic 179, 3) := dk_184 0 179 (dk_at dksL_law_50 16 rfl rfl)
theorem dL_law_1325 : decode cL_law 1325 = .ok (.istore 5, 2) := dk_54 5 (dk_at dksL_law_50 19 rfl rfl)
theorem dL_law_1327 : decode cL_law 1327 = .ok (.aload_n 2, 1) := dk_44 (dk_at dksL_law_50 21 rfl rfl)
theorem dL_law_1328 : decode cL_law 1328 = .ok (.aload_n 0, 1) := dk_42 (dk_at dksL_law_50 22 rfl rfl)
theorem dL_law_1329 : decode cL_law 1329 = .ok (.iload 4, 2) := dk_21 4 (dk_at dksL_law_51 0 rfl rfl)
theorem dL_law_1331 : decode cL_law 1331 = .ok (.iconst 1, 1) := dk_4 (dk_at dksL_law_51 2 rfl rfl)
theorem dL_law_1332 : decode cL_law 1332 = .ok (.iadd, 1) := dk_96 (dk_at dksL_law_51 3 rfl rfl)
theorem dL_law_1333 : decode cL_law 1333 = .ok (.iaload, 1) := dk_46 (dk_at dksL_law_51 4 rfl rfl)
theorem dL_law_1334 : decode cL_law 1334 = .ok (.invokevirtual 181, 3) := dk_182 0 181 (dk_at dksL_law_51 5 rfl rfl)
theorem dL_law_1337 : decode cL_law 1337 = .ok (.istore 6, 2) := dk_54 6 (dk_at dksL_law_51 8 rfl rfl)
theorem dL_law_1339 : decode cL_law 1339 = .ok (.aload_n 2, 1) := dk_44 (dk_at dksL_law_51 10 rfl rfl)
theorem dL_law_1340 : decode cL_law 1340 = .ok (.invokevirtual 122, 3) := dk_182 0 122 (dk_at dksL_law_51 11 rfl rfl)
theorem dL_law_1343 : decode cL_law 1343 = .ok (.iload 5, 2) := dk_21 5 (dk_at dksL_law_51 14 rfl rfl)
theorem dL_law_1345 : decode cL_law 1345 = .ok (.if_icmp .eq 5, 3) := dk_159 0 5 (dk_at dksL_law_51 16 rfl rfl)
theorem dL_law_1348 : decode cL_law 1348 = .ok (.iconst 0, 1) := dk_3 (dk_at dksL_law_51 19 rfl rfl)
theorem dL_law_1349 : decode cL_law 1349 = .ok (.ireturn, 1) := dk_172 (dk_at dksL_law_51 20 rfl rfl)
theorem dL_law_1350 : decode cL_law 1350 = .ok (.iload 5, 2) := dk_21 5 (dk_at dksL_law_51 21 rfl rfl)
theorem dL_law_1352 : decode cL_law 1352 = .ok (.ifCond .ne 15, 3) := dk_154 0 15 (dk_at dksL_law_52 0 rfl rfl)
theorem dL_law_1355 : decode cL_law 1355 = .ok (.aload_n 3, 1) := dk_45 (dk_at dksL_law_52 3 rfl rfl)
theorem dL_law_1356 : decode cL_law 1356 = .ok (.iconst 0, 1) := dk_3 (dk_at dksL_law_52 4 rfl rfl)
theorem dL_law_1357 : decode cL_law 1357 = .ok (.laload, 1) := dk_47 (dk_at dksL_law_52 5 rfl rfl)
theorem dL_law_1358 : decode cL_law 1358 = .ok (.iload 6, 2) := dk_21 6 (dk_at dksL_law_52 6 rfl rfl)
theorem dL_law_1360 : decode cL_law 1360 = .ok (.i2l, 1) := dk_133 (dk_at dksL_law_52 8 rfl rfl)
theorem dL_law_1361 : decode cL_law 1361 = .ok (.lcmp, 1) := dk_148 (dk_at dksL_law_52 9 rfl rfl)
theorem dL_law_1362 : decode cL_law 1362 = .ok (.ifCond .eq 5, 3) := dk_153 0 5 (dk_at dksL_law_52 10 rfl rfl)
theorem dL_law_1365 : decode cL_law 1365 = .ok (.iconst 0, 1) := dk_3 (dk_at dksL_law_52 13 rfl rfl)
theorem dL_law_1366 : decode cL_law 1366 = .ok (.ireturn, 1) := dk_172 (dk_at dksL_law_52 14 rfl rfl)
theorem dL_law_1367 : decode cL_law 1367 = .ok (.goto 1167, 3) := dk_167 4 143 (dk_at dksL_law_52 15 rfl rfl)
theorem dL_law_1370 : decode cL_law 1370 = .ok (.aload_n 1, 1) := dk_43 (dk_at dksL_law_52 18 rfl rfl)
theorem dL_law_1371 : decode cL_law 1371 = .ok (.aload_n 0, 1) := dk_42 (dk_at dksL_law_52 19 rfl rfl)
theorem dL_law_1372 : decode cL_law 1372 = .ok (.iload 4, 2) := dk_21 4 (dk_at dksL_law_52 20 rfl rfl)
theorem dL_law_1374 : decode cL_law 1374 = .ok (.iconst 1, 1) := dk_4 (dk_at dksL_law_52 22 rfl rfl)
theorem dL_law_1375 : decode cL_law 1375 = .ok (.iadd, 1) := dk_96 (dk_at dksL_law_52 23 rfl rfl)
theorem dL_law_1376 : decode cL_law 1376 = .ok (.iaload, 1) := dk_46 (dk_at dksL_law_53 0 rfl rfl)
theorem dL_law_1377 : decode cL_law 1377 = .ok (.aload_n 0, 1) := dk_42 (dk_at dksL_law_53 1 rfl rfl)
theorem dL_law_1378 : decode cL_law 1378 = .ok (.iload 4, 2) := dk_21 4 (dk_at dksL_law_53 2 rfl rfl)
theorem dL_law_1380 : decode cL_law 1380 = .ok (.iconst 2, 1) := dk_5 (dk_at dksL_law_53 4 rfl rfl)
theorem dL_law_1381 : decode cL_law 1381 = .ok (.iadd, 1) := dk_96 (dk_at dksL_law_53 5 rfl rfl)
theorem dL_law_1382 : decode cL_law 1382 = .ok (.iaload, 1) := dk_46 (dk_at dksL_law_53 6 rfl rfl)
theorem dL_law_1383 : decode cL_law 1383 = .ok (.aload_n 3, 1) := dk_45 (dk_at dksL_law_53 7 rfl rfl)
theorem dL_law_1384 : decode cL_law 1384 = .ok (.invokestatic 182, 3) := dk_184 0 182 (dk_at dksL_law_53 8 rfl rfl)
theorem dL_law_1387 : decode cL_law 1387 = .ok (.istore 5, 2) := dk_54 5 (dk_at dksL_law_53 11 rfl rfl)
theorem dL_law_1389 : decode cL_law 1389 = .ok (.aload_n 2, 1) := dk_44 (dk_at dksL_law_53 13 rfl rfl)
theorem dL_law_1390 : decode cL_law 1390 = .ok (.aload_n 0, 1) := dk_42 (dk_at dksL_law_53 14 rfl rfl)
theorem dL_law_1391 : decode cL_law 1391 = .ok (.iload 4, 2) := dk_21 4 (dk_at dksL_law_53 15 rfl rfl)
theorem dL_law_1393 : decode cL_law 1393 = .ok (.iconst 1, 1) := dk_4 (dk_at dksL_law_53 17 rfl rfl)
theorem dL_law_1394 : decode cL_law 1394 = .ok (.iadd, 1) := dk_96 (dk_at dksL_law_53 18 rfl rfl)
theorem dL_law_1395 : decode cL_law 1395 = .ok (.iaload, 1) := dk_46 (dk_at dksL_law_53 19 rfl rfl)
theorem dL_law_1396 : decode cL_law 1396 = .ok (.aload_n 0, 1) := dk_42 (dk_at dksL_law_53 20 rfl rfl)
theorem dL_law_1397 : decode cL_law 1397 = .ok (.iload 4, 2) := dk_21 4 (dk_at dksL_law_53 21 rfl rfl)
theorem dL_law_1399 : decode cL_law 1399 = .ok (.iconst 2, 1) := dk_5 (dk_at dksL_law_53 23 rfl rfl)
theorem dL_law_1400 : decode cL_law 1400 = .ok (.iadd, 1) := dk_96 (dk_at dksL_law_54 0 rfl rfl)
theorem dL_law_1401 : decode cL_law 1401 = .ok (.iaload, 1) := dk_46 (dk_at dksL_law_54 1 rfl rfl)
theorem dL_law_1402 : decode cL_law 1402 = .ok (.invokevirtual 184, 3) := dk_182 0 184 (dk_at dksL_law_54 2 rfl rfl)
theorem dL_law_1405 : decode cL_law 1405 = .ok (.istore 6, 2) := dk_54 6 (dk_at dksL_law_54 5 rfl rfl)
theorem dL_law_1407 : decode cL_law 1407 = .ok (.aload_n 2, 1) := dk_44 (dk_at dksL_law_54 7 rfl rfl)
theorem dL_law_1408 : decode cL_law 1408 = .ok (.invokevirtual 122, 3) := dk_182 0 122 (dk_at dksL_law_54 8 rfl rfl)
theorem dL_law_1411 : decode cL_law 1411 = .ok (.iload 5, 2) := dk_21 5 (dk_at dksL_law_54 11 rfl rfl)
theorem dL_law_1413 : decode cL_law 1413 = .ok (.if_icmp .eq 5, 3) := dk_159 0 5 (dk_at dksL_law_54 13 rfl rfl)
theorem dL_law_1416 : decode cL_law 1416 = .ok (.iconst 0, 1) := dk_3 (dk_at dksL_law_54 16 rfl rfl)
theorem dL_law_1417 : decode cL_law 1417 = .ok (.ireturn, 1) := dk_172 (dk_at dksL_law_54 17 rfl rfl)
theorem dL_law_1418 : decode cL_law 1418 = .ok (.iload 5, 2) := dk_21 5 (dk_at dksL_law_54 18 rfl rfl)
theorem dL_law_1420 : decode cL_law 1420 = .ok (.ifCond .ne 15, 3) := dk_154 0 15 (dk_at dksL_law_54 20 rfl rfl)
theorem dL_law_1423 : decode cL_law 1423 = .ok (.aload_n 3, 1) := dk_45 (dk_at dksL_law_54 23 rfl rfl)
theorem dL_law_1424 : decode cL_law 1424 = .ok (.iconst 0, 1) := dk_3 (dk_at dksL_law_55 0 rfl rfl)
theorem dL_law_1425 : decode cL_law 1425 = .ok (.laload, 1) := dk_47 (dk_at dksL_law_55 1 rfl rfl)
theorem dL_law_1426 : decode cL_law 1426 = .ok (.iload 6, 2) := dk_21 6 (dk_at dksL_law_55 2 rfl rfl)
theorem dL_law_1428 : decode cL_law 1428 = .ok (.i2l, 1) := dk_133 (dk_at dksL_law_55 4 rfl rfl)
theorem dL_law_1429 : decode cL_law 1429 = .ok (.lcmp, 1) := dk_148 (dk_at dksL_law_55 5 rfl rfl)
theorem dL_law_1430 : decode cL_law 1430 = .ok (.ifCond .eq 5, 3) := dk_153 0 5 (dk_at dksL_law_55 6 rfl rfl)
theorem dL_law_1433 : decode cL_law 1433 = .ok (.iconst 0, 1) := dk_3 (dk_at dksL_law_55 9 rfl rfl)
theorem dL_law_1434 : decode cL_law 1434 = .ok (.ireturn, 1) := dk_172 (dk_at dksL_law_55 10 rfl rfl)
theorem dL_law_1435 : decode cL_law 1435 = .ok (.goto 1099, 3) := dk_167 4 75 (dk_at dksL_law_55 11 rfl rfl)
theorem dL_law_1438 : decode cL_law 1438 = .ok (.aload_n 1, 1) := dk_43 (dk_at dksL_law_55 14 rfl rfl)
theorem dL_law_1439 : decode cL_law 1439 = .ok (.aload_n 0, 1) := dk_42 (dk_at dksL_law_55 15 rfl rfl)
theorem dL_law_1440 : decode cL_law 1440 = .ok (.iload 4, 2) := dk_21 4 (dk_at dksL_law_55 16 rfl rfl)
theorem dL_law_1442 : decode cL_law 1442 = .ok (.iconst 1, 1) := dk_4 (dk_at dksL_law_55 18 rfl rfl)
theorem dL_law_1443 : decode cL_law 1443 = .ok (.iadd, 1) := dk_96 (dk_at dksL_law_55 19 rfl rfl)
theorem dL_law_1444 : decode cL_law 1444 = .ok (.iaload, 1) := dk_46 (dk_at dksL_law_55 20 rfl rfl)
theorem dL_law_1445 : decode cL_law 1445 = .ok (.aload_n 0, 1) := dk_42 (dk_at dksL_law_55 21 rfl rfl)
theorem dL_law_1446 : decode cL_law 1446 = .ok (.iload 4, 2) := dk_21 4 (dk_at dksL_law_55 22 rfl rfl)
theorem dL_law_1448 : decode cL_law 1448 = .ok (.iconst 2, 1) := dk_5 (dk_at dksL_law_56 0 rfl rfl)
theorem dL_law_1449 : decode cL_law 1449 = .ok (.iadd, 1) := dk_96 (dk_at dksL_law_56 1 rfl rfl)
theorem dL_law_1450 : decode cL_law 1450 = .ok (.iaload, 1) := dk_46 (dk_at dksL_law_56 2 rfl rfl)
theorem dL_law_1451 : decode cL_law 1451 = .ok (.aload_n 3, 1) := dk_45 (dk_at dksL_law_56 3 rfl rfl)
theorem dL_law_1452 : decode cL_law 1452 = .ok (.invokestatic 185, 3) := dk_184 0 185 (dk_at dksL_law_56 4 rfl rfl)
theorem dL_law_1455 : decode cL_law 1455 = .ok (.istore 5, 2) := dk_54 5 (dk_at dksL_law_56 7 rfl rfl)
theorem dL_law_1457 : decode cL_law 1457 = .ok (.aload_n 2, 1) := dk_44 (dk_at dksL_law_56 9 rfl rfl)
theorem dL_law_1458 : decode cL_law 1458 = .ok (.aload_n 0, 1) := dk_42 (dk_at dksL_law_56 10 rfl rfl)
theorem dL_law_1459 : decode cL_law 1459 = .ok (.iload 4, 2) := dk_21 4 (dk_at dksL_law_56 11 rfl rfl)
theorem dL_law_1461 : decode cL_law 1461 = .ok (.iconst 1, 1) := dk_4 (dk_at dksL_law_56 13 rfl rfl)
theorem dL_law_1462 : decode cL_law 1462 = .ok (.iadd, 1) := dk_96 (dk_at dksL_law_56 14 rfl rfl)
theorem dL_law_1463 : decode cL_law 1463 = .ok (.iaload, 1) := dk_46 (dk_at dksL_law_56 15 rfl rfl)
theorem dL_law_1464 : decode cL_law 1464 = .ok (.aload_n 0, 1) := dk_42 (dk_at dksL_law_56 16 rfl rfl)
theorem dL_law_1465 : decode cL_law 1465 = .ok (.iload 4, 2) := dk_21 4 (dk_at dksL_law_56 17 rfl rfl)
theorem dL_law_1467 : decode cL_law 1467 = .ok (.iconst 2, 1) := dk_5 (dk_at dksL_law_56 19 rfl rfl)
theorem dL_law_1468 : decode cL_law 1468 = .ok (.iadd, 1) := dk_96 (dk_at dksL_law_56 20 rfl rfl)
theorem dL_law_1469 : decode cL_law 1469 = .ok (.iaload, 1) := dk_46 (dk_at dksL_law_56 21 rfl rfl)
theorem dL_law_1470 : decode cL_law 1470 = .ok (.invokevirtual 187, 3) := dk_182 0 187 (dk_at dksL_law_57 0 rfl rfl)
theorem dL_law_1473 : decode cL_law 1473 = .ok (.istore 6, 2) := dk_54 6 (dk_at dksL_law_57 3 rfl rfl)
theorem dL_law_1475 : decode cL_law 1475 = .ok (.aload_n 2, 1) := dk_44 (dk_at dksL_law_57 5 rfl rfl)
theorem dL_law_1476 : decode cL_law 1476 = .ok (.invokevirtual 122, 3) := dk_182 0 122 (dk_at dksL_law_57 6 rfl rfl)
theorem dL_law_1479 : decode cL_law 1479 = .ok (.iload 5, 2) := dk_21 5 (dk_at dksL_law_57 9 rfl rfl)
theorem dL_law_1481 : decode cL_law 1481 = .ok (.if_icmp .eq 5, 3) := dk_159 0 5 (dk_at dksL_law_57 11 rfl rfl)
theorem dL_law_1484 : decode cL_law 1484 = .ok (.iconst 0, 1) := dk_3 (dk_at dksL_law_57 14 rfl rfl)
theorem dL_law_1485 : decode cL_law 1485 = .ok (.ireturn, 1) := dk_172 (dk_at dksL_law_57 15 rfl rfl)
theorem dL_law_1486 : decode cL_law 1486 = .ok (.iload 5, 2) := dk_21 5 (dk_at dksL_law_57 16 rfl rfl)
theorem dL_law_1488 : decode cL_law 1488 = .ok (.ifCond .ne 15, 3) := dk_154 0 15 (dk_at dksL_law_57 18 rfl rfl)
theorem dL_law_1491 : decode cL_law 1491 = .ok (.aload_n 3, 1) := dk_45 (dk_at dksL_law_57 21 rfl rfl)
theorem dL_law_1492 : decode cL_law 1492 = .ok (.iconst 0, 1) := dk_3 (dk_at dksL_law_57 22 rfl rfl)
theorem dL_law_1493 : decode cL_law 1493 = .ok (.laload, 1) := dk_47 (dk_at dksL_law_57 23 rfl rfl)
theorem dL_law_1494 : decode cL_law 1494 = .ok (.iload 6, 2) := dk_21 6 (dk_at dksL_law_58 0 rfl rfl)
theorem dL_law_1496 : decode cL_law 1496 = .ok (.i2l, 1) := dk_133 (dk_at dksL_law_58 2 rfl rfl)
theorem dL_law_1497 : decode cL_law 1497 = .ok (.lcmp, 1) := dk_148 (dk_at dksL_law_58 3 rfl rfl)
theorem dL_law_1498 : decode cL_law 1498 = .ok (.ifCond .eq 5, 3) := dk_153 0 5 (dk_at dksL_law_58 4 rfl rfl)
theorem dL_law_1501 : decode cL_law 1501 = .ok (.iconst 0, 1) := dk_3 (dk_at dksL_law_58 7 rfl rfl)
theorem dL_law_1502 : decode cL_law 1502 = .ok (.ireturn, 1) := dk_172 (dk_at dksL_law_58 8 rfl rfl)
theorem dL_law_1503 : decode cL_law 1503 = .ok (.goto 1031, 3) := dk_167 4 7 (dk_at dksL_law_58 9 rfl rfl)
theorem dL_law_1506 : decode cL_law 1506 = .ok (.aload_n 1, 1) := dk_43 (dk_at dksL_law_58 12 rfl rfl)
theorem dL_law_1507 : decode cL_law 1507 = .ok (.aload_n 0, 1) := dk_42 (dk_at dksL_law_58 13 rfl rfl)
theorem dL_law_1508 : decode cL_law 1508 = .ok (.iload 4, 2) := dk_21 4 (dk_at dksL_law_58 14 rfl rfl)
theorem dL_law_1510 : decode cL_law 1510 = .ok (.iconst 1, 1) := dk_4 (dk_at dksL_law_58 16 rfl rfl)
theorem dL_law_1511 : decode cL_law 1511 = .ok (.iadd, 1) := dk_96 (dk_at dksL_law_58 17 rfl rfl)
theorem dL_law_1512 : decode cL_law 1512 = .ok (.iaload, 1) := dk_46 (dk_at dksL_law_58 18 rfl rfl)
theorem dL_law_1513 : decode cL_law 1513 = .ok (.aload_n 0, 1) := dk_42 (dk_at dksL_law_58 19 rfl rfl)
theorem dL_law_1514 : decode cL_law 1514 = .ok (.iload 4, 2) := dk_21 4 (dk_at dksL_law_58 20 rfl rfl)
theorem dL_law_1516 : decode cL_law 1516 = .ok (.iconst 2, 1) := dk_5 (dk_at dksL_law_58 22 rfl rfl)
theorem dL_law_1517 : decode cL_law 1517 = .ok (.iadd, 1) := dk_96 (dk_at dksL_law_58 23 rfl rfl)
theorem dL_law_1518 : decode cL_law 1518 = .ok (.iaload, 1) := dk_46 (dk_at dksL_law_59 0 rfl rfl)
theorem dL_law_1519 : decode cL_law 1519 = .ok (.aload_n 3, 1) := dk_45 (dk_at dksL_law_59 1 rfl rfl)
theorem dL_law_1520 : decode cL_law 1520 = .ok (.invokestatic 188, 3) := dk_184 0 188 (dk_at dksL_law_59 2 rfl rfl)
theorem dL_law_1523 : decode cL_law 1523 = .ok (.istore 5, 2) := dk_54 5 (dk_at dksL_law_59 5 rfl rfl)
theorem dL_law_1525 : decode cL_law 1525 = .ok (.aload_n 2, 1) := dk_44 (dk_at dksL_law_59 7 rfl rfl)
theorem dL_law_1526 : decode cL_law 1526 = .ok (.aload_n 0, 1) := dk_42 (dk_at dksL_law_59 8 rfl rfl)
theorem dL_law_1527 : decode cL_law 1527 = .ok (.iload 4, 2) := dk_21 4 (dk_at dksL_law_59 9 rfl rfl)
theorem dL_law_1529 : decode cL_law 1529 = .ok (.iconst 1, 1) := dk_4 (dk_at dksL_law_59 11 rfl rfl)
theorem dL_law_1530 : decode cL_law 1530 = .ok (.iadd, 1) := dk_96 (dk_at dksL_law_59 12 rfl rfl)
theorem dL_law_1531 : decode cL_law 1531 = .ok (.iaload, 1) := dk_46 (dk_at dksL_law_59 13 rfl rfl)
theorem dL_law_1532 : decode cL_law 1532 = .ok (.aload_n 0, 1) := dk_42 (dk_at dksL_law_59 14 rfl rfl)
theorem dL_law_1533 : decode cL_law 1533 = .ok (.iload 4, 2) := dk_21 4 (dk_at dksL_law_59 15 rfl rfl)
theorem dL_law_1535 : decode cL_law 1535 = .ok (.iconst 2, 1) := dk_5 (dk_at dksL_law_59 17 rfl rfl)
theorem dL_law_1536 : decode cL_law 1536 = .ok (.iadd, 1) := dk_96 (dk_at dksL_law_59 18 rfl rfl)
theorem dL_law_1537 : decode cL_law 1537 = .ok (.iaload, 1) := dk_46 (dk_at dksL_law_59 19 rfl rfl)
theorem dL_law_1538 : decode cL_law 1538 = .ok (.invokevirtual 190, 3) := dk_182 0 190 (dk_at dksL_law_59 20 rfl rfl)
theorem dL_law_1541 : decode cL_law 1541 = .ok (.istore 6, 2) := dk_54 6 (dk_at dksL_law_60 0 rfl rfl)
theorem dL_law_1543 : decode cL_law 1543 = .ok (.aload_n 2, 1) := dk_44 (dk_at dksL_law_60 2 rfl rfl)
theorem dL_law_1544 : decode cL_law 1544 = .ok (.invokevirtual 122, 3) := dk_182 0 122 (dk_at dksL_law_60 3 rfl rfl)
theorem dL_law_1547 : decode cL_law 1547 = .ok (.iload 5, 2) := dk_21 5 (dk_at dksL_law_60 6 rfl rfl)
theorem dL_law_1549 : decode cL_law 1549 = .ok (.if_icmp .eq 5, 3) := dk_159 0 5 (dk_at dksL_law_60 8 rfl rfl)
theorem dL_law_1552 : decode cL_law 1552 = .ok (.iconst 0, 1) := dk_3 (dk_at dksL_law_60 11 rfl rfl)
theorem dL_law_1553 : decode cL_law 1553 = .ok (.ireturn, 1) := dk_172 (dk_at dksL_law_60 12 rfl rfl)
theorem dL_law_1554 : decode cL_law 1554 = .ok (.iload 5, 2) := dk_21 5 (dk_at dksL_law_60 13 rfl rfl)
theorem dL_law_1556 : decode cL_law 1556 = .ok (.ifCond .ne 15, 3) := dk_154 0 15 (dk_at dksL_law_60 15 rfl rfl)
theorem dL_law_1559 : decode cL_law 1559 = .ok (.aload_n 3, 1) := dk_45 (dk_at dksL_law_60 18 rfl rfl)
theorem dL_law_1560 : decode cL_law 1560 = .ok (.iconst 0, 1) := dk_3 (dk_at dksL_law_60 19 rfl rfl)
theorem dL_law_1561 : decode cL_law 1561 = .ok (.laload, 1) := dk_47 (dk_at dksL_law_60 20 rfl rfl)
theorem dL_law_1562 : decode cL_law 1562 = .ok (.iload 6, 2) := dk_21 6 (dk_at dksL_law_60 21 rfl rfl)
theorem dL_law_1564 : decode cL_law 1564 = .ok (.i2l, 1) := dk_133 (dk_at dksL_law_60 23 rfl rfl)
theorem dL_law_1565 : decode cL_law 1565 = .ok (.lcmp, 1) := dk_148 (dk_at dksL_law_61 0 rfl rfl)
theorem dL_law_1566 : decode cL_law 1566 = .ok (.ifCond .eq 5, 3) := dk_153 0 5 (dk_at dksL_law_61 1 rfl rfl)
theorem dL_law_1569 : decode cL_law 1569 = .ok (.iconst 0, 1) := dk_3 (dk_at dksL_law_61 4 rfl rfl)
theorem dL_law_1570 : decode cL_law 1570 = .ok (.ireturn, 1) := dk_172 (dk_at dksL_law_61 5 rfl rfl)
theorem dL_law_1571 : decode cL_law 1571 = .ok (.goto 963, 3) := dk_167 3 195 (dk_at dksL_law_61 6 rfl rfl)
theorem dL_law_1574 : decode cL_law 1574 = .ok (.aload_n 1, 1) := dk_43 (dk_at dksL_law_61 9 rfl rfl)
theorem dL_law_1575 : decode cL_law 1575 = .ok (.aload_n 0, 1) := dk_42 (dk_at dksL_law_61 10 rfl rfl)
theorem dL_law_1576 : decode cL_law 1576 = .ok (.iload 4, 2) := dk_21 4 (dk_at dksL_law_61 11 rfl rfl)
theorem dL_law_1578 : decode cL_law 1578 = .ok (.iconst 1, 1) := dk_4 (dk_at dksL_law_61 13 rfl rfl)
theorem dL_law_1579 : decode cL_law 1579 = .ok (.iadd, 1) := dk_96 (dk_at dksL_law_61 14 rfl rfl)
theorem dL_law_1580 : decode cL_law 1580 = .ok (.iaload, 1) := dk_46 (dk_at dksL_law_61 15 rfl rfl)
theorem dL_law_1581 : decode cL_law 1581 = .ok (.aload_n 0, 1) := dk_42 (dk_at dksL_law_61 16 rfl rfl)
theorem dL_law_1582 : decode cL_law 1582 = .ok (.iload 4, 2) := dk_21 4 (dk_at dksL_law_61 17 rfl rfl)
theorem dL_law_1584 : decode cL_law 1584 = .ok (.iconst 2, 1) := dk_5 (dk_at dksL_law_61 19 rfl rfl)
theorem dL_law_1585 : decode cL_law 1585 = .ok (.iadd, 1) := dk_96 (dk_at dksL_law_61 20 rfl rfl)
theorem dL_law_1586 : decode cL_law 1586 = .ok (.iaload, 1) := dk_46 (dk_at dksL_law_61 21 rfl rfl)
theorem dL_law_1587 : decode cL_law 1587 = .ok (.aload_n 3, 1) := dk_45 (dk_at dksL_law_61 22 rfl rfl)
theorem dL_law_1588 : decode cL_law 1588 = .ok (.invokestatic 191, 3) := dk_184 0 191 (dk_at dksL_law_62 0 rfl rfl)
theorem dL_law_1591 : decode cL_law 1591 = .ok (.istore 5, 2) := dk_54 5 (dk_at dksL_law_62 3 rfl rfl)
theorem dL_law_1593 : decode cL_law 1593 = .ok (.aload_n 2, 1) := dk_44 (dk_at dksL_law_62 5 rfl rfl)
theorem dL_law_1594 : decode cL_law 1594 = .ok (.aload_n 0, 1) := dk_42 (dk_at dksL_law_62 6 rfl rfl)
theorem dL_law_1595 : decode cL_law 1595 = .ok (.iload 4, 2) := dk_21 4 (dk_at dksL_law_62 7 rfl rfl)
theorem dL_law_1597 : decode cL_law 1597 = .ok (.iconst 1, 1) := dk_4 (dk_at dksL_law_62 9 rfl rfl)
theorem dL_law_1598 : decode cL_law 1598 = .ok (.iadd, 1) := dk_96 (dk_at dksL_law_62 10 rfl rfl)
theorem dL_law_1599 : decode cL_law 1599 = .ok (.iaload, 1) := dk_46 (dk_at dksL_law_62 11 rfl rfl)
theorem dL_law_1600 : decode cL_law 1600 = .ok (.aload_n 0, 1) := dk_42 (dk_at dksL_law_62 12 rfl rfl)
theorem dL_law_1601 : decode cL_law 1601 = .ok (.iload 4, 2) := dk_21 4 (dk_at dksL_law_62 13 rfl rfl)
theorem dL_law_1603 : decode cL_law 1603 = .ok (.iconst 2, 1) := dk_5 (dk_at dksL_law_62 15 rfl rfl)
theorem dL_law_1604 : decode cL_law 1604 = .ok (.iadd, 1) := dk_96 (dk_at dksL_law_62 16 rfl rfl)
theorem dL_law_1605 : decode cL_law 1605 = .ok (.iaload, 1) := dk_46 (dk_at dksL_law_62 17 rfl rfl)
theorem dL_law_1606 : decode cL_law 1606 = .ok (.invokevirtual 193, 3) := dk_182 0 193 (dk_at dksL_law_62 18 rfl rfl)
theorem dL_law_1609 : decode cL_law 1609 = .ok (.istore 6, 2) := dk_54 6 (dk_at dksL_law_62 21 rfl rfl)
theorem dL_law_1611 : decode cL_law 1611 = .ok (.aload_n 2, 1) := dk_44 (dk_at dksL_law_62 23 rfl rfl)
theorem dL_law_1612 : decode cL_law 1612 = .ok (.invokevirtual 122, 3) := dk_182 0 122 (dk_at dksL_law_63 0 rfl rfl)
theorem dL_law_1615 : decode cL_law 1615 = .ok (.iload 5, 2) := dk_21 5 (dk_at dksL_law_63 3 rfl rfl)
theorem dL_law_1617 : decode cL_law 1617 = .ok (.if_icmp .eq 5, 3) := dk_159 0 5 (dk_at dksL_law_63 5 rfl rfl)
theorem dL_law_1620 : decode cL_law 1620 = .ok (.iconst 0, 1) := dk_3 (dk_at dksL_law_63 8 rfl rfl)
theorem dL_law_1621 : decode cL_law 1621 = .ok (.ireturn, 1) := dk_172 (dk_at dksL_law_63 9 rfl rfl)
theorem dL_law_1622 : decode cL_law 1622 = .ok (.iload 5, 2) := dk_21 5 (dk_at dksL_law_63 10 rfl rfl)
theorem dL_law_1624 : decode cL_law 1624 = .ok (.ifCond .ne 15, 3) := dk_154 0 15 (dk_at dksL_law_63 12 rfl rfl)
theorem dL_law_1627 : decode cL_law 1627 = .ok (.aload_n 3, 1) := dk_45 (dk_at dksL_law_63 15 rfl rfl)
theorem dL_law_1628 : decode cL_law 1628 = .ok (.iconst 0, 1) := dk_3 (dk_at dksL_law_63 16 rfl rfl)
theorem dL_law_1629 : decode cL_law 1629 = .ok (.laload, 1) := dk_47 (dk_at dksL_law_63 17 rfl rfl)
theorem dL_law_1630 : decode cL_law 1630 = .ok (.iload 6, 2) := dk_21 6 (dk_at dksL_law_63 18 rfl rfl)
theorem dL_law_1632 : decode cL_law 1632 = .ok (.i2l, 1) := dk_133 (dk_at dksL_law_63 20 rfl rfl)
theorem dL_law_1633 : decode cL_law 1633 = .ok (.lcmp, 1) := dk_148 (dk_at dksL_law_63 21 rfl rfl)
theorem dL_law_1634 : decode cL_law 1634 = .ok (.ifCond .eq 5, 3) := dk_153 0 5 (dk_at dksL_law_64 0 rfl rfl)
theorem dL_law_1637 : decode cL_law 1637 = .ok (.iconst 0, 1) := dk_3 (dk_at dksL_law_64 3 rfl rfl)
theorem dL_law_1638 : decode cL_law 1638 = .ok (.ireturn, 1) := dk_172 (dk_at dksL_law_64 4 rfl rfl)
theorem dL_law_1639 : decode cL_law 1639 = .ok (.goto 895, 3) := dk_167 3 127 (dk_at dksL_law_64 5 rfl rfl)
theorem dL_law_1642 : decode cL_law 1642 = .ok (.aload_n 1, 1) := dk_43 (dk_at dksL_law_64 8 rfl rfl)
theorem dL_law_1643 : decode cL_law 1643 = .ok (.invokevirtual 194, 3) := dk_182 0 194 (dk_at dksL_law_64 9 rfl rfl)
theorem dL_law_1646 : decode cL_law 1646 = .ok (.aload_n 2, 1) := dk_44 (dk_at dksL_law_64 12 rfl rfl)
theorem dL_law_1647 : decode cL_law 1647 = .ok (.invokevirtual 197, 3) := dk_182 0 197 (dk_at dksL_law_64 13 rfl rfl)
theorem dL_law_1650 : decode cL_law 1650 = .ok (.if_icmp .eq 884, 3) := dk_159 3 116 (dk_at dksL_law_64 16 rfl rfl)
theorem dL_law_1653 : decode cL_law 1653 = .ok (.iconst 0, 1) := dk_3 (dk_at dksL_law_64 19 rfl rfl)
theorem dL_law_1654 : decode cL_law 1654 = .ok (.ireturn, 1) := dk_172 (dk_at dksL_law_64 20 rfl rfl)
theorem dL_law_1655 : decode cL_law 1655 = .ok (.aload_n 1, 1) := dk_43 (dk_at dksL_law_64 21 rfl rfl)
theorem dL_law_1656 : decode cL_law 1656 = .ok (.aload_n 0, 1) := dk_42 (dk_at dksL_law_64 22 rfl rfl)
theorem dL_law_1657 : decode cL_law 1657 = .ok (.iload 4, 2) := dk_21 4 (dk_at dksL_law_65 0 rfl rfl)
theorem dL_law_1659 : decode cL_law 1659 = .ok (.iconst 1, 1) := dk_4 (dk_at dksL_law_65 2 rfl rfl)
theorem dL_law_1660 : decode cL_law 1660 = .ok (.iadd, 1) := dk_96 (dk_at dksL_law_65 3 rfl rfl)
theorem dL_law_1661 : decode cL_law 1661 = .ok (.iaload, 1) := dk_46 (dk_at dksL_law_65 4 rfl rfl)
theorem dL_law_1662 : decode cL_law 1662 = .ok (.aload_n 0, 1) := dk_42 (dk_at dksL_law_65 5 rfl rfl)
theorem dL_law_1663 : decode cL_law 1663 = .ok (.iload 4, 2) := dk_21 4 (dk_at dksL_law_65 6 rfl rfl)
theorem dL_law_1665 : decode cL_law 1665 = .ok (.iconst 2, 1) := dk_5 (dk_at dksL_law_65 8 rfl rfl)
theorem dL_law_1666 : decode cL_law 1666 = .ok (.iadd, 1) := dk_96 (dk_at dksL_law_65 9 rfl rfl)
theorem dL_law_1667 : decode cL_law 1667 = .ok (.iaload, 1) := dk_46 (dk_at dksL_law_65 10 rfl rfl)
theorem dL_law_1668 : decode cL_law 1668 = .ok (.aload_n 3, 1) := dk_45 (dk_at dksL_law_65 11 rfl rfl)
theorem dL_law_1669 : decode cL_law 1669 = .ok (.invokestatic 198, 3) := dk_184 0 198 (dk_at dksL_law_65 12 rfl rfl)
theorem dL_law_1672 : decode cL_law 1672 = .ok (.istore 5, 2) := dk_54 5 (dk_at dksL_law_65 15 rfl rfl)
theorem dL_law_1674 : decode cL_law 1674 = .ok (.aload_n 2, 1) := dk_44 (dk_at dksL_law_65 17 rfl rfl)
theorem dL_law_1675 : decode cL_law 1675 = .ok (.aload_n 0, 1) := dk_42 (dk_at dksL_law_65 18 rfl rfl)
theorem dL_law_1676 : decode cL_law 1676 = .ok (.iload 4, 2) := dk_21 4 (dk_at dksL_law_65 19 rfl rfl)
theorem dL_law_1678 : decode cL_law 1678 = .ok (.iconst 1, 1) := dk_4 (dk_at dksL_law_65 21 rfl rfl)
theorem dL_law_1679 : decode cL_law 1679 = .ok (.iadd, 1) := dk_96 (dk_at dksL_law_65 22 rfl rfl)
theorem dL_law_1680 : decode cL_law 1680 = .ok (.iaload, 1) := dk_46 (dk_at dksL_law_65 23 rfl rfl)
theorem dL_law_1681 : decode cL_law 1681 = .ok (.aload_n 0, 1) := dk_42 (dk_at dksL_law_66 0 rfl rfl)
theorem dL_law_1682 : decode cL_law 1682 = .ok (.iload 4, 2) := dk_21 4 (dk_at dksL_law_66 1 rfl rfl)
theorem dL_law_1684 : decode cL_law 1684 = .ok (.iconst 2, 1) := dk_5 (dk_at dksL_law_66 3 rfl rfl)
theorem dL_law_1685 : decode cL_law 1685 = .ok (.iadd, 1) := dk_96 (dk_at dksL_law_66 4 rfl rfl)
theorem dL_law_1686 : decode cL_law 1686 = .ok (.iaload, 1) := dk_46 (dk_at dksL_law_66 5 rfl rfl)
theorem dL_law_1687 : decode cL_law 1687 = .ok (.invokevirtual 200, 3) := dk_182 0 200 (dk_at dksL_law_66 6 rfl rfl)
theorem dL_law_1690 : decode cL_law 1690 = .ok (.istore 6, 2) := dk_54 6 (dk_at dksL_law_66 9 rfl rfl)
theorem dL_law_1692 : decode cL_law 1692 = .ok (.aload_n 2, 1) := dk_44 (dk_at dksL_law_66 11 rfl rfl)
theorem dL_law_1693 : decode cL_law 1693 = .ok (.invokevirtual 122, 3) := dk_182 0 122 (dk_at dksL_law_66 12 rfl rfl)
theorem dL_law_1696 : decode cL_law 1696 = .ok (.iload 5, 2) := dk_21 5 (dk_at dksL_law_66 15 rfl rfl)
theorem dL_law_1698 : decode cL_law 1698 = .ok (.if_icmp .eq 5, 3) := dk_159 0 5 (dk_at dksL_law_66 17 rfl rfl)
theorem dL_law_1701 : decode cL_law 1701 = .ok (.iconst 0, 1) := dk_3 (dk_at dksL_law_66 20 rfl rfl)
theorem dL_law_1702 : decode cL_law 1702 = .ok (.ireturn, 1) := dk_172 (dk_at dksL_law_66 21 rfl rfl)
theorem dL_law_1703 : decode cL_law 1703 = .ok (.iload 5, 2) := dk_21 5 (dk_at dksL_law_66 22 rfl rfl)
theorem dL_law_1705 : decode cL_law 1705 = .ok (.ifCond .ne 15, 3) := dk_154 0 15 (dk_at dksL_law_67 0 rfl rfl)
theorem dL_law_1708 : decode cL_law 1708 = .ok (.aload_n 3, 1) := dk_45 (dk_at dksL_law_67 3 rfl rfl)
theorem dL_law_1709 : decode cL_law 1709 = .ok (.iconst 0, 1) := dk_3 (dk_at dksL_law_67 4 rfl rfl)
theorem dL_law_1710 : decode cL_law 1710 = .ok (.laload, 1) := dk_47 (dk_at dksL_law_67 5 rfl rfl)
theorem dL_law_1711 : decode cL_law 1711 = .ok (.iload 6, 2) := dk_21 6 (dk_at dksL_law_67 6 rfl rfl)
theorem dL_law_1713 : decode cL_law 1713 = .ok (.i2l, 1) := dk_133 (dk_at dksL_law_67 8 rfl rfl)
theorem dL_law_1714 : decode cL_law 1714 = .ok (.lcmp, 1) := dk_148 (dk_at dksL_law_67 9 rfl rfl)
theorem dL_law_1715 : decode cL_law 1715 = .ok (.ifCond .eq 5, 3) := dk_153 0 5 (dk_at dksL_law_67 10 rfl rfl)
theorem dL_law_1718 : decode cL_law 1718 = .ok (.iconst 0, 1) := dk_3 (dk_at dksL_law_67 13 rfl rfl)
theorem dL_law_1719 : decode cL_law 1719 = .ok (.ireturn, 1) := dk_172 (dk_at dksL_law_67 14 rfl rfl)
theorem dL_law_1720 : decode cL_law 1720 = .ok (.goto 814, 3) := dk_167 3 46 (dk_at dksL_law_67 15 rfl rfl)
theorem dL_law_1723 : decode cL_law 1723 = .ok (.aload_n 1, 1) := dk_43 (dk_at dksL_law_67 18 rfl rfl)
theorem dL_law_1724 : decode cL_law 1724 = .ok (.invokevirtual 201, 3) := dk_182 0 201 (dk_at dksL_law_67 19 rfl rfl)
theorem dL_law_1727 : decode cL_law 1727 = .ok (.aload_n 2, 1) := dk_44 (dk_at dksL_law_67 22 rfl rfl)
theorem dL_law_1728 : decode cL_law 1728 = .ok (.invokevirtual 204, 3) := dk_182 0 204 (dk_at dksL_law_68 0 rfl rfl)
theorem dL_law_1731 : decode cL_law 1731 = .ok (.if_icmp .eq 803, 3) := dk_159 3 35 (dk_at dksL_law_68 3 rfl rfl)
theorem dL_law_1734 : decode cL_law 1734 = .ok (.iconst 0, 1) := dk_3 (dk_at dksL_law_68 6 rfl rfl)
theorem dL_law_1735 : decode cL_law 1735 = .ok (.ireturn, 1) := dk_172 (dk_at dksL_law_68 7 rfl rfl)
theorem dL_law_1736 : decode cL_law 1736 = .ok (.aload_n 1, 1) := dk_43 (dk_at dksL_law_68 8 rfl rfl)
theorem dL_law_1737 : decode cL_law 1737 = .ok (.aload_n 0, 1) := dk_42 (dk_at dksL_law_68 9 rfl rfl)
theorem dL_law_1738 : decode cL_law 1738 = .ok (.iload 4, 2) := dk_21 4 (dk_at dksL_law_68 10 rfl rfl)
theorem dL_law_1740 : decode cL_law 1740 = .ok (.iconst 1, 1) := dk_4 (dk_at dksL_law_68 12 rfl rfl)
theorem dL_law_1741 : decode cL_law 1741 = .ok (.iadd, 1) := dk_96 (dk_at dksL_law_68 13 rfl rfl)
theorem dL_law_1742 : decode cL_law 1742 = .ok (.iaload, 1) := dk_46 (dk_at dksL_law_68 14 rfl rfl)
theorem dL_law_1743 : decode cL_law 1743 = .ok (.aload_n 0, 1) := dk_42 (dk_at dksL_law_68 15 rfl rfl)
theorem dL_law_1744 : decode cL_law 1744 = .ok (.iload 4, 2) := dk_21 4 (dk_at dksL_law_68 16 rfl rfl)
theorem dL_law_1746 : decode cL_law 1746 = .ok (.iconst 2, 1) := dk_5 (dk_at dksL_law_68 18 rfl rfl)
theorem dL_law_1747 : decode cL_law 1747 = .ok (.iadd, 1) := dk_96 (dk_at dksL_law_68 19 rfl rfl)
theorem dL_law_1748 : decode cL_law 1748 = .ok (.iaload, 1) := dk_46 (dk_at dksL_law_68 20 rfl rfl)
theorem dL_law_1749 : decode cL_law 1749 = .ok (.aload_n 0, 1) := dk_42 (dk_at dksL_law_68 21 rfl rfl)
theorem dL_law_1750 : decode cL_law 1750 = .ok (.iload 4, 2) := dk_21 4 (dk_at dksL_law_68 22 rfl rfl)
theorem dL_law_1752 : decode cL_law 1752 = .ok (.iconst 3, 1) := dk_6 (dk_at dksL_law_69 0 rfl rfl)
theorem dL_law_1753 : decode cL_law 1753 = .ok (.iadd, 1) := dk_96 (dk_at dksL_law_69 1 rfl rfl)
theorem dL_law_1754 : decode cL_law 1754 = .ok (.iaload, 1) := dk_46 (dk_at dksL_law_69 2 rfl rfl)
theorem dL_law_1755 : decode cL_law 1755 = .ok (.aload_n 0, 1) := dk_42 (dk_at dksL_law_69 3 rfl rfl)
theorem dL_law_1756 : decode cL_law 1756 = .ok (.iload 4, 2) := dk_21 4 (dk_at dksL_law_69 4 rfl rfl)
theorem dL_law_1758 : decode cL_law 1758 = .ok (.iconst 4, 1) := dk_7 (dk_at dksL_law_69 6 rfl rfl)
theorem dL_law_1759 : decode cL_law 1759 = .ok (.iadd, 1) := dk_96 (dk_at dksL_law_69 7 rfl rfl)
theorem dL_law_1760 : decode cL_law 1760 = .ok (.iaload, 1) := dk_46 (dk_at dksL_law_69 8 rfl rfl)
theorem dL_law_1761 : decode cL_law 1761 = .ok (.aload_n 3, 1) := dk_45 (dk_at dksL_law_69 9 rfl rfl)
theorem dL_law_1762 : decode cL_law 1762 = .ok (.invokestatic 205, 3) := dk_184 0 205 (dk_at dksL_law_69 10 rfl rfl)
theorem dL_law_1765 : decode cL_law 1765 = .ok (.istore 5, 2) := dk_54 5 (dk_at dksL_law_69 13 rfl rfl)
theorem dL_law_1767 : decode cL_law 1767 = .ok (.aload_n 2, 1) := dk_44 (dk_at dksL_law_69 15 rfl rfl)
theorem dL_law_1768 : decode cL_law 1768 = .ok (.aload_n 0, 1) := dk_42 (dk_at dksL_law_69 16 rfl rfl)
theorem dL_law_1769 : decode cL_law 1769 = .ok (.iload 4, 2) := dk_21 4 (dk_at dksL_law_69 17 rfl rfl)
theorem dL_law_1771 : decode cL_law 1771 = .ok (.iconst 1, 1) := dk_4 (dk_at dksL_law_69 19 rfl rfl)
theorem dL_law_1772 : decode cL_law 1772 = .ok (.iadd, 1) := dk_96 (dk_at dksL_law_69 20 rfl rfl)
theorem dL_law_1773 : decode cL_law 1773 = .ok (.iaload, 1) := dk_46 (dk_at dksL_law_69 21 rfl rfl)
theorem dL_law_1774 : decode cL_law 1774 = .ok (.aload_n 0, 1) := dk_42 (dk_at dksL_law_69 22 rfl rfl)
theorem dL_law_1775 : decode cL_law 1775 = .ok (.iload 4, 2) := dk_21 4 (dk_at dksL_law_70 0 rfl rfl)
theorem dL_law_1777 : decode cL_law 1777 = .ok (.iconst 2, 1) := dk_5 (dk_at dksL_law_70 2 rfl rfl)
theorem dL_law_1778 : decode cL_law 1778 = .ok (.iadd, 1) := dk_96 (dk_at dksL_law_70 3 rfl rfl)
theorem dL_law_1779 : decode cL_law 1779 = .ok (.iaload, 1) := dk_46 (dk_at dksL_law_70 4 rfl rfl)
theorem dL_law_1780 : decode cL_law 1780 = .ok (.aload_n 0, 1) := dk_42 (dk_at dksL_law_70 5 rfl rfl)
theorem dL_law_1781 : decode cL_law 1781 = .ok (.iload 4, 2) := dk_21 4 (dk_at dksL_law_70 6 rfl rfl)
theorem dL_law_1783 : decode cL_law 1783 = .ok (.iconst 3, 1) := dk_6 (dk_at dksL_law_70 8 rfl rfl)
theorem dL_law_1784 : decode cL_law 1784 = .ok (.iadd, 1) := dk_96 (dk_at dksL_law_70 9 rfl rfl)
theorem dL_law_1785 : decode cL_law 1785 = .ok (.iaload, 1) := dk_46 (dk_at dksL_law_70 10 rfl rfl)
theorem dL_law_1786 : decode cL_law 1786 = .ok (.aload_n 0, 1) := dk_42 (dk_at dksL_law_70 11 rfl rfl)
theorem dL_law_1787 : decode cL_law 1787 = .ok (.iload 4, 2) := dk_21 4 (dk_at dksL_law_70 12 rfl rfl)
theorem dL_law_1789 : decode cL_law 1789 = .ok (.iconst 4, 1) := dk_7 (dk_at dksL_law_70 14 rfl rfl)
theorem dL_law_1790 : decode cL_law 1790 = .ok (.iadd, 1) := dk_96 (dk_at dksL_law_70 15 rfl rfl)
theorem dL_law_1791 : decode cL_law 1791 = .ok (.iaload, 1) := dk_46 (dk_at dksL_law_70 16 rfl rfl)
theorem dL_law_1792 : decode cL_law 1792 = .ok (.invokevirtual 208, 3) := dk_182 0 208 (dk_at dksL_law_70 17 rfl rfl)
theorem dL_law_1795 : decode cL_law 1795 = .ok (.istore 6, 2) := dk_54 6 (dk_at dksL_law_70 20 rfl rfl)
theorem dL_law_1797 : decode cL_law 1797 = .ok (.aload_n 2, 1) := dk_44 (dk_at dksL_law_70 22 rfl rfl)
theorem dL_law_1798 : decode cL_law 1798 = .ok (.invokevirtual 122, 3) := dk_182 0 122 (dk_at dksL_law_71 0 rfl rfl)
theorem dL_law_1801 : decode cL_law 1801 = .ok (.iload 5, 2) := dk_21 5 (dk_at dksL_law_71 3 rfl rfl)
theorem dL_law_1803 : decode cL_law 1803 = .ok (.if_icmp .eq 5, 3) := dk_159 0 5 (dk_at dksL_law_71 5 rfl rfl)
theorem dL_law_1806 : decode cL_law 1806 = .ok (.iconst 0, 1) := dk_3 (dk_at dksL_law_71 8 rfl rfl)
theorem dL_law_1807 : decode cL_law 1807 = .ok (.ireturn, 1) := dk_172 (dk_at dksL_law_71 9 rfl rfl)
theorem dL_law_1808 : decode cL_law 1808 = .ok (.iload 5, 2) := dk_21 5 (dk_at dksL_law_71 10 rfl rfl)
theorem dL_law_1810 : decode cL_law 1810 = .ok (.ifCond .ne 15, 3) := dk_154 0 15 (dk_at dksL_law_71 12 rfl rfl)
theorem dL_law_1813 : decode cL_law 1813 = .ok (.aload_n 3, 1) := dk_45 (dk_at dksL_law_71 15 rfl rfl)
theorem dL_law_1814 : decode cL_law 1814 = .ok (.iconst 0, 1) := dk_3 (dk_at dksL_law_71 16 rfl rfl)
theorem dL_law_1815 : decode cL_law 1815 = .ok (.laload, 1) := dk_47 (dk_at dksL_law_71 17 rfl rfl)
theorem dL_law_1816 : decode cL_law 1816 = .ok (.iload 6, 2) := dk_21 6 (dk_at dksL_law_71 18 rfl rfl)
theorem dL_law_1818 : decode cL_law 1818 = .ok (.i2l, 1) := dk_133 (dk_at dksL_law_71 20 rfl rfl)
theorem dL_law_1819 : decode cL_law 1819 = .ok (.lcmp, 1) := dk_148 (dk_at dksL_law_71 21 rfl rfl)
theorem dL_law_1820 : decode cL_law 1820 = .ok (.ifCond .eq 5, 3) := dk_153 0 5 (dk_at dksL_law_72 0 rfl rfl)
theorem dL_law_1823 : decode cL_law 1823 = .ok (.iconst 0, 1) := dk_3 (dk_at dksL_law_72 3 rfl rfl)
theorem dL_law_1824 : decode cL_law 1824 = .ok (.ireturn, 1) := dk_172 (dk_at dksL_law_72 4 rfl rfl)
theorem dL_law_1825 : decode cL_law 1825 = .ok (.goto 709, 3) := dk_167 2 197 (dk_at dksL_law_72 5 rfl rfl)
theorem dL_law_1828 : decode cL_law 1828 = .ok (.aload_n 1, 1) := dk_43 (dk_at dksL_law_72 8 rfl rfl)
theorem dL_law_1829 : decode cL_law 1829 = .ok (.aload_n 0, 1) := dk_42 (dk_at dksL_law_72 9 rfl rfl)
theorem dL_law_1830 : decode cL_law 1830 = .ok (.iload 4, 2) := dk_21 4 (dk_at dksL_law_72 10 rfl rfl)
theorem dL_law_1832 : decode cL_law 1832 = .ok (.iconst 1, 1) := dk_4 (dk_at dksL_law_72 12 rfl rfl)
theorem dL_law_1833 : decode cL_law 1833 = .ok (.iadd, 1) := dk_96 (dk_at dksL_law_72 13 rfl rfl)
theorem dL_law_1834 : decode cL_law 1834 = .ok (.iaload, 1) := dk_46 (dk_at dksL_law_72 14 rfl rfl)
theorem dL_law_1835 : decode cL_law 1835 = .ok (.aload_n 0, 1) := dk_42 (dk_at dksL_law_72 15 rfl rfl)
theorem dL_law_1836 : decode cL_law 1836 = .ok (.iload 4, 2) := dk_21 4 (dk_at dksL_law_72 16 rfl rfl)
theorem dL_law_1838 : decode cL_law 1838 = .ok (.iconst 2, 1) := dk_5 (dk_at dksL_law_72 18 rfl rfl)
theorem dL_law_1839 : decode cL_law 1839 = .ok (.iadd, 1) := dk_96 (dk_at dksL_law_72 19 rfl rfl)
theorem dL_law_1840 : decode cL_law 1840 = .ok (.iaload, 1) := dk_46 (dk_at dksL_law_72 20 rfl rfl)
theorem dL_law_1841 : decode cL_law 1841 = .ok (.aload_n 0, 1) := dk_42 (dk_at dksL_law_72 21 rfl rfl)
theorem dL_law_1842 : decode cL_law 1842 = .ok (.iload 4, 2) := dk_21 4 (dk_at dksL_law_72 22 rfl rfl)
theorem dL_law_1844 : decode cL_law 1844 = .ok (.iconst 3, 1) := dk_6 (dk_at dksL_law_73 0 rfl rfl)
theorem dL_law_1845 : decode cL_law 1845 = .ok (.iadd, 1) := dk_96 (dk_at dksL_law_73 1 rfl rfl)
theorem dL_law_1846 : decode cL_law 1846 = .ok (.iaload, 1) := dk_46 (dk_at dksL_law_73 2 rfl rfl)
theorem dL_law_1847 : decode cL_law 1847 = .ok (.aload_n 0, 1) := dk_42 (dk_at dksL_law_73 3 rfl rfl)
theorem dL_law_1848 : decode cL_law 1848 = .ok (.iload 4, 2) := dk_21 4 (dk_at dksL_law_73 4 rfl rfl)
theorem dL_law_1850 : decode cL_law 1850 = .ok (.iconst 4, 1) := dk_7 (dk_at dksL_law_73 6 rfl rfl)
theorem dL_law_1851 : decode cL_law 1851 = .ok (.iadd, 1) := dk_96 (dk_at dksL_law_73 7 rfl rfl)
theorem dL_law_1852 : decode cL_law 1852 = .ok (.iaload, 1) := dk_46 (dk_at dksL_law_73 8 rfl rfl)
theorem dL_law_1853 : decode cL_law 1853 = .ok (.aload_n 3, 1) := dk_45 (dk_at dksL_law_73 9 rfl rfl)
theorem dL_law_1854 : decode cL_law 1854 = .ok (.invokestatic 209, 3) := dk_184 0 209 (dk_at dksL_law_73 10 rfl rfl)
theorem dL_law_1857 : decode cL_law 1857 = .ok (.istore 5, 2) := dk_54 5 (dk_at dksL_law_73 13 rfl rfl)
theorem dL_law_1859 : decode cL_law 1859 = .ok (.aload_n 2, 1) := dk_44 (dk_at dksL_law_73 15 rfl rfl)
theorem dL_law_1860 : decode cL_law 1860 = .ok (.aload_n 0, 1) := dk_42 (dk_at dksL_law_73 16 rfl rfl)
theorem dL_law_1861 : decode cL_law 1861 = .ok (.iload 4, 2) := dk_21 4 (dk_at dksL_law_73 17 rfl rfl)
theorem dL_law_1863 : decode cL_law 1863 = .ok (.iconst 1, 1) := dk_4 (dk_at dksL_law_73 19 rfl rfl)
theorem dL_law_1864 : decode cL_law 1864 = .ok (.iadd, 1) := dk_96 (dk_at dksL_law_73 20 rfl rfl)
theorem dL_law_1865 : decode cL_law 1865 = .ok (.iaload, 1) := dk_46 (dk_at dksL_law_73 21 rfl rfl)
theorem dL_law_1866 : decode cL_law 1866 = .ok (.aload_n 0, 1) := dk_42 (dk_at dksL_law_73 22 rfl rfl)
theorem dL_law_1867 : decode cL_law 1867 = .ok (.iload 4, 2) := dk_21 4 (dk_at dksL_law_74 0 rfl rfl)
theorem dL_law_1869 : decode cL_law 1869 = .ok (.iconst 2, 1) := dk_5 (dk_at dksL_law_74 2 rfl rfl)
theorem dL_law_1870 : decode cL_law 1870 = .ok (.iadd, 1) := dk_96 (dk_at dksL_law_74 3 rfl rfl)
theorem dL_law_1871 : decode cL_law 1871 = .ok (.iaload, 1) := dk_46 (dk_at dksL_law_74 4 rfl rfl)
theorem dL_law_1872 : decode cL_law 1872 = .ok (.aload_n 0, 1) := dk_42 (dk_at dksL_law_74 5 rfl rfl)
theorem dL_law_1873 : decode cL_law 1873 = .ok (.iload 4, 2) := dk_21 4 (dk_at dksL_law_74 6 rfl rfl)
theorem dL_law_1875 : decode cL_law 1875 = .ok (.iconst 3, 1) := dk_6 (dk_at dksL_law_74 8 rfl rfl)
theorem dL_law_1876 : decode cL_law 1876 = .ok (.iadd, 1) := dk_96 (dk_at dksL_law_74 9 rfl rfl)
theorem dL_law_1877 : decode cL_law 1877 = .ok (.iaload, 1) := dk_46 (dk_at dksL_law_74 10 rfl rfl)
theorem dL_law_1878 : decode cL_law 1878 = .ok (.aload_n 0, 1) := dk_42 (dk_at dksL_law_74 11 rfl rfl)
theorem dL_law_1879 : decode cL_law 1879 = .ok (.iload 4, 2) := dk_21 4 (dk_at dksL_law_74 12 rfl rfl)
theorem dL_law_1881 : decode cL_law 1881 = .ok (.iconst 4, 1) := dk_7 (dk_at dksL_law_74 14 rfl rfl)
theorem dL_law_1882 : decode cL_law 1882 = .ok (.iadd, 1) := dk_96 (dk_at dksL_law_74 15 rfl rfl)
theorem dL_law_1883 : decode cL_law 1883 = .ok (.iaload, 1) := dk_46 (dk_at dksL_law_74 16 rfl rfl)
theorem dL_law_1884 : decode cL_law 1884 = .ok (.invokevirtual 211, 3) := dk_182 0 211 (dk_at dksL_law_74 17 rfl rfl)
theorem dL_law_1887 : decode cL_law 1887 = .ok (.lstore 6, 2) := dk_55 6 (dk_at dksL_law_74 20 rfl rfl)
theorem dL_law_1889 : decode cL_law 1889 = .ok (.aload_n 2, 1) := dk_44 (dk_at dksL_law_74 22 rfl rfl)
theorem dL_law_1890 : decode cL_law 1890 = .ok (.invokevirtual 122, 3) := dk_182 0 122 (dk_at dksL_law_75 0 rfl rfl)
theorem dL_law_1893 : decode cL_law 1893 = .ok (.iload 5, 2) := dk_21 5 (dk_at dksL_law_75 3 rfl rfl)
theorem dL_law_1895 : decode cL_law 1895 = .ok (.if_icmp .eq 5, 3) := dk_159 0 5 (dk_at dksL_law_75 5 rfl rfl)
theorem dL_law_1898 : decode cL_law 1898 = .ok (.iconst 0, 1) := dk_3 (dk_at dksL_law_75 8 rfl rfl)
theorem dL_law_1899 : decode cL_law 1899 = .ok (.ireturn, 1) := dk_172 (dk_at dksL_law_75 9 rfl rfl)
theorem dL_law_1900 : decode cL_law 1900 = .ok (.iload 5, 2) := dk_21 5 (dk_at dksL_law_75 10 rfl rfl)
theorem dL_law_1902 : decode cL_law 1902 = .ok (.ifCond .ne 14, 3) := dk_154 0 14 (dk_at dksL_law_75 12 rfl rfl)
theorem dL_law_1905 : decode cL_law 1905 = .ok (.aload_n 3, 1) := dk_45 (dk_at dksL_law_75 15 rfl rfl)
theorem dL_law_1906 : decode cL_law 1906 = .ok (.iconst 0, 1) := dk_3 (dk_at dksL_law_75 16 rfl rfl)
theorem dL_law_1907 : decode cL_law 1907 = .ok (.laload, 1) := dk_47 (dk_at dksL_law_75 17 rfl rfl)
theorem dL_law_1908 : decode cL_law 1908 = .ok (.lload 6, 2) := dk_22 6 (dk_at dksL_law_75 18 rfl rfl)
theorem dL_law_1910 : decode cL_law 1910 = .ok (.lcmp, 1) := dk_148 (dk_at dksL_law_75 20 rfl rfl)
theorem dL_law_1911 : decode cL_law 1911 = .ok (.ifCond .eq 5, 3) := dk_153 0 5 (dk_at dksL_law_75 21 rfl rfl)
theorem dL_law_1914 : decode cL_law 1914 = .ok (.iconst 0, 1) := dk_3 (dk_at dksL_law_76 0 rfl rfl)
theorem dL_law_1915 : decode cL_law 1915 = .ok (.ireturn, 1) := dk_172 (dk_at dksL_law_76 1 rfl rfl)
theorem dL_law_1916 : decode cL_law 1916 = .ok (.goto 618, 3) := dk_167 2 106 (dk_at dksL_law_76 2 rfl rfl)
theorem dL_law_1919 : decode cL_law 1919 = .ok (.aload_n 1, 1) := dk_43 (dk_at dksL_law_76 5 rfl rfl)
theorem dL_law_1920 : decode cL_law 1920 = .ok (.aload_n 0, 1) := dk_42 (dk_at dksL_law_76 6 rfl rfl)
theorem dL_law_1921 : decode cL_law 1921 = .ok (.iload 4, 2) := dk_21 4 (dk_at dksL_law_76 7 rfl rfl)
theorem dL_law_1923 : decode cL_law 1923 = .ok (.iconst 1, 1) := dk_4 (dk_at dksL_law_76 9 rfl rfl)
theorem dL_law_1924 : decode cL_law 1924 = .ok (.iadd, 1) := dk_96 (dk_at dksL_law_76 10 rfl rfl)
theorem dL_law_1925 : decode cL_law 1925 = .ok (.iaload, 1) := dk_46 (dk_at dksL_law_76 11 rfl rfl)
theorem dL_law_1926 : decode cL_law 1926 = .ok (.aload_n 0, 1) := dk_42 (dk_at dksL_law_76 12 rfl rfl)
theorem dL_law_1927 : decode cL_law 1927 = .ok (.iload 4, 2) := dk_21 4 (dk_at dksL_law_76 13 rfl rfl)
theorem dL_law_1929 : decode cL_law 1929 = .ok (.iconst 2, 1) := dk_5 (dk_at dksL_law_76 15 rfl rfl)
theorem dL_law_1930 : decode cL_law 1930 = .ok (.iadd, 1) := dk_96 (dk_at dksL_law_76 16 rfl rfl)
theorem dL_law_1931 : decode cL_law 1931 = .ok (.iaload, 1) := dk_46 (dk_at dksL_law_76 17 rfl rfl)
theorem dL_law_1932 : decode cL_law 1932 = .ok (.aload_n 0, 1) := dk_42 (dk_at dksL_law_76 18 rfl rfl)
theorem dL_law_1933 : decode cL_law 1933 = .ok (.iload 4, 2) := dk_21 4 (dk_at dksL_law_76 19 rfl rfl)
theorem dL_law_1935 : decode cL_law 1935 = .ok (.iconst 3, 1) := dk_6 (dk_at dksL_law_76 21 rfl rfl)
theorem dL_law_1936 : decode cL_law 1936 = .ok (.iadd, 1) := dk_96 (dk_at dksL_law_76 22 rfl rfl)
theorem dL_law_1937 : decode cL_law 1937 = .ok (.iaload, 1) := dk_46 (dk_at dksL_law_76 23 rfl rfl)
theorem dL_law_1938 : decode cL_law 1938 = .ok (.aload_n 3, 1) := dk_45 (dk_at dksL_law_77 0 rfl rfl)
theorem dL_law_1939 : decode cL_law 1939 = .ok (.invokestatic 212, 3) := dk_184 0 212 (dk_at dksL_law_77 1 rfl rfl)
theorem dL_law_1942 : decode cL_law 1942 = .ok (.istore 5, 2) := dk_54 5 (dk_at dksL_law_77 4 rfl rfl)
theorem dL_law_1944 : decode cL_law 1944 = .ok (.aload_n 2, 1) := dk_44 (dk_at dksL_law_77 6 rfl rfl)
theorem dL_law_1945 : decode cL_law 1945 = .ok (.aload_n 0, 1) := dk_42 (dk_at dksL_law_77 7 rfl rfl)
theorem dL_law_1946 : decode cL_law 1946 = .ok (.iload 4, 2) := dk_21 4 (dk_at dksL_law_77 8 rfl rfl)
theorem dL_law_1948 : decode cL_law 1948 = .ok (.iconst 1, 1) := dk_4 (dk_at dksL_law_77 10 rfl rfl)
theorem dL_law_1949 : decode cL_law 1949 = .ok (.iadd, 1) := dk_96 (dk_at dksL_law_77 11 rfl rfl)
theorem dL_law_1950 : decode cL_law 1950 = .ok (.iaload, 1) := dk_46 (dk_at dksL_law_77 12 rfl rfl)
theorem dL_law_1951 : decode cL_law 1951 = .ok (.aload_n 0, 1) := dk_42 (dk_at dksL_law_77 13 rfl rfl)
theorem dL_law_1952 : decode cL_law 1952 = .ok (.iload 4, 2) := dk_21 4 (dk_at dksL_law_77 14 rfl rfl)
theorem dL_law_1954 : decode cL_law 1954 = .ok (.iconst 2, 1) := dk_5 (dk_at dksL_law_77 16 rfl rfl)
theorem dL_law_1955 : decode cL_law 1955 = .ok (.iadd, 1) := dk_96 (dk_at dksL_law_77 17 rfl rfl)
theorem dL_law_1956 : decode cL_law 1956 = .ok (.iaload, 1) := dk_46 (dk_at dksL_law_77 18 rfl rfl)
theorem dL_law_1957 : decode cL_law 1957 = .ok (.aload_n 0, 1) := dk_42 (dk_at dksL_law_77 19 rfl rfl)
theorem dL_law_1958 : decode cL_law 1958 = .ok (.iload 4, 2) := dk_21 4 (dk_at dksL_law_77 20 rfl rfl)
theorem dL_law_1960 : decode cL_law 1960 = .ok (.iconst 3, 1) := dk_6 (dk_at dksL_law_77 22 rfl rfl)
theorem dL_law_1961 : decode cL_law 1961 = .ok (.iadd, 1) := dk_96 (dk_at dksL_law_77 23 rfl rfl)
theorem dL_law_1962 : decode cL_law 1962 = .ok (.iaload, 1) := dk_46 (dk_at dksL_law_78 0 rfl rfl)
theorem dL_law_1963 : decode cL_law 1963 = .ok (.invokevirtual 215, 3) := dk_182 0 215 (dk_at dksL_law_78 1 rfl rfl)
theorem dL_law_1966 : decode cL_law 1966 = .ok (.istore 6, 2) := dk_54 6 (dk_at dksL_law_78 4 rfl rfl)
theorem dL_law_1968 : decode cL_law 1968 = .ok (.aload_n 2, 1) := dk_44 (dk_at dksL_law_78 6 rfl rfl)
theorem dL_law_1969 : decode cL_law 1969 = .ok (.invokevirtual 122, 3) := dk_182 0 122 (dk_at dksL_law_78 7 rfl rfl)
theorem dL_law_1972 : decode cL_law 1972 = .ok (.iload 5, 2) := dk_21 5 (dk_at dksL_law_78 10 rfl rfl)
theorem dL_law_1974 : decode cL_law 1974 = .ok (.if_icmp .eq 5, 3) := dk_159 0 5 (dk_at dksL_law_78 12 rfl rfl)
theorem dL_law_1977 : decode cL_law 1977 = .ok (.iconst 0, 1) := dk_3 (dk_at dksL_law_78 15 rfl rfl)
theorem dL_law_1978 : decode cL_law 1978 = .ok (.ireturn, 1) := dk_172 (dk_at dksL_law_78 16 rfl rfl)
theorem dL_law_1979 : decode cL_law 1979 = .ok (.iload 5, 2) := dk_21 5 (dk_at dksL_law_78 17 rfl rfl)
theorem dL_law_1981 : decode cL_law 1981 = .ok (.ifCond .ne 15, 3) := dk_154 0 15 (dk_at dksL_law_78 19 rfl rfl)
theorem dL_law_1984 : decode cL_law 1984 = .ok (.aload_n 3, 1) := dk_45 (dk_at dksL_law_78 22 rfl rfl)
theorem dL_law_1985 : decode cL_law 1985 = .ok (.iconst 0, 1) := dk_3 (dk_at dksL_law_78 23 rfl rfl)
theorem dL_law_1986 : decode cL_law 1986 = .ok (.laload, 1) := dk_47 (dk_at dksL_law_79 0 rfl rfl)
theorem dL_law_1987 : decode cL_law 1987 = .ok (.iload 6, 2) := dk_21 6 (dk_at dksL_law_79 1 rfl rfl)
theorem dL_law_1989 : decode cL_law 1989 = .ok (.i2l, 1) := dk_133 (dk_at dksL_law_79 3 rfl rfl)
theorem dL_law_1990 : decode cL_law 1990 = .ok (.lcmp, 1) := dk_148 (dk_at dksL_law_79 4 rfl rfl)
theorem dL_law_1991 : decode cL_law 1991 = .ok (.ifCond .eq 5, 3) := dk_153 0 5 (dk_at dksL_law_79 5 rfl rfl)
theorem dL_law_1994 : decode cL_law 1994 = .ok (.iconst 0, 1) := dk_3 (dk_at dksL_law_79 8 rfl rfl)
theorem dL_law_1995 : decode cL_law 1995 = .ok (.ireturn, 1) := dk_172 (dk_at dksL_law_79 9 rfl rfl)
theorem dL_law_1996 : decode cL_law 1996 = .ok (.goto 538, 3) := dk_167 2 26 (dk_at dksL_law_79 10 rfl rfl)
theorem dL_law_1999 : decode cL_law 1999 = .ok (.aload_n 1, 1) := dk_43 (dk_at dksL_law_79 13 rfl rfl)
theorem dL_law_2000 : decode cL_law 2000 = .ok (.aload_n 0, 1) := dk_42 (dk_at dksL_law_79 14 rfl rfl)
theorem dL_law_2001 : decode cL_law 2001 = .ok (.iload 4, 2) := dk_21 4 (dk_at dksL_law_79 15 rfl rfl)
theorem dL_law_2003 : decode cL_law 2003 = .ok (.iconst 1, 1) := dk_4 (dk_at dksL_law_79 17 rfl rfl)
theorem dL_law_2004 : decode cL_law 2004 = .ok (.iadd, 1) := dk_96 (dk_at dksL_law_79 18 rfl rfl)
theorem dL_law_2005 : decode cL_law 2005 = .ok (.iaload, 1) := dk_46 (dk_at dksL_law_79 19 rfl rfl)
theorem dL_law_2006 : decode cL_law 2006 = .ok (.aload_n 0, 1) := dk_42 (dk_at dksL_law_79 20 rfl rfl)
theorem dL_law_2007 : decode cL_law 2007 = .ok (.iload 4, 2) := dk_21 4 (dk_at dksL_law_79 21 rfl rfl)
theorem dL_law_2009 : decode cL_law 2009 = .ok (.iconst 2, 1) := dk_5 (dk_at dksL_law_79 23 rfl rfl)
theorem dL_law_2010 : decode cL_law 2010 = .ok (.iadd, 1) := dk_96 (dk_at dksL_law_80 0 rfl rfl)
theorem dL_law_2011 : decode cL_law 2011 = .ok (.iaload, 1) := dk_46 (dk_at dksL_law_80 1 rfl rfl)
theorem dL_law_2012 : decode cL_law 2012 = .ok (.aload_n 3, 1) := dk_45 (dk_at dksL_law_80 2 rfl rfl)
theorem dL_law_2013 : decode cL_law 2013 = .ok (.invokestatic 216, 3) := dk_184 0 216 (dk_at dksL_law_80 3 rfl rfl)
theorem dL_law_2016 : decode cL_law 2016 = .ok (.istore 5, 2) := dk_54 5 (dk_at dksL_law_80 6 rfl rfl)
theorem dL_law_2018 : decode cL_law 2018 = .ok (.aload_n 2, 1) := dk_44 (dk_at dksL_law_80 8 rfl rfl)
theorem dL_law_2019 : decode cL_law 2019 = .ok (.aload_n 0, 1) := dk_42 (dk_at dksL_law_80 9 rfl rfl)
theorem dL_law_2020 : decode cL_law 2020 = .ok (.iload 4, 2) := dk_21 4 (dk_at dksL_law_80 10 rfl rfl)
theorem dL_law_2022 : decode cL_law 2022 = .ok (.iconst 1, 1) := dk_4 (dk_at dksL_law_80 12 rfl rfl)
theorem dL_law_2023 : decode cL_law 2023 = .ok (.iadd, 1) := dk_96 (dk_at dksL_law_80 13 rfl rfl)
theorem dL_law_2024 : decode cL_law 2024 = .ok (.iaload, 1) := dk_46 (dk_at dksL_law_80 14 rfl rfl)
theorem dL_law_2025 : decode cL_law 2025 = .ok (.aload_n 0, 1) := dk_42 (dk_at dksL_law_80 15 rfl rfl)
theorem dL_law_2026 : decode cL_law 2026 = .ok (.iload 4, 2) := dk_21 4 (dk_at dksL_law_80 16 rfl rfl)
theorem dL_law_2028 : decode cL_law 2028 = .ok (.iconst 2, 1) := dk_5 (dk_at dksL_law_80 18 rfl rfl)
theorem dL_law_2029 : decode cL_law 2029 = .ok (.iadd, 1) := dk_96 (dk_at dksL_law_80 19 rfl rfl)
theorem dL_law_2030 : decode cL_law 2030 = .ok (.iaload, 1) := dk_46 (dk_at dksL_law_80 20 rfl rfl)
theorem dL_law_2031 : decode cL_law 2031 = .ok (.invokevirtual 218, 3) := dk_182 0 218 (dk_at dksL_law_80 21 rfl rfl)
theorem dL_law_2034 : decode cL_law 2034 = .ok (.istore 6, 2) := dk_54 6 (dk_at dksL_law_81 0 rfl rfl)
theorem dL_law_2036 : decode cL_law 2036 = .ok (.aload_n 2, 1) := dk_44 (dk_at dksL_law_81 2 rfl rfl)
theorem dL_law_2037 : decode cL_law 2037 = .ok (.invokevirtual 122, 3) := dk_182 0 122 (dk_at dksL_law_81 3 rfl rfl)
theorem dL_law_2040 : decode cL_law 2040 = .ok (.iload 5, 2) := dk_21 5 (dk_at dksL_law_81 6 rfl rfl)
theorem dL_law_2042 : decode cL_law 2042 = .ok (.if_icmp .eq 5, 3) := dk_159 0 5 (dk_at dksL_law_81 8 rfl rfl)
theorem dL_law_2045 : decode cL_law 2045 = .ok (.iconst 0, 1) := dk_3 (dk_at dksL_law_81 11 rfl rfl)
theorem dL_law_2046 : decode cL_law 2046 = .ok (.ireturn, 1) := dk_172 (dk_at dksL_law_81 12 rfl rfl)
theorem dL_law_2047 : decode cL_law 2047 = .ok (.iload 5, 2) := dk_21 5 (dk_at dksL_law_81 13 rfl rfl)
theorem dL_law_2049 : decode cL_law 2049 = .ok (.ifCond .ne 15, 3) := dk_154 0 15 (dk_at dksL_law_81 15 rfl rfl)
theorem dL_law_2052 : decode cL_law 2052 = .ok (.aload_n 3, 1) := dk_45 (dk_at dksL_law_81 18 rfl rfl)
theorem dL_law_2053 : decode cL_law 2053 = .ok (.iconst 0, 1) := dk_3 (dk_at dksL_law_81 19 rfl rfl)
theorem dL_law_2054 : decode cL_law 2054 = .ok (.laload, 1) := dk_47 (dk_at dksL_law_81 20 rfl rfl)
theorem dL_law_2055 : decode cL_law 2055 = .ok (.iload 6, 2) := dk_21 6 (dk_at dksL_law_81 21 rfl rfl)
theorem dL_law_2057 : decode cL_law 2057 = .ok (.i2l, 1) := dk_133 (dk_at dksL_law_81 23 rfl rfl)
theorem dL_law_2058 : decode cL_law 2058 = .ok (.lcmp, 1) := dk_148 (dk_at dksL_law_82 0 rfl rfl)
theorem dL_law_2059 : decode cL_law 2059 = .ok (.ifCond .eq 5, 3) := dk_153 0 5 (dk_at dksL_law_82 1 rfl rfl)
theorem dL_law_2062 : decode cL_law 2062 = .ok (.iconst 0, 1) := dk_3 (dk_at dksL_law_82 4 rfl rfl)
theorem dL_law_2063 : decode cL_law 2063 = .ok (.ireturn, 1) := dk_172 (dk_at dksL_law_82 5 rfl rfl)
theorem dL_law_2064 : decode cL_law 2064 = .ok (.goto 470, 3) := dk_167 1 214 (dk_at dksL_law_82 6 rfl rfl)
theorem dL_law_2067 : decode cL_law 2067 = .ok (.aload_n 1, 1) := dk_43 (dk_at dksL_law_82 9 rfl rfl)
theorem dL_law_2068 : decode cL_law 2068 = .ok (.aload_n 0, 1) := dk_42 (dk_at dksL_law_82 10 rfl rfl)
theorem dL_law_2069 : decode cL_law 2069 = .ok (.iload 4, 2) := dk_21 4 (dk_at dksL_law_82 11 rfl rfl)
theorem dL_law_2071 : decode cL_law 2071 = .ok (.iconst 1, 1) := dk_4 (dk_at dksL_law_82 13 rfl rfl)
theorem dL_law_2072 : decode cL_law 2072 = .ok (.iadd, 1) := dk_96 (dk_at dksL_law_82 14 rfl rfl)
theorem dL_law_2073 : decode cL_law 2073 = .ok (.iaload, 1) := dk_46 (dk_at dksL_law_82 15 rfl rfl)
theorem dL_law_2074 : decode cL_law 2074 = .ok (.aload_n 3, 1) := dk_45 (dk_at dksL_law_82 16 rfl rfl)
theorem dL_law_2075 : decode cL_law 2075 = .ok (.invokestatic 219, 3) := dk_184 0 219 (dk_at dksL_law_82 17 rfl rfl)
theorem dL_law_2078 : decode cL_law 2078 = .ok (.istore 5, 2) := dk_54 5 (dk_at dksL_law_82 20 rfl rfl)
theorem dL_law_2080 : decode cL_law 2080 = .ok (.aload_n 2, 1) := dk_44 (dk_at dksL_law_82 22 rfl rfl)
theorem dL_law_2081 : decode cL_law 2081 = .ok (.aload_n 0, 1) := dk_42 (dk_at dksL_law_82 23 rfl rfl)
theorem dL_law_2082 : decode cL_law 2082 = .ok (.iload 4, 2) := dk_21 4 (dk_at dksL_law_83 0 rfl rfl)
theorem dL_law_2084 : decode cL_law 2084 = .ok (.iconst 1, 1) := dk_4 (dk_at dksL_law_83 2 rfl rfl)
theorem dL_law_2085 : decode cL_law 2085 = .ok (.iadd, 1) := dk_96 (dk_at dksL_law_83 3 rfl rfl)
theorem dL_law_2086 : decode cL_law 2086 = .ok (.iaload, 1) := dk_46 (dk_at dksL_law_83 4 rfl rfl)
theorem dL_law_2087 : decode cL_law 2087 = .ok (.invokevirtual 221, 3) := dk_182 0 221 (dk_at dksL_law_83 5 rfl rfl)
theorem dL_law_2090 : decode cL_law 2090 = .ok (.istore 6, 2) := dk_54 6 (dk_at dksL_law_83 8 rfl rfl)
theorem dL_law_2092 : decode cL_law 2092 = .ok (.aload_n 2, 1) := dk_44 (dk_at dksL_law_83 10 rfl rfl)
theorem dL_law_2093 : decode cL_law 2093 = .ok (.invokevirtual 122, 3) := dk_182 0 122 (dk_at dksL_law_83 11 rfl rfl)
theorem dL_law_2096 : decode cL_law 2096 = .ok (.iload 5, 2) := dk_21 5 (dk_at dksL_law_83 14 rfl rfl)
theorem dL_law_2098 : decode cL_law 2098 = .ok (.if_icmp .eq 5, 3) := dk_159 0 5 (dk_at dksL_law_83 16 rfl rfl)
theorem dL_law_2101 : decode cL_law 2101 = .ok (.iconst 0, 1) := dk_3 (dk_at dksL_law_83 19 rfl rfl)
theorem dL_law_2102 : decode cL_law 2102 = .ok (.ireturn, 1) := dk_172 (dk_at dksL_law_83 20 rfl rfl)
theorem dL_law_2103 : decode cL_law 2103 = .ok (.iload 5, 2) := dk_21 5 (dk_at dksL_law_83 21 rfl rfl)
theorem dL_law_2105 : decode cL_law 2105 = .ok (.ifCond .ne 15, 3) := dk_154 0 15 (dk_at dksL_law_84 0 rfl rfl)
theorem dL_law_2108 : decode cL_law 2108 = .ok (.aload_n 3, 1) := dk_45 (dk_at dksL_law_84 3 rfl rfl)
theorem dL_law_2109 : decode cL_law 2109 = .ok (.iconst 0, 1) := dk_3 (dk_at dksL_law_84 4 rfl rfl)
theorem dL_law_2110 : decode cL_law 2110 = .ok (.laload, 1) := dk_47 (dk_at dksL_law_84 5 rfl rfl)
theorem dL_law_2111 : decode cL_law 2111 = .ok (.iload 6, 2) := dk_21 6 (dk_at dksL_law_84 6 rfl rfl)
theorem dL_law_2113 : decode cL_law 2113 = .ok (.i2l, 1) := dk_133 (dk_at dksL_law_84 8 rfl rfl)
theorem dL_law_2114 : decode cL_law 2114 = .ok (.lcmp, 1) := dk_148 (dk_at dksL_law_84 9 rfl rfl)
theorem dL_law_2115 : decode cL_law 2115 = .ok (.ifCond .eq 5, 3) := dk_153 0 5 (dk_at dksL_law_84 10 rfl rfl)
theorem dL_law_2118 : decode cL_law 2118 = .ok (.iconst 0, 1) := dk_3 (dk_at dksL_law_84 13 rfl rfl)
theorem dL_law_2119 : decode cL_law 2119 = .ok (.ireturn, 1) := dk_172 (dk_at dksL_law_84 14 rfl rfl)
theorem dL_law_2120 : decode cL_law 2120 = .ok (.goto 414, 3) := dk_167 1 158 (dk_at dksL_law_84 15 rfl rfl)
theorem dL_law_2123 : decode cL_law 2123 = .ok (.aload_n 1, 1) := dk_43 (dk_at dksL_law_84 18 rfl rfl)
theorem dL_law_2124 : decode cL_law 2124 = .ok (.aload_n 0, 1) := dk_42 (dk_at dksL_law_84 19 rfl rfl)
theorem dL_law_2125 : decode cL_law 2125 = .ok (.iload 4, 2) := dk_21 4 (dk_at dksL_law_84 20 rfl rfl)
theorem dL_law_2127 : decode cL_law 2127 = .ok (.iconst 1, 1) := dk_4 (dk_at dksL_law_84 22 rfl rfl)
theorem dL_law_2128 : decode cL_law 2128 = .ok (.iadd, 1) := dk_96 (dk_at dksL_law_84 23 rfl rfl)
theorem dL_law_2129 : decode cL_law 2129 = .ok (.iaload, 1) := dk_46 (dk_at dksL_law_85 0 rfl rfl)
theorem dL_law_2130 : decode cL_law 2130 = .ok (.aload_n 3, 1) := dk_45 (dk_at dksL_law_85 1 rfl rfl)
theorem dL_law_2131 : decode cL_law 2131 = .ok (.invokestatic 222, 3) := dk_184 0 222 (dk_at dksL_law_85 2 rfl rfl)
theorem dL_law_2134 : decode cL_law 2134 = .ok (.istore 5, 2) := dk_54 5 (dk_at dksL_law_85 5 rfl rfl)
theorem dL_law_2136 : decode cL_law 2136 = .ok (.aload_n 2, 1) := dk_44 (dk_at dksL_law_85 7 rfl rfl)
theorem dL_law_2137 : decode cL_law 2137 = .ok (.aload_n 0, 1) := dk_42 (dk_at dksL_law_85 8 rfl rfl)
theorem dL_law_2138 : decode cL_law 2138 = .ok (.iload 4, 2) := dk_21 4 (dk_at dksL_law_85 9 rfl rfl)
theorem dL_law_2140 : decode cL_law 2140 = .ok (.iconst 1, 1) := dk_4 (dk_at dksL_law_85 11 rfl rfl)
theorem dL_law_2141 : decode cL_law 2141 = .ok (.iadd, 1) := dk_96 (dk_at dksL_law_85 12 rfl rfl)
theorem dL_law_2142 : decode cL_law 2142 = .ok (.iaload, 1) := dk_46 (dk_at dksL_law_85 13 rfl rfl)
theorem dL_law_2143 : decode cL_law 2143 = .ok (.invokevirtual 224, 3) := dk_182 0 224 (dk_at dksL_law_85 14 rfl rfl)
theorem dL_law_2146 : decode cL_law 2146 = .ok (.istore 6, 2) := dk_54 6 (dk_at dksL_law_85 17 rfl rfl)
theorem dL_law_2148 : decode cL_law 2148 = .ok (.aload_n 2, 1) := dk_44 (dk_at dksL_law_85 19 rfl rfl)
theorem dL_law_2149 : decode cL_law 2149 = .ok (.invokevirtual 122, 3) := dk_182 0 122 (dk_at dksL_law_85 20 rfl rfl)
theorem dL_law_2152 : decode cL_law 2152 = .ok (.iload 5, 2) := dk_21 5 (dk_at dksL_law_86 0 rfl rfl)
theorem dL_law_2154 : decode cL_law 2154 = .ok (.if_icmp .eq 5, 3) := dk_159 0 5 (dk_at dksL_law_86 2 rfl rfl)
theorem dL_law_2157 : decode cL_law 2157 = .ok (.iconst 0, 1) := dk_3 (dk_at dksL_law_86 5 rfl rfl)
theorem dL_law_2158 : decode cL_law 2158 = .ok (.ireturn, 1) := dk_172 (dk_at dksL_law_86 6 rfl rfl)
theorem dL_law_2159 : decode cL_law 2159 = .ok (.iload 5, 2) := dk_21 5 (dk_at dksL_law_86 7 rfl rfl)
theorem dL_law_2161 : decode cL_law 2161 = .ok (.ifCond .ne 15, 3) := dk_154 0 15 (dk_at dksL_law_86 9 rfl rfl)
theorem dL_law_2164 : decode cL_law 2164 = .ok (.aload_n 3, 1) := dk_45 (dk_at dksL_law_86 12 rfl rfl)
theorem dL_law_2165 : decode cL_law 2165 = .ok (.iconst 0, 1) := dk_3 (dk_at dksL_law_86 13 rfl rfl)
theorem dL_law_2166 : decode cL_law 2166 = .ok (.laload, 1) := dk_47 (dk_at dksL_law_86 14 rfl rfl)
theorem dL_law_2167 : decode cL_law 2167 = .ok (.iload 6, 2) := dk_21 6 (dk_at dksL_law_86 15 rfl rfl)
theorem dL_law_2169 : decode cL_law 2169 = .ok (.i2l, 1) := dk_133 (dk_at dksL_law_86 17 rfl rfl)
theorem dL_law_2170 : decode cL_law 2170 = .ok (.lcmp, 1) := dk_148 (dk_at dksL_law_86 18 rfl rfl)
theorem dL_law_2171 : decode cL_law 2171 = .ok (.ifCond .eq 5, 3) := dk_153 0 5 (dk_at dksL_law_86 19 rfl rfl)
theorem dL_law_2174 : decode cL_law 2174 = .ok (.iconst 0, 1) := dk_3 (dk_at dksL_law_86 22 rfl rfl)
theorem dL_law_2175 : decode cL_law 2175 = .ok (.ireturn, 1) := dk_172 (dk_at dksL_law_86 23 rfl rfl)
theorem dL_law_2176 : decode cL_law 2176 = .ok (.goto 358, 3) := dk_167 1 102 (dk_at dksL_law_87 0 rfl rfl)
theorem dL_law_2179 : decode cL_law 2179 = .ok (.aload_n 1, 1) := dk_43 (dk_at dksL_law_87 3 rfl rfl)
theorem dL_law_2180 : decode cL_law 2180 = .ok (.invokevirtual 225, 3) := dk_182 0 225 (dk_at dksL_law_87 4 rfl rfl)
theorem dL_law_2183 : decode cL_law 2183 = .ok (.aload_n 2, 1) := dk_44 (dk_at dksL_law_87 7 rfl rfl)
theorem dL_law_2184 : decode cL_law 2184 = .ok (.invokevirtual 228, 3) := dk_182 0 228 (dk_at dksL_law_87 8 rfl rfl)
theorem dL_law_2187 : decode cL_law 2187 = .ok (.if_icmp .eq 347, 3) := dk_159 1 91 (dk_at dksL_law_87 11 rfl rfl)
theorem dL_law_2190 : decode cL_law 2190 = .ok (.iconst 0, 1) := dk_3 (dk_at dksL_law_87 14 rfl rfl)
theorem dL_law_2191 : decode cL_law 2191 = .ok (.ireturn, 1) := dk_172 (dk_at dksL_law_87 15 rfl rfl)
theorem dL_law_2192 : decode cL_law 2192 = .ok (.aload_n 1, 1) := dk_43 (dk_at dksL_law_87 16 rfl rfl)
theorem dL_law_2193 : decode cL_law 2193 = .ok (.aload_n 0, 1) := dk_42 (dk_at dksL_law_87 17 rfl rfl)
theorem dL_law_2194 : decode cL_law 2194 = .ok (.iload 4, 2) := dk_21 4 (dk_at dksL_law_87 18 rfl rfl)
theorem dL_law_2196 : decode cL_law 2196 = .ok (.iconst 1, 1) := dk_4 (dk_at dksL_law_87 20 rfl rfl)
theorem dL_law_2197 : decode cL_law 2197 = .ok (.iadd, 1) := dk_96 (dk_at dksL_law_87 21 rfl rfl)
theorem dL_law_2198 : decode cL_law 2198 = .ok (.iaload, 1) := dk_46 (dk_at dksL_law_87 22 rfl rfl)
theorem dL_law_2199 : decode cL_law 2199 = .ok (.aload_n 3, 1) := dk_45 (dk_at dksL_law_87 23 rfl rfl)
theorem dL_law_2200 : decode cL_law 2200 = .ok (.invokestatic 229, 3) := dk_184 0 229 (dk_at dksL_law_88 0 rfl rfl)
theorem dL_law_2203 : decode cL_law 2203 = .ok (.istore 5, 2) := dk_54 5 (dk_at dksL_law_88 3 rfl rfl)
theorem dL_law_2205 : decode cL_law 2205 = .ok (.aload_n 2, 1) := dk_44 (dk_at dksL_law_88 5 rfl rfl)
theorem dL_law_2206 : decode cL_law 2206 = .ok (.aload_n 0, 1) := dk_42 (dk_at dksL_law_88 6 rfl rfl)
theorem dL_law_2207 : decode cL_law 2207 = .ok (.iload 4, 2) := dk_21 4 (dk_at dksL_law_88 7 rfl rfl)
theorem dL_law_2209 : decode cL_law 2209 = .ok (.iconst 1, 1) := dk_4 (dk_at dksL_law_88 9 rfl rfl)
theorem dL_law_2210 : decode cL_law 2210 = .ok (.iadd, 1) := dk_96 (dk_at dksL_law_88 10 rfl rfl)
theorem dL_law_2211 : decode cL_law 2211 = .ok (.iaload, 1) := dk_46 (dk_at dksL_law_88 11 rfl rfl)
theorem dL_law_2212 : decode cL_law 2212 = .ok (.invokevirtual 231, 3) := dk_182 0 231 (dk_at dksL_law_88 12 rfl rfl)
theorem dL_law_2215 : decode cL_law 2215 = .ok (.istore 6, 2) := dk_54 6 (dk_at dksL_law_88 15 rfl rfl)
theorem dL_law_2217 : decode cL_law 2217 = .ok (.aload_n 2, 1) := dk_44 (dk_at dksL_law_88 17 rfl rfl)
theorem dL_law_2218 : decode cL_law 2218 = .ok (.invokevirtual 122, 3) := dk_182 0 122 (dk_at dksL_law_88 18 rfl rfl)
theorem dL_law_2221 : decode cL_law 2221 = .ok (.iload 5, 2) := dk_21 5 (dk_at dksL_law_88 21 rfl rfl)
theorem dL_law_2223 : decode cL_law 2223 = .ok (.if_icmp .eq 5, 3) := dk_159 0 5 (dk_at dksL_law_89 0 rfl rfl)
theorem dL_law_2226 : decode cL_law 2226 = .ok (.iconst 0, 1) := dk_3 (dk_at dksL_law_89 3 rfl rfl)
theorem dL_law_2227 : decode cL_law 2227 = .ok (.ireturn, 1) := dk_172 (dk_at dksL_law_89 4 rfl rfl)
theorem dL_law_2228 : decode cL_law 2228 = .ok (.iload 5, 2) := dk_21 5 (dk_at dksL_law_89 5 rfl rfl)
theorem dL_law_2230 : decode cL_law 2230 = .ok (.ifCond .ne 15, 3) := dk_154 0 15 (dk_at dksL_law_89 7 rfl rfl)
theorem dL_law_2233 : decode cL_law 2233 = .ok (.aload_n 3, 1) := dk_45 (dk_at dksL_law_89 10 rfl rfl)
theorem dL_law_2234 : decode cL_law 2234 = .ok (.iconst 0, 1) := dk_3 (dk_at dksL_law_89 11 rfl rfl)
theorem dL_law_2235 : decode cL_law 2235 = .ok (.laload, 1) := dk_47 (dk_at dksL_law_89 12 rfl rfl)
theorem dL_law_2236 : decode cL_law 2236 = .ok (.iload 6, 2) := dk_21 6 (dk_at dksL_law_89 13 rfl rfl)
theorem dL_law_2238 : decode cL_law 2238 = .ok (.i2l, 1) := dk_133 (dk_at dksL_law_89 15 rfl rfl)
theorem dL_law_2239 : decode cL_law 2239 = .ok (.lcmp, 1) := dk_148 (dk_at dksL_law_89 16 rfl rfl)
theorem dL_law_2240 : decode cL_law 2240 = .ok (.ifCond .eq 5, 3) := dk_153 0 5 (dk_at dksL_law_89 17 rfl rfl)
theorem dL_law_2243 : decode cL_law 2243 = .ok (.iconst 0, 1) := dk_3 (dk_at dksL_law_89 20 rfl rfl)
theorem dL_law_2244 : decode cL_law 2244 = .ok (.ireturn, 1) := dk_172 (dk_at dksL_law_89 21 rfl rfl)
theorem dL_law_2245 : decode cL_law 2245 = .ok (.goto 289, 3) := dk_167 1 33 (dk_at dksL_law_90 0 rfl rfl)
theorem dL_law_2248 : decode cL_law 2248 = .ok (.aload_n 1, 1) := dk_43 (dk_at dksL_law_90 3 rfl rfl)
theorem dL_law_2249 : decode cL_law 2249 = .ok (.aload_n 0, 1) := dk_42 (dk_at dksL_law_90 4 rfl rfl)
theorem dL_law_2250 : decode cL_law 2250 = .ok (.iload 4, 2) := dk_21 4 (dk_at dksL_law_90 5 rfl rfl)
theorem dL_law_2252 : decode cL_law 2252 = .ok (.iconst 1, 1) := dk_4 (dk_at dksL_law_90 7 rfl rfl)
theorem dL_law_2253 : decode cL_law 2253 = .ok (.iadd, 1) := dk_96 (dk_at dksL_law_90 8 rfl rfl)
theorem dL_law_2254 : decode cL_law 2254 = .ok (.iaload, 1) := dk_46 (dk_at dksL_law_90 9 rfl rfl)
theorem dL_law_2255 : decode cL_law 2255 = .ok (.aload_n 0, 1) := dk_42 (dk_at dksL_law_90 10 rfl rfl)
theorem dL_law_2256 : decode cL_law 2256 = .ok (.iload 4, 2) := dk_21 4 (dk_at dksL_law_90 11 rfl rfl)
theorem dL_law_2258 : decode cL_law 2258 = .ok (.iconst 2, 1) := dk_5 (dk_at dksL_law_90 13 rfl rfl)
theorem dL_law_2259 : decode cL_law 2259 = .ok (.iadd, 1) := dk_96 (dk_at dksL_law_90 14 rfl rfl)
theorem dL_law_2260 : decode cL_law 2260 = .ok (.iaload, 1) := dk_46 (dk_at dksL_law_90 15 rfl rfl)
theorem dL_law_2261 : decode cL_law 2261 = .ok (.aload_n 0, 1) := dk_42 (dk_at dksL_law_90 16 rfl rfl)
theorem dL_law_2262 : decode cL_law 2262 = .ok (.iload 4, 2) := dk_21 4 (dk_at dksL_law_90 17 rfl rfl)
theorem dL_law_2264 : decode cL_law 2264 = .ok (.iconst 3, 1) := dk_6 (dk_at dksL_law_90 19 rfl rfl)
theorem dL_law_2265 : decode cL_law 2265 = .ok (.iadd, 1) := dk_96 (dk_at dksL_law_90 20 rfl rfl)
theorem dL_law_2266 : decode cL_law 2266 = .ok (.iaload, 1) := dk_46 (dk_at dksL_law_90 21 rfl rfl)
theorem dL_law_2267 : decode cL_law 2267 = .ok (.aload_n 0, 1) := dk_42 (dk_at dksL_law_90 22 rfl rfl)
theorem dL_law_2268 : decode cL_law 2268 = .ok (.iload 4, 2) := dk_21 4 (dk_at dksL_law_91 0 rfl rfl)
theorem dL_law_2270 : decode cL_law 2270 = .ok (.iconst 4, 1) := dk_7 (dk_at dksL_law_91 2 rfl rfl)
theorem dL_law_2271 : decode cL_law 2271 = .ok (.iadd, 1) := dk_96 (dk_at dksL_law_91 3 rfl rfl)
theorem dL_law_2272 : decode cL_law 2272 = .ok (.iaload, 1) := dk_46 (dk_at dksL_law_91 4 rfl rfl)
theorem dL_law_2273 : decode cL_law 2273 = .ok (.aload_n 3, 1) := dk_45 (dk_at dksL_law_91 5 rfl rfl)
theorem dL_law_2274 : decode cL_law 2274 = .ok (.invokestatic 232, 3) := dk_184 0 232 (dk_at dksL_law_91 6 rfl rfl)
theorem dL_law_2277 : decode cL_law 2277 = .ok (.istore 5, 2) := dk_54 5 (dk_at dksL_law_91 9 rfl rfl)
theorem dL_law_2279 : decode cL_law 2279 = .ok (.aload_n 2, 1) := dk_44 (dk_at dksL_law_91 11 rfl rfl)
theorem dL_law_2280 : decode cL_law 2280 = .ok (.aload_n 0, 1) := dk_42 (dk_at dksL_law_91 12 rfl rfl)
theorem dL_law_2281 : decode cL_law 2281 = .ok (.iload 4, 2) := dk_21 4 (dk_at dksL_law_91 13 rfl rfl)
theorem dL_law_2283 : decode cL_law 2283 = .ok (.iconst 1, 1) := dk_4 (dk_at dksL_law_91 15 rfl rfl)
theorem dL_law_2284 : decode cL_law 2284 = .ok (.iadd, 1) := dk_96 (dk_at dksL_law_91 16 rfl rfl)
theorem dL_law_2285 : decode cL_law 2285 = .ok (.iaload, 1) := dk_46 (dk_at dksL_law_91 17 rfl rfl)
theorem dL_law_2286 : decode cL_law 2286 = .ok (.aload_n 0, 1) := dk_42 (dk_at dksL_law_91 18 rfl rfl)
theorem dL_law_2287 : decode cL_law 2287 = .ok (.iload 4, 2) := dk_21 4 (dk_at dksL_law_91 19 rfl rfl)
theorem dL_law_2289 : decode cL_law 2289 = .ok (.iconst 2, 1) := dk_5 (dk_at dksL_law_91 21 rfl rfl)
theorem dL_law_2290 : decode cL_law 2290 = .ok (.iadd, 1) := dk_96 (dk_at dksL_law_91 22 rfl rfl)
theorem dL_law_2291 : decode cL_law 2291 = .ok (.iaload, 1) := dk_46 (dk_at dksL_law_91 23 rfl rfl)
theorem dL_law_2292 : decode cL_law 2292 = .ok (.aload_n 0, 1) := dk_42 (dk_at dksL_law_92 0 rfl rfl)
theorem dL_law_2293 : decode cL_law 2293 = .ok (.iload 4, 2) := dk_21 4 (dk_at dksL_law_92 1 rfl rfl)
theorem dL_law_2295 : decode cL_law 2295 = .ok (.iconst 3, 1) := dk_6 (dk_at dksL_law_92 3 rfl rfl)
theorem dL_law_2296 : decode cL_law 2296 = .ok (.iadd, 1) := dk_96 (dk_at dksL_law_92 4 rfl rfl)
theorem dL_law_2297 : decode cL_law 2297 = .ok (.iaload, 1) := dk_46 (dk_at dksL_law_92 5 rfl rfl)
theorem dL_law_2298 : decode cL_law 2298 = .ok (.aload_n 0, 1) := dk_42 (dk_at dksL_law_92 6 rfl rfl)
theorem dL_law_2299 : decode cL_law 2299 = .ok (.iload 4, 2) := dk_21 4 (dk_at dksL_law_92 7 rfl rfl)
theorem dL_law_2301 : decode cL_law 2301 = .ok (.iconst 4, 1) := dk_7 (dk_at dksL_law_92 9 rfl rfl)
theorem dL_law_2302 : decode cL_law 2302 = .ok (.iadd, 1) := dk_96 (dk_at dksL_law_92 10 rfl rfl)
theorem dL_law_2303 : decode cL_law 2303 = .ok (.iaload, 1) := dk_46 (dk_at dksL_law_92 11 rfl rfl)
theorem dL_law_2304 : decode cL_law 2304 = .ok (.invokevirtual 234, 3) := dk_182 0 234 (dk_at dksL_law_92 12 rfl rfl)
theorem dL_law_2307 : decode cL_law 2307 = .ok (.istore 6, 2) := dk_54 6 (dk_at dksL_law_92 15 rfl rfl)
theorem dL_law_2309 : decode cL_law 2309 = .ok (.aload_n 2, 1) := dk_44 (dk_at dksL_law_92 17 rfl rfl)
theorem dL_law_2310 : decode cL_law 2310 = .ok (.invokevirtual 122, 3) := dk_182 0 122 (dk_at dksL_law_92 18 rfl rfl)
theorem dL_law_2313 : decode cL_law 2313 = .ok (.iload 5, 2) := dk_21 5 (dk_at dksL_law_92 21 rfl rfl)
theorem dL_law_2315 : decode cL_law 2315 = .ok (.if_icmp .eq 5, 3) := dk_159 0 5 (dk_at dksL_law_93 0 rfl rfl)
theorem dL_law_2318 : decode cL_law 2318 = .ok (.iconst 0, 1) := dk_3 (dk_at dksL_law_93 3 rfl rfl)
theorem dL_law_2319 : decode cL_law 2319 = .ok (.ireturn, 1) := dk_172 (dk_at dksL_law_93 4 rfl rfl)
theorem dL_law_2320 : decode cL_law 2320 = .ok (.iload 5, 2) := dk_21 5 (dk_at dksL_law_93 5 rfl rfl)
theorem dL_law_2322 : decode cL_law 2322 = .ok (.ifCond .ne 15, 3) := dk_154 0 15 (dk_at dksL_law_93 7 rfl rfl)
theorem dL_law_2325 : decode cL_law 2325 = .ok (.aload_n 3, 1) := dk_45 (dk_at dksL_law_93 10 rfl rfl)
theorem dL_law_2326 : decode cL_law 2326 = .ok (.iconst 0, 1) := dk_3 (dk_at dksL_law_93 11 rfl rfl)
theorem dL_law_2327 : decode cL_law 2327 = .ok (.laload, 1) := dk_47 (dk_at dksL_law_93 12 rfl rfl)
theorem dL_law_2328 : decode cL_law 2328 = .ok (.iload 6, 2) := dk_21 6 (dk_at dksL_law_93 13 rfl rfl)
theorem dL_law_2330 : decode cL_law 2330 = .ok (.i2l, 1) := dk_133 (dk_at dksL_law_93 15 rfl rfl)
theorem dL_law_2331 : decode cL_law 2331 = .ok (.lcmp, 1) := dk_148 (dk_at dksL_law_93 16 rfl rfl)
theorem dL_law_2332 : decode cL_law 2332 = .ok (.ifCond .eq 5, 3) := dk_153 0 5 (dk_at dksL_law_93 17 rfl rfl)
theorem dL_law_2335 : decode cL_law 2335 = .ok (.iconst 0, 1) := dk_3 (dk_at dksL_law_93 20 rfl rfl)
theorem dL_law_2336 : decode cL_law 2336 = .ok (.ireturn, 1) := dk_172 (dk_at dksL_law_93 21 rfl rfl)
theorem dL_law_2337 : decode cL_law 2337 = .ok (.goto 197, 3) := dk_167 0 197 (dk_at dksL_law_94 0 rfl rfl)
theorem dL_law_2340 : decode cL_law 2340 = .ok (.aload_n 1, 1) := dk_43 (dk_at dksL_law_94 3 rfl rfl)
theorem dL_law_2341 : decode cL_law 2341 = .ok (.aload_n 0, 1) := dk_42 (dk_at dksL_law_94 4 rfl rfl)
theorem dL_law_2342 : decode cL_law 2342 = .ok (.iload 4, 2) := dk_21 4 (dk_at dksL_law_94 5 rfl rfl)
theorem dL_law_2344 : decode cL_law 2344 = .ok (.iconst 1, 1) := dk_4 (dk_at dksL_law_94 7 rfl rfl)
theorem dL_law_2345 : decode cL_law 2345 = .ok (.iadd, 1) := dk_96 (dk_at dksL_law_94 8 rfl rfl)
theorem dL_law_2346 : decode cL_law 2346 = .ok (.iaload, 1) := dk_46 (dk_at dksL_law_94 9 rfl rfl)
theorem dL_law_2347 : decode cL_law 2347 = .ok (.aload_n 0, 1) := dk_42 (dk_at dksL_law_94 10 rfl rfl)
theorem dL_law_2348 : decode cL_law 2348 = .ok (.iload 4, 2) := dk_21 4 (dk_at dksL_law_94 11 rfl rfl)
theorem dL_law_2350 : decode cL_law 2350 = .ok (.iconst 2, 1) := dk_5 (dk_at dksL_law_94 13 rfl rfl)
theorem dL_law_2351 : decode cL_law 2351 = .ok (.iadd, 1) := dk_96 (dk_at dksL_law_94 14 rfl rfl)
theorem dL_law_2352 : decode cL_law 2352 = .ok (.iaload, 1) := dk_46 (dk_at dksL_law_94 15 rfl rfl)
theorem dL_law_2353 : decode cL_law 2353 = .ok (.aload_n 0, 1) := dk_42 (dk_at dksL_law_94 16 rfl rfl)
theorem dL_law_2354 : decode cL_law 2354 = .ok (.iload 4, 2) := dk_21 4 (dk_at dksL_law_94 17 rfl rfl)
theorem dL_law_2356 : decode cL_law 2356 = .ok (.iconst 3, 1) := dk_6 (dk_at dksL_law_94 19 rfl rfl)
theorem dL_law_2357 : decode cL_law 2357 = .ok (.iadd, 1) := dk_96 (dk_at dksL_law_94 20 rfl rfl)
theorem dL_law_2358 : decode cL_law 2358 = .ok (.iaload, 1) := dk_46 (dk_at dksL_law_94 21 rfl rfl)
theorem dL_law_2359 : decode cL_law 2359 = .ok (.aload_n 0, 1) := dk_42 (dk_at dksL_law_94 22 rfl rfl)
theorem dL_law_2360 : decode cL_law 2360 = .ok (.iload 4, 2) := dk_21 4 (dk_at dksL_law_95 0 rfl rfl)
theorem dL_law_2362 : decode cL_law 2362 = .ok (.iconst 4, 1) := dk_7 (dk_at dksL_law_95 2 rfl rfl)
theorem dL_law_2363 : decode cL_law 2363 = .ok (.iadd, 1) := dk_96 (dk_at dksL_law_95 3 rfl rfl)
theorem dL_law_2364 : decode cL_law 2364 = .ok (.iaload, 1) := dk_46 (dk_at dksL_law_95 4 rfl rfl)
theorem dL_law_2365 : decode cL_law 2365 = .ok (.aload_n 0, 1) := dk_42 (dk_at dksL_law_95 5 rfl rfl)
theorem dL_law_2366 : decode cL_law 2366 = .ok (.iload 4, 2) := dk_21 4 (dk_at dksL_law_95 6 rfl rfl)
theorem dL_law_2368 : decode cL_law 2368 = .ok (.iconst 5, 1) := dk_8 (dk_at dksL_law_95 8 rfl rfl)
theorem dL_law_2369 : decode cL_law 2369 = .ok (.iadd, 1) := dk_96 (dk_at dksL_law_95 9 rfl rfl)
theorem dL_law_2370 : decode cL_law 2370 = .ok (.iaload, 1) := dk_46 (dk_at dksL_law_95 10 rfl rfl)
theorem dL_law_2371 : decode cL_law 2371 = .ok (.aload_n 0, 1) := dk_42 (dk_at dksL_law_95 11 rfl rfl)
theorem dL_law_2372 : decode cL_law 2372 = .ok (.iload 4, 2) := dk_21 4 (dk_at dksL_law_95 12 rfl rfl)
theorem dL_law_2374 : decode cL_law 2374 = .ok (.bipush 6, 2) := dk_16 6 (dk_at dksL_law_95 14 rfl rfl)
theorem dL_law_2376 : decode cL_law 2376 = .ok (.iadd, 1) := dk_96 (dk_at dksL_law_95 16 rfl rfl)
theorem dL_law_2377 : decode cL_law 2377 = .ok (.iaload, 1) := dk_46 (dk_at dksL_law_95 17 rfl rfl)
theorem dL_law_2378 : decode cL_law 2378 = .ok (.aload_n 3, 1) := dk_45 (dk_at dksL_law_95 18 rfl rfl)
theorem dL_law_2379 : decode cL_law 2379 = .ok (.invokestatic 235, 3) := dk_184 0 235 (dk_at dksL_law_95 19 rfl rfl)
theorem dL_law_2382 : decode cL_law 2382 = .ok (.istore 5, 2) := dk_54 5 (dk_at dksL_law_95 22 rfl rfl)
theorem dL_law_2384 : decode cL_law 2384 = .ok (.aload_n 2, 1) := dk_44 (dk_at dksL_law_96 0 rfl rfl)
theorem dL_law_2385 : decode cL_law 2385 = .ok (.aload_n 0, 1) := dk_42 (dk_at dksL_law_96 1 rfl rfl)
theorem dL_law_2386 : decode cL_law 2386 = .ok (.iload 4, 2) := dk_21 4 (dk_at dksL_law_96 2 rfl rfl)
theorem dL_law_2388 : decode cL_law 2388 = .ok (.iconst 1, 1) := dk_4 (dk_at dksL_law_96 4 rfl rfl)
theorem dL_law_2389 : decode cL_law 2389 = .ok (.iadd, 1) := dk_96 (dk_at dksL_law_96 5 rfl rfl)
theorem dL_law_2390 : decode cL_law 2390 = .ok (.iaload, 1) := dk_46 (dk_at dksL_law_96 6 rfl rfl)
theorem dL_law_2391 : decode cL_law 2391 = .ok (.aload_n 0, 1) := dk_42 (dk_at dksL_law_96 7 rfl rfl)
theorem dL_law_2392 : decode cL_law 2392 = .ok (.iload 4, 2) := dk_21 4 (dk_at dksL_law_96 8 rfl rfl)
theorem dL_law_2394 : decode cL_law 2394 = .ok (.iconst 2, 1) := dk_5 (dk_at dksL_law_96 10 rfl rfl)
theorem dL_law_2395 : decode cL_law 2395 = .ok (.iadd, 1) := dk_96 (dk_at dksL_law_96 11 rfl rfl)
theorem dL_law_2396 : decode cL_law 2396 = .ok (.iaload, 1) := dk_46 (dk_at dksL_law_96 12 rfl rfl)
theorem dL_law_2397 : decode cL_law 2397 = .ok (.aload_n 0, 1) := dk_42 (dk_at dksL_law_96 13 rfl rfl)
theorem dL_law_2398 : decode cL_law 2398 = .ok (.iload 4, 2) := dk_21 4 (dk_at dksL_law_96 14 rfl rfl)
theorem dL_law_2400 : decode cL_law 2400 = .ok (.iconst 3, 1) := dk_6 (dk_at dksL_law_96 16 rfl rfl)
theorem dL_law_2401 : decode cL_law 2401 = .ok (.iadd, 1) := dk_96 (dk_at dksL_law_96 17 rfl rfl)
theorem dL_law_2402 : decode cL_law 2402 = .ok (.iaload, 1) := dk_46 (dk_at dksL_law_96 18 rfl rfl)
theorem dL_law_2403 : decode cL_law 2403 = .ok (.aload_n 0, 1) := dk_42 (dk_at dksL_law_96 19 rfl rfl)
theorem dL_law_2404 : decode cL_law 2404 = .ok (.iload 4, 2) := dk_21 4 (dk_at dksL_law_96 20 rfl rfl)
theorem dL_law_2406 : decode cL_law 2406 = .ok (.iconst 4, 1) := dk_7 (dk_at dksL_law_96 22 rfl rfl)
theorem dL_law_2407 : decode cL_law 2407 = .ok (.iadd, 1) := dk_96 (dk_at dksL_law_96 23 rfl rfl)
theorem dL_law_2408 : decode cL_law 2408 = .ok (.iaload, 1) := dk_46 (dk_at dksL_law_97 0 rfl rfl)
theorem dL_law_2409 : decode cL_law 2409 = .ok (.aload_n 0, 1) := dk_42 (dk_at dksL_law_97 1 rfl rfl)
theorem dL_law_2410 : decode cL_law 2410 = .ok (.iload 4, 2) := dk_21 4 (dk_at dksL_law_97 2 rfl rfl)
theorem dL_law_2412 : decode cL_law 2412 = .ok (.iconst 5, 1) := dk_8 (dk_at dksL_law_97 4 rfl rfl)
theorem dL_law_2413 : decode cL_law 2413 = .ok (.iadd, 1) := dk_96 (dk_at dksL_law_97 5 rfl rfl)
theorem dL_law_2414 : decode cL_law 2414 = .ok (.iaload, 1) := dk_46 (dk_at dksL_law_97 6 rfl rfl)
theorem dL_law_2415 : decode cL_law 2415 = .ok (.aload_n 0, 1) := dk_42 (dk_at dksL_law_97 7 rfl rfl)
theorem dL_law_2416 : decode cL_law 2416 = .ok (.iload 4, 2) := dk_21 4 (dk_at dksL_law_97 8 rfl rfl)
theorem dL_law_2418 : decode cL_law 2418 = .ok (.bipush 6, 2) := dk_16 6 (dk_at dksL_law_97 10 rfl rfl)
theorem dL_law_2420 : decode cL_law 2420 = .ok (.iadd, 1) := dk_96 (dk_at dksL_law_97 12 rfl rfl)
theorem dL_law_2421 : decode cL_law 2421 = .ok (.iaload, 1) := dk_46 (dk_at dksL_law_97 13 rfl rfl)
theorem dL_law_2422 : decode cL_law 2422 = .ok (.invokevirtual 238, 3) := dk_182 0 238 (dk_at dksL_law_97 14 rfl rfl)
theorem dL_law_2425 : decode cL_law 2425 = .ok (.istore 6, 2) := dk_54 6 (dk_at dksL_law_97 17 rfl rfl)
theorem dL_law_2427 : decode cL_law 2427 = .ok (.aload_n 2, 1) := dk_44 (dk_at dksL_law_97 19 rfl rfl)
theorem dL_law_2428 : decode cL_law 2428 = .ok (.invokevirtual 122, 3) := dk_182 0 122 (dk_at dksL_law_97 20 rfl rfl)
theorem dL_law_2431 : decode cL_law 2431 = .ok (.iload 5, 2) := dk_21 5 (dk_at dksL_law_98 0 rfl rfl)
theorem dL_law_2433 : decode cL_law 2433 = .ok (.if_icmp .eq 5, 3) := dk_159 0 5 (dk_at dksL_law_98 2 rfl rfl)
theorem dL_law_2436 : decode cL_law 2436 = .ok (.iconst 0, 1) := dk_3 (dk_at dksL_law_98 5 rfl rfl)
theorem dL_law_2437 : decode cL_law 2437 = .ok (.ireturn, 1) := dk_172 (dk_at dksL_law_98 6 rfl rfl)
theorem dL_law_2438 : decode cL_law 2438 = .ok (.iload 5, 2) := dk_21 5 (dk_at dksL_law_98 7 rfl rfl)
theorem dL_law_2440 : decode cL_law 2440 = .ok (.ifCond .ne 15, 3) := dk_154 0 15 (dk_at dksL_law_98 9 rfl rfl)
theorem dL_law_2443 : decode cL_law 2443 = .ok (.aload_n 3, 1) := dk_45 (dk_at dksL_law_98 12 rfl rfl)
theorem dL_law_2444 : decode cL_law 2444 = .ok (.iconst 0, 1) := dk_3 (dk_at dksL_law_98 13 rfl rfl)
theorem dL_law_2445 : decode cL_law 2445 = .ok (.laload, 1) := dk_47 (dk_at dksL_law_98 14 rfl rfl)
theorem dL_law_2446 : decode cL_law 2446 = .ok (.iload 6, 2) := dk_21 6 (dk_at dksL_law_98 15 rfl rfl)
theorem dL_law_2448 : decode cL_law 2448 = .ok (.i2l, 1) := dk_133 (dk_at dksL_law_98 17 rfl rfl)
theorem dL_law_2449 : decode cL_law 2449 = .ok (.lcmp, 1) := dk_148 (dk_at dksL_law_98 18 rfl rfl)
theorem dL_law_2450 : decode cL_law 2450 = .ok (.ifCond .eq 5, 3) := dk_153 0 5 (dk_at dksL_law_98 19 rfl rfl)
theorem dL_law_2453 : decode cL_law 2453 = .ok (.iconst 0, 1) := dk_3 (dk_at dksL_law_98 22 rfl rfl)
theorem dL_law_2454 : decode cL_law 2454 = .ok (.ireturn, 1) := dk_172 (dk_at dksL_law_98 23 rfl rfl)
theorem dL_law_2455 : decode cL_law 2455 = .ok (.goto 79, 3) := dk_167 0 79 (dk_at dksL_law_99 0 rfl rfl)
theorem dL_law_2458 : decode cL_law 2458 = .ok (.aload_n 1, 1) := dk_43 (dk_at dksL_law_99 3 rfl rfl)
theorem dL_law_2459 : decode cL_law 2459 = .ok (.invokevirtual 239, 3) := dk_182 0 239 (dk_at dksL_law_99 4 rfl rfl)
theorem dL_law_2462 : decode cL_law 2462 = .ok (.aload_n 2, 1) := dk_44 (dk_at dksL_law_99 7 rfl rfl)
theorem dL_law_2463 : decode cL_law 2463 = .ok (.invokevirtual 242, 3) := dk_182 0 242 (dk_at dksL_law_99 8 rfl rfl)
theorem dL_law_2466 : decode cL_law 2466 = .ok (.if_icmp .eq 68, 3) := dk_159 0 68 (dk_at dksL_law_99 11 rfl rfl)
theorem dL_law_2469 : decode cL_law 2469 = .ok (.iconst 0, 1) := dk_3 (dk_at dksL_law_99 14 rfl rfl)
theorem dL_law_2470 : decode cL_law 2470 = .ok (.ireturn, 1) := dk_172 (dk_at dksL_law_99 15 rfl rfl)
theorem dL_law_2471 : decode cL_law 2471 = .ok (.aload_n 1, 1) := dk_43 (dk_at dksL_law_99 16 rfl rfl)
theorem dL_law_2472 : decode cL_law 2472 = .ok (.invokevirtual 243, 3) := dk_182 0 243 (dk_at dksL_law_99 17 rfl rfl)
theorem dL_law_2475 : decode cL_law 2475 = .ok (.aload_n 2, 1) := dk_44 (dk_at dksL_law_99 20 rfl rfl)
theorem dL_law_2476 : decode cL_law 2476 = .ok (.invokevirtual 246, 3) := dk_182 0 246 (dk_at dksL_law_99 21 rfl rfl)
theorem dL_law_2479 : decode cL_law 2479 = .ok (.if_icmp .eq 55, 3) := dk_159 0 55 (dk_at dksL_law_100 0 rfl rfl)
theorem dL_law_2482 : decode cL_law 2482 = .ok (.iconst 0, 1) := dk_3 (dk_at dksL_law_100 3 rfl rfl)
theorem dL_law_2483 : decode cL_law 2483 = .ok (.ireturn, 1) := dk_172 (dk_at dksL_law_100 4 rfl rfl)
theorem dL_law_2484 : decode cL_law 2484 = .ok (.aload_n 1, 1) := dk_43 (dk_at dksL_law_100 5 rfl rfl)
theorem dL_law_2485 : decode cL_law 2485 = .ok (.aload_n 0, 1) := dk_42 (dk_at dksL_law_100 6 rfl rfl)
theorem dL_law_2486 : decode cL_law 2486 = .ok (.iload 4, 2) := dk_21 4 (dk_at dksL_law_100 7 rfl rfl)
theorem dL_law_2488 : decode cL_law 2488 = .ok (.iconst 1, 1) := dk_4 (dk_at dksL_law_100 9 rfl rfl)
theorem dL_law_2489 : decode cL_law 2489 = .ok (.iadd, 1) := dk_96 (dk_at dksL_law_100 10 rfl rfl)
theorem dL_law_2490 : decode cL_law 2490 = .ok (.iaload, 1) := dk_46 (dk_at dksL_law_100 11 rfl rfl)
theorem dL_law_2491 : decode cL_law 2491 = .ok (.invokevirtual 247, 3) := dk_182 0 247 (dk_at dksL_law_100 12 rfl rfl)
theorem dL_law_2494 : decode cL_law 2494 = .ok (.aload_n 2, 1) := dk_44 (dk_at dksL_law_100 15 rfl rfl)
theorem dL_law_2495 : decode cL_law 2495 = .ok (.aload_n 0, 1) := dk_42 (dk_at dksL_law_100 16 rfl rfl)
theorem dL_law_2496 : decode cL_law 2496 = .ok (.iload 4, 2) := dk_21 4 (dk_at dksL_law_100 17 rfl rfl)
theorem dL_law_2498 : decode cL_law 2498 = .ok (.iconst 1, 1) := dk_4 (dk_at dksL_law_100 19 rfl rfl)
theorem dL_law_2499 : decode cL_law 2499 = .ok (.iadd, 1) := dk_96 (dk_at dksL_law_100 20 rfl rfl)
theorem dL_law_2500 : decode cL_law 2500 = .ok (.iaload, 1) := dk_46 (dk_at dksL_law_100 21 rfl rfl)
theorem dL_law_2501 : decode cL_law 2501 = .ok (.invokevirtual 250, 3) := dk_182 0 250 (dk_at dksL_law_101 0 rfl rfl)
theorem dL_law_2504 : decode cL_law 2504 = .ok (.if_icmp .eq 30, 3) := dk_159 0 30 (dk_at dksL_law_101 3 rfl rfl)
theorem dL_law_2507 : decode cL_law 2507 = .ok (.iconst 0, 1) := dk_3 (dk_at dksL_law_101 6 rfl rfl)
theorem dL_law_2508 : decode cL_law 2508 = .ok (.ireturn, 1) := dk_172 (dk_at dksL_law_101 7 rfl rfl)
theorem dL_law_2509 : decode cL_law 2509 = .ok (.aload_n 1, 1) := dk_43 (dk_at dksL_law_101 8 rfl rfl)
theorem dL_law_2510 : decode cL_law 2510 = .ok (.aload_n 0, 1) := dk_42 (dk_at dksL_law_101 9 rfl rfl)
theorem dL_law_2511 : decode cL_law 2511 = .ok (.iload 4, 2) := dk_21 4 (dk_at dksL_law_101 10 rfl rfl)
theorem dL_law_2513 : decode cL_law 2513 = .ok (.iconst 1, 1) := dk_4 (dk_at dksL_law_101 12 rfl rfl)
theorem dL_law_2514 : decode cL_law 2514 = .ok (.iadd, 1) := dk_96 (dk_at dksL_law_101 13 rfl rfl)
theorem dL_law_2515 : decode cL_law 2515 = .ok (.iaload, 1) := dk_46 (dk_at dksL_law_101 14 rfl rfl)
theorem dL_law_2516 : decode cL_law 2516 = .ok (.invokevirtual 251, 3) := dk_182 0 251 (dk_at dksL_law_101 15 rfl rfl)
theorem dL_law_2519 : decode cL_law 2519 = .ok (.aload_n 2, 1) := dk_44 (dk_at dksL_law_101 18 rfl rfl)
theorem dL_law_2520 : decode cL_law 2520 = .ok (.aload_n 0, 1) := dk_42 (dk_at dksL_law_101 19 rfl rfl)
theorem dL_law_2521 : decode cL_law 2521 = .ok (.iload 4, 2) := dk_21 4 (dk_at dksL_law_101 20 rfl rfl)
theorem dL_law_2523 : decode cL_law 2523 = .ok (.iconst 1, 1) := dk_4 (dk_at dksL_law_101 22 rfl rfl)
theorem dL_law_2524 : decode cL_law 2524 = .ok (.iadd, 1) := dk_96 (dk_at dksL_law_101 23 rfl rfl)
theorem dL_law_2525 : decode cL_law 2525 = .ok (.iaload, 1) := dk_46 (dk_at dksL_law_102 0 rfl rfl)
theorem dL_law_2526 : decode cL_law 2526 = .ok (.invokevirtual 254, 3) := dk_182 0 254 (dk_at dksL_law_102 1 rfl rfl)
theorem dL_law_2529 : decode cL_law 2529 = .ok (.if_icmp .eq 5, 3) := dk_159 0 5 (dk_at dksL_law_102 4 rfl rfl)
theorem dL_law_2532 : decode cL_law 2532 = .ok (.iconst 0, 1) := dk_3 (dk_at dksL_law_102 7 rfl rfl)
theorem dL_law_2533 : decode cL_law 2533 = .ok (.ireturn, 1) := dk_172 (dk_at dksL_law_102 8 rfl rfl)
theorem dL_law_2534 : decode cL_law 2534 = .ok (.iinc 4 11, 3) := dk_132 4 11 (dk_at dksL_law_102 9 rfl rfl)
theorem dL_law_2537 : decode cL_law 2537 = .ok (.goto (-2514), 3) := dk_167 246 46 (dk_at dksL_law_102 12 rfl rfl)
theorem dL_law_2540 : decode cL_law 2540 = .ok (.iconst 1, 1) := dk_4 (dk_at dksL_law_102 15 rfl rfl)
theorem dL_law_2541 : decode cL_law 2541 = .ok (.ireturn, 1) := dk_172 (dk_at dksL_law_102 16 rfl rfl)
