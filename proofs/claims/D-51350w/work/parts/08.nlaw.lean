/-! SpokenMarksLaw -/
set_option maxRecDepth 100000
def RX0 : String := "SpokenMarksLaw"
abbrev cX0_load : ByteArray := method_3_code
def yX0_load : MethodName := ⟨RX0, "load", "(LSpokenMarks;I[J)I"⟩
def dkwX0_load_0 : List UInt8 := [44, 3, 42, 27, 182, 0, 7, 133, 80, 167, 0, 6, 78, 4, 172, 3, 172]
abbrev dktX0_load_0 : List UInt8 := dkwX0_load_0 ++ []
theorem dksX0_load_0 : cX0_load.data.toList.drop 0 = dktX0_load_0 := by decide +kernel
theorem dX0_load_0 : decode cX0_load 0 = .ok (.aload_n 2, 1) := dk_44 (dk_at dksX0_load_0 0 rfl rfl)
theorem dX0_load_1 : decode cX0_load 1 = .ok (.iconst 0, 1) := dk_3 (dk_at dksX0_load_0 1 rfl rfl)
theorem dX0_load_2 : decode cX0_load 2 = .ok (.aload_n 0, 1) := dk_42 (dk_at dksX0_load_0 2 rfl rfl)
theorem dX0_load_3 : decode cX0_load 3 = .ok (.iload_n 1, 1) := dk_27 (dk_at dksX0_load_0 3 rfl rfl)
theorem dX0_load_4 : decode cX0_load 4 = .ok (.invokevirtual 7, 3) := dk_182 0 7 (dk_at dksX0_load_0 4 rfl rfl)
theorem dX0_load_7 : decode cX0_load 7 = .ok (.i2l, 1) := dk_133 (dk_at dksX0_load_0 7 rfl rfl)
theorem dX0_load_8 : decode cX0_load 8 = .ok (.lastore, 1) := dk_80 (dk_at dksX0_load_0 8 rfl rfl)
theorem dX0_load_9 : decode cX0_load 9 = .ok (.goto 6, 3) := dk_167 0 6 (dk_at dksX0_load_0 9 rfl rfl)
theorem dX0_load_12 : decode cX0_load 12 = .ok (.astore_n 3, 1) := dk_78 (dk_at dksX0_load_0 12 rfl rfl)
theorem dX0_load_13 : decode cX0_load 13 = .ok (.iconst 1, 1) := dk_4 (dk_at dksX0_load_0 13 rfl rfl)
theorem dX0_load_14 : decode cX0_load 14 = .ok (.ireturn, 1) := dk_172 (dk_at dksX0_load_0 14 rfl rfl)
theorem dX0_load_15 : decode cX0_load 15 = .ok (.iconst 0, 1) := dk_3 (dk_at dksX0_load_0 15 rfl rfl)
theorem dX0_load_16 : decode cX0_load 16 = .ok (.ireturn, 1) := dk_172 (dk_at dksX0_load_0 16 rfl rfl)
abbrev cX0_size : ByteArray := method_4_code
def yX0_size : MethodName := ⟨RX0, "size", "(LSpokenMarks;I[J)I"⟩
def dkwX0_size_0 : List UInt8 := [44, 3, 42, 27, 182, 0, 15, 133, 80, 167, 0, 6, 78, 4, 172, 3, 172]
abbrev dktX0_size_0 : List UInt8 := dkwX0_size_0 ++ []
theorem dksX0_size_0 : cX0_size.data.toList.drop 0 = dktX0_size_0 := by decide +kernel
theorem dX0_size_0 : decode cX0_size 0 = .ok (.aload_n 2, 1) := dk_44 (dk_at dksX0_size_0 0 rfl rfl)
theorem dX0_size_1 : decode cX0_size 1 = .ok (.iconst 0, 1) := dk_3 (dk_at dksX0_size_0 1 rfl rfl)
theorem dX0_size_2 : decode cX0_size 2 = .ok (.aload_n 0, 1) := dk_42 (dk_at dksX0_size_0 2 rfl rfl)
theorem dX0_size_3 : decode cX0_size 3 = .ok (.iload_n 1, 1) := dk_27 (dk_at dksX0_size_0 3 rfl rfl)
theorem dX0_size_4 : decode cX0_size 4 = .ok (.invokevirtual 15, 3) := dk_182 0 15 (dk_at dksX0_size_0 4 rfl rfl)
theorem dX0_size_7 : decode cX0_size 7 = .ok (.i2l, 1) := dk_133 (dk_at dksX0_size_0 7 rfl rfl)
theorem dX0_size_8 : decode cX0_size 8 = .ok (.lastore, 1) := dk_80 (dk_at dksX0_size_0 8 rfl rfl)
theorem dX0_size_9 : decode cX0_size 9 = .ok (.goto 6, 3) := dk_167 0 6 (dk_at dksX0_size_0 9 rfl rfl)
theorem dX0_size_12 : decode cX0_size 12 = .ok (.astore_n 3, 1) := dk_78 (dk_at dksX0_size_0 12 rfl rfl)
theorem dX0_size_13 : decode cX0_size 13 = .ok (.iconst 1, 1) := dk_4 (dk_at dksX0_size_0 13 rfl rfl)
theorem dX0_size_14 : decode cX0_size 14 = .ok (.ireturn, 1) := dk_172 (dk_at dksX0_size_0 14 rfl rfl)
theorem dX0_size_15 : decode cX0_size 15 = .ok (.iconst 0, 1) := dk_3 (dk_at dksX0_size_0 15 rfl rfl)
theorem dX0_size_16 : decode cX0_size 16 = .ok (.ireturn, 1) := dk_172 (dk_at dksX0_size_0 16 rfl rfl)
abbrev cX0_account : ByteArray := method_5_code
def yX0_account : MethodName := ⟨RX0, "account", "(LSpokenMarks;I[J)I"⟩
def dkwX0_account_0 : List UInt8 := [44, 3, 42, 27, 182, 0, 18, 133, 80, 167, 0, 6, 78, 4, 172, 3, 172]
abbrev dktX0_account_0 : List UInt8 := dkwX0_account_0 ++ []
theorem dksX0_account_0 : cX0_account.data.toList.drop 0 = dktX0_account_0 := by decide +kernel
theorem dX0_account_0 : decode cX0_account 0 = .ok (.aload_n 2, 1) := dk_44 (dk_at dksX0_account_0 0 rfl rfl)
theorem dX0_account_1 : decode cX0_account 1 = .ok (.iconst 0, 1) := dk_3 (dk_at dksX0_account_0 1 rfl rfl)
theorem dX0_account_2 : decode cX0_account 2 = .ok (.aload_n 0, 1) := dk_42 (dk_at dksX0_account_0 2 rfl rfl)
theorem dX0_account_3 : decode cX0_account 3 = .ok (.iload_n 1, 1) := dk_27 (dk_at dksX0_account_0 3 rfl rfl)
theorem dX0_account_4 : decode cX0_account 4 = .ok (.invokevirtual 18, 3) := dk_182 0 18 (dk_at dksX0_account_0 4 rfl rfl)
theorem dX0_account_7 : decode cX0_account 7 = .ok (.i2l, 1) := dk_133 (dk_at dksX0_account_0 7 rfl rfl)
theorem dX0_account_8 : decode cX0_account 8 = .ok (.lastore, 1) := dk_80 (dk_at dksX0_account_0 8 rfl rfl)
theorem dX0_account_9 : decode cX0_account 9 = .ok (.goto 6, 3) := dk_167 0 6 (dk_at dksX0_account_0 9 rfl rfl)
theorem dX0_account_12 : decode cX0_account 12 = .ok (.astore_n 3, 1) := dk_78 (dk_at dksX0_account_0 12 rfl rfl)
theorem dX0_account_13 : decode cX0_account 13 = .ok (.iconst 1, 1) := dk_4 (dk_at dksX0_account_0 13 rfl rfl)
theorem dX0_account_14 : decode cX0_account 14 = .ok (.ireturn, 1) := dk_172 (dk_at dksX0_account_0 14 rfl rfl)
theorem dX0_account_15 : decode cX0_account 15 = .ok (.iconst 0, 1) := dk_3 (dk_at dksX0_account_0 15 rfl rfl)
theorem dX0_account_16 : decode cX0_account 16 = .ok (.ireturn, 1) := dk_172 (dk_at dksX0_account_0 16 rfl rfl)
abbrev cX0_mark : ByteArray := method_6_code
def yX0_mark : MethodName := ⟨RX0, "mark", "(LSpokenMarks;II[J)I"⟩
def dkwX0_mark_0 : List UInt8 := [45, 3, 42, 27, 28, 182, 0, 21, 133, 80, 167, 0, 11, 58, 4, 4, 172, 58, 4, 5, 172, 3, 172]
abbrev dktX0_mark_0 : List UInt8 := dkwX0_mark_0 ++ []
theorem dksX0_mark_0 : cX0_mark.data.toList.drop 0 = dktX0_mark_0 := by decide +kernel
theorem dX0_mark_0 : decode cX0_mark 0 = .ok (.aload_n 3, 1) := dk_45 (dk_at dksX0_mark_0 0 rfl rfl)
theorem dX0_mark_1 : decode cX0_mark 1 = .ok (.iconst 0, 1) := dk_3 (dk_at dksX0_mark_0 1 rfl rfl)
theorem dX0_mark_2 : decode cX0_mark 2 = .ok (.aload_n 0, 1) := dk_42 (dk_at dksX0_mark_0 2 rfl rfl)
theorem dX0_mark_3 : decode cX0_mark 3 = .ok (.iload_n 1, 1) := dk_27 (dk_at dksX0_mark_0 3 rfl rfl)
theorem dX0_mark_4 : decode cX0_mark 4 = .ok (.iload_n 2, 1) := dk_28 (dk_at dksX0_mark_0 4 rfl rfl)
theorem dX0_mark_5 : decode cX0_mark 5 = .ok (.invokevirtual 21, 3) := dk_182 0 21 (dk_at dksX0_mark_0 5 rfl rfl)
theorem dX0_mark_8 : decode cX0_mark 8 = .ok (.i2l, 1) := dk_133 (dk_at dksX0_mark_0 8 rfl rfl)
theorem dX0_mark_9 : decode cX0_mark 9 = .ok (.lastore, 1) := dk_80 (dk_at dksX0_mark_0 9 rfl rfl)
theorem dX0_mark_10 : decode cX0_mark 10 = .ok (.goto 11, 3) := dk_167 0 11 (dk_at dksX0_mark_0 10 rfl rfl)
theorem dX0_mark_13 : decode cX0_mark 13 = .ok (.astore 4, 2) := dk_58 4 (dk_at dksX0_mark_0 13 rfl rfl)
theorem dX0_mark_15 : decode cX0_mark 15 = .ok (.iconst 1, 1) := dk_4 (dk_at dksX0_mark_0 15 rfl rfl)
theorem dX0_mark_16 : decode cX0_mark 16 = .ok (.ireturn, 1) := dk_172 (dk_at dksX0_mark_0 16 rfl rfl)
theorem dX0_mark_17 : decode cX0_mark 17 = .ok (.astore 4, 2) := dk_58 4 (dk_at dksX0_mark_0 17 rfl rfl)
theorem dX0_mark_19 : decode cX0_mark 19 = .ok (.iconst 2, 1) := dk_5 (dk_at dksX0_mark_0 19 rfl rfl)
theorem dX0_mark_20 : decode cX0_mark 20 = .ok (.ireturn, 1) := dk_172 (dk_at dksX0_mark_0 20 rfl rfl)
theorem dX0_mark_21 : decode cX0_mark 21 = .ok (.iconst 0, 1) := dk_3 (dk_at dksX0_mark_0 21 rfl rfl)
theorem dX0_mark_22 : decode cX0_mark 22 = .ok (.ireturn, 1) := dk_172 (dk_at dksX0_mark_0 22 rfl rfl)
abbrev cX0_number : ByteArray := method_7_code
def yX0_number : MethodName := ⟨RX0, "number", "(LSpokenMarks;II[J)I"⟩
def dkwX0_number_0 : List UInt8 := [45, 3, 42, 27, 28, 182, 0, 27, 133, 80, 167, 0, 7, 58, 4, 4, 172, 3, 172]
abbrev dktX0_number_0 : List UInt8 := dkwX0_number_0 ++ []
theorem dksX0_number_0 : cX0_number.data.toList.drop 0 = dktX0_number_0 := by decide +kernel
theorem dX0_number_0 : decode cX0_number 0 = .ok (.aload_n 3, 1) := dk_45 (dk_at dksX0_number_0 0 rfl rfl)
theorem dX0_number_1 : decode cX0_number 1 = .ok (.iconst 0, 1) := dk_3 (dk_at dksX0_number_0 1 rfl rfl)
theorem dX0_number_2 : decode cX0_number 2 = .ok (.aload_n 0, 1) := dk_42 (dk_at dksX0_number_0 2 rfl rfl)
theorem dX0_number_3 : decode cX0_number 3 = .ok (.iload_n 1, 1) := dk_27 (dk_at dksX0_number_0 3 rfl rfl)
theorem dX0_number_4 : decode cX0_number 4 = .ok (.iload_n 2, 1) := dk_28 (dk_at dksX0_number_0 4 rfl rfl)
theorem dX0_number_5 : decode cX0_number 5 = .ok (.invokevirtual 27, 3) := dk_182 0 27 (dk_at dksX0_number_0 5 rfl rfl)
theorem dX0_number_8 : decode cX0_number 8 = .ok (.i2l, 1) := dk_133 (dk_at dksX0_number_0 8 rfl rfl)
theorem dX0_number_9 : decode cX0_number 9 = .ok (.lastore, 1) := dk_80 (dk_at dksX0_number_0 9 rfl rfl)
theorem dX0_number_10 : decode cX0_number 10 = .ok (.goto 7, 3) := dk_167 0 7 (dk_at dksX0_number_0 10 rfl rfl)
theorem dX0_number_13 : decode cX0_number 13 = .ok (.astore 4, 2) := dk_58 4 (dk_at dksX0_number_0 13 rfl rfl)
theorem dX0_number_15 : decode cX0_number 15 = .ok (.iconst 1, 1) := dk_4 (dk_at dksX0_number_0 15 rfl rfl)
theorem dX0_number_16 : decode cX0_number 16 = .ok (.ireturn, 1) := dk_172 (dk_at dksX0_number_0 16 rfl rfl)
theorem dX0_number_17 : decode cX0_number 17 = .ok (.iconst 0, 1) := dk_3 (dk_at dksX0_number_0 17 rfl rfl)
theorem dX0_number_18 : decode cX0_number 18 = .ok (.ireturn, 1) := dk_172 (dk_at dksX0_number_0 18 rfl rfl)
abbrev cX0_letter : ByteArray := method_8_code
def yX0_letter : MethodName := ⟨RX0, "letter", "(LSpokenMarks;IIZI[J)I"⟩
def dkwX0_letter_0 : List UInt8 := [25, 5, 3, 42, 27, 28, 29, 21, 4, 182, 0, 30, 133, 80, 167, 0, 7, 58, 6, 4, 172, 3, 172]
abbrev dktX0_letter_0 : List UInt8 := dkwX0_letter_0 ++ []
theorem dksX0_letter_0 : cX0_letter.data.toList.drop 0 = dktX0_letter_0 := by decide +kernel
theorem dX0_letter_0 : decode cX0_letter 0 = .ok (.aload 5, 2) := dk_25 5 (dk_at dksX0_letter_0 0 rfl rfl)
theorem dX0_letter_2 : decode cX0_letter 2 = .ok (.iconst 0, 1) := dk_3 (dk_at dksX0_letter_0 2 rfl rfl)
theorem dX0_letter_3 : decode cX0_letter 3 = .ok (.aload_n 0, 1) := dk_42 (dk_at dksX0_letter_0 3 rfl rfl)
theorem dX0_letter_4 : decode cX0_letter 4 = .ok (.iload_n 1, 1) := dk_27 (dk_at dksX0_letter_0 4 rfl rfl)
theorem dX0_letter_5 : decode cX0_letter 5 = .ok (.iload_n 2, 1) := dk_28 (dk_at dksX0_letter_0 5 rfl rfl)
theorem dX0_letter_6 : decode cX0_letter 6 = .ok (.iload_n 3, 1) := dk_29 (dk_at dksX0_letter_0 6 rfl rfl)
theorem dX0_letter_7 : decode cX0_letter 7 = .ok (.iload 4, 2) := dk_21 4 (dk_at dksX0_letter_0 7 rfl rfl)
theorem dX0_letter_9 : decode cX0_letter 9 = .ok (.invokevirtual 30, 3) := dk_182 0 30 (dk_at dksX0_letter_0 9 rfl rfl)
theorem dX0_letter_12 : decode cX0_letter 12 = .ok (.i2l, 1) := dk_133 (dk_at dksX0_letter_0 12 rfl rfl)
theorem dX0_letter_13 : decode cX0_letter 13 = .ok (.lastore, 1) := dk_80 (dk_at dksX0_letter_0 13 rfl rfl)
theorem dX0_letter_14 : decode cX0_letter 14 = .ok (.goto 7, 3) := dk_167 0 7 (dk_at dksX0_letter_0 14 rfl rfl)
theorem dX0_letter_17 : decode cX0_letter 17 = .ok (.astore 6, 2) := dk_58 6 (dk_at dksX0_letter_0 17 rfl rfl)
theorem dX0_letter_19 : decode cX0_letter 19 = .ok (.iconst 1, 1) := dk_4 (dk_at dksX0_letter_0 19 rfl rfl)
theorem dX0_letter_20 : decode cX0_letter 20 = .ok (.ireturn, 1) := dk_172 (dk_at dksX0_letter_0 20 rfl rfl)
theorem dX0_letter_21 : decode cX0_letter 21 = .ok (.iconst 0, 1) := dk_3 (dk_at dksX0_letter_0 21 rfl rfl)
theorem dX0_letter_22 : decode cX0_letter 22 = .ok (.ireturn, 1) := dk_172 (dk_at dksX0_letter_0 22 rfl rfl)
abbrev cX0_ruleLetter : ByteArray := method_9_code
def yX0_ruleLetter : MethodName := ⟨RX0, "ruleLetter", "(LSpokenMarks;IZI[J)I"⟩
def dkwX0_ruleLetter_0 : List UInt8 := [25, 4, 3, 42, 27, 28, 29, 182, 0, 34, 133, 80, 167, 0, 7, 58, 5, 4, 172, 3, 172]
abbrev dktX0_ruleLetter_0 : List UInt8 := dkwX0_ruleLetter_0 ++ []
theorem dksX0_ruleLetter_0 : cX0_ruleLetter.data.toList.drop 0 = dktX0_ruleLetter_0 := by decide +kernel
theorem dX0_ruleLetter_0 : decode cX0_ruleLetter 0 = .ok (.aload 4, 2) := dk_25 4 (dk_at dksX0_ruleLetter_0 0 rfl rfl)
theorem dX0_ruleLetter_2 : decode cX0_ruleLetter 2 = .ok (.iconst 0, 1) := dk_3 (dk_at dksX0_ruleLetter_0 2 rfl rfl)
theorem dX0_ruleLetter_3 : decode cX0_ruleLetter 3 = .ok (.aload_n 0, 1) := dk_42 (dk_at dksX0_ruleLetter_0 3 rfl rfl)
theorem dX0_ruleLetter_4 : decode cX0_ruleLetter 4 = .ok (.iload_n 1, 1) := dk_27 (dk_at dksX0_ruleLetter_0 4 rfl rfl)
theorem dX0_ruleLetter_5 : decode cX0_ruleLetter 5 = .ok (.iload_n 2, 1) := dk_28 (dk_at dksX0_ruleLetter_0 5 rfl rfl)
theorem dX0_ruleLetter_6 : decode cX0_ruleLetter 6 = .ok (.iload_n 3, 1) := dk_29 (dk_at dksX0_ruleLetter_0 6 rfl rfl)
theorem dX0_ruleLetter_7 : decode cX0_ruleLetter 7 = .ok (.invokevirtual 34, 3) := dk_182 0 34 (dk_at dksX0_ruleLetter_0 7 rfl rfl)
theorem dX0_ruleLetter_10 : decode cX0_ruleLetter 10 = .ok (.i2l, 1) := dk_133 (dk_at dksX0_ruleLetter_0 10 rfl rfl)
theorem dX0_ruleLetter_11 : decode cX0_ruleLetter 11 = .ok (.lastore, 1) := dk_80 (dk_at dksX0_ruleLetter_0 11 rfl rfl)
theorem dX0_ruleLetter_12 : decode cX0_ruleLetter 12 = .ok (.goto 7, 3) := dk_167 0 7 (dk_at dksX0_ruleLetter_0 12 rfl rfl)
theorem dX0_ruleLetter_15 : decode cX0_ruleLetter 15 = .ok (.astore 5, 2) := dk_58 5 (dk_at dksX0_ruleLetter_0 15 rfl rfl)
theorem dX0_ruleLetter_17 : decode cX0_ruleLetter 17 = .ok (.iconst 1, 1) := dk_4 (dk_at dksX0_ruleLetter_0 17 rfl rfl)
theorem dX0_ruleLetter_18 : decode cX0_ruleLetter 18 = .ok (.ireturn, 1) := dk_172 (dk_at dksX0_ruleLetter_0 18 rfl rfl)
theorem dX0_ruleLetter_19 : decode cX0_ruleLetter 19 = .ok (.iconst 0, 1) := dk_3 (dk_at dksX0_ruleLetter_0 19 rfl rfl)
theorem dX0_ruleLetter_20 : decode cX0_ruleLetter 20 = .ok (.ireturn, 1) := dk_172 (dk_at dksX0_ruleLetter_0 20 rfl rfl)
abbrev cX0_shelf : ByteArray := method_10_code
def yX0_shelf : MethodName := ⟨RX0, "shelf", "(LSpokenMarks;II[J)I"⟩
def dkwX0_shelf_0 : List UInt8 := [45, 3, 42, 27, 28, 182, 0, 38, 133, 80, 167, 0, 11, 58, 4, 4, 172, 58, 4, 5, 172, 3, 172]
abbrev dktX0_shelf_0 : List UInt8 := dkwX0_shelf_0 ++ []
theorem dksX0_shelf_0 : cX0_shelf.data.toList.drop 0 = dktX0_shelf_0 := by decide +kernel
theorem dX0_shelf_0 : decode cX0_shelf 0 = .ok (.aload_n 3, 1) := dk_45 (dk_at dksX0_shelf_0 0 rfl rfl)
theorem dX0_shelf_1 : decode cX0_shelf 1 = .ok (.iconst 0, 1) := dk_3 (dk_at dksX0_shelf_0 1 rfl rfl)
theorem dX0_shelf_2 : decode cX0_shelf 2 = .ok (.aload_n 0, 1) := dk_42 (dk_at dksX0_shelf_0 2 rfl rfl)
theorem dX0_shelf_3 : decode cX0_shelf 3 = .ok (.iload_n 1, 1) := dk_27 (dk_at dksX0_shelf_0 3 rfl rfl)
theorem dX0_shelf_4 : decode cX0_shelf 4 = .ok (.iload_n 2, 1) := dk_28 (dk_at dksX0_shelf_0 4 rfl rfl)
theorem dX0_shelf_5 : decode cX0_shelf 5 = .ok (.invokevirtual 38, 3) := dk_182 0 38 (dk_at dksX0_shelf_0 5 rfl rfl)
theorem dX0_shelf_8 : decode cX0_shelf 8 = .ok (.i2l, 1) := dk_133 (dk_at dksX0_shelf_0 8 rfl rfl)
theorem dX0_shelf_9 : decode cX0_shelf 9 = .ok (.lastore, 1) := dk_80 (dk_at dksX0_shelf_0 9 rfl rfl)
theorem dX0_shelf_10 : decode cX0_shelf 10 = .ok (.goto 11, 3) := dk_167 0 11 (dk_at dksX0_shelf_0 10 rfl rfl)
theorem dX0_shelf_13 : decode cX0_shelf 13 = .ok (.astore 4, 2) := dk_58 4 (dk_at dksX0_shelf_0 13 rfl rfl)
theorem dX0_shelf_15 : decode cX0_shelf 15 = .ok (.iconst 1, 1) := dk_4 (dk_at dksX0_shelf_0 15 rfl rfl)
theorem dX0_shelf_16 : decode cX0_shelf 16 = .ok (.ireturn, 1) := dk_172 (dk_at dksX0_shelf_0 16 rfl rfl)
theorem dX0_shelf_17 : decode cX0_shelf 17 = .ok (.astore 4, 2) := dk_58 4 (dk_at dksX0_shelf_0 17 rfl rfl)
theorem dX0_shelf_19 : decode cX0_shelf 19 = .ok (.iconst 2, 1) := dk_5 (dk_at dksX0_shelf_0 19 rfl rfl)
theorem dX0_shelf_20 : decode cX0_shelf 20 = .ok (.ireturn, 1) := dk_172 (dk_at dksX0_shelf_0 20 rfl rfl)
theorem dX0_shelf_21 : decode cX0_shelf 21 = .ok (.iconst 0, 1) := dk_3 (dk_at dksX0_shelf_0 21 rfl rfl)
theorem dX0_shelf_22 : decode cX0_shelf 22 = .ok (.ireturn, 1) := dk_172 (dk_at dksX0_shelf_0 22 rfl rfl)
abbrev cX0_compare : ByteArray := method_11_code
def yX0_compare : MethodName := ⟨RX0, "compare", "(LSpokenMarks;II[J)I"⟩
def dkwX0_compare_0 : List UInt8 := [45, 3, 42, 27, 28, 182, 0, 41, 133, 80, 167, 0, 7, 58, 4, 4, 172, 3, 172]
abbrev dktX0_compare_0 : List UInt8 := dkwX0_compare_0 ++ []
theorem dksX0_compare_0 : cX0_compare.data.toList.drop 0 = dktX0_compare_0 := by decide +kernel
theorem dX0_compare_0 : decode cX0_compare 0 = .ok (.aload_n 3, 1) := dk_45 (dk_at dksX0_compare_0 0 rfl rfl)
theorem dX0_compare_1 : decode cX0_compare 1 = .ok (.iconst 0, 1) := dk_3 (dk_at dksX0_compare_0 1 rfl rfl)
theorem dX0_compare_2 : decode cX0_compare 2 = .ok (.aload_n 0, 1) := dk_42 (dk_at dksX0_compare_0 2 rfl rfl)
theorem dX0_compare_3 : decode cX0_compare 3 = .ok (.iload_n 1, 1) := dk_27 (dk_at dksX0_compare_0 3 rfl rfl)
theorem dX0_compare_4 : decode cX0_compare 4 = .ok (.iload_n 2, 1) := dk_28 (dk_at dksX0_compare_0 4 rfl rfl)
theorem dX0_compare_5 : decode cX0_compare 5 = .ok (.invokevirtual 41, 3) := dk_182 0 41 (dk_at dksX0_compare_0 5 rfl rfl)
theorem dX0_compare_8 : decode cX0_compare 8 = .ok (.i2l, 1) := dk_133 (dk_at dksX0_compare_0 8 rfl rfl)
theorem dX0_compare_9 : decode cX0_compare 9 = .ok (.lastore, 1) := dk_80 (dk_at dksX0_compare_0 9 rfl rfl)
theorem dX0_compare_10 : decode cX0_compare 10 = .ok (.goto 7, 3) := dk_167 0 7 (dk_at dksX0_compare_0 10 rfl rfl)
theorem dX0_compare_13 : decode cX0_compare 13 = .ok (.astore 4, 2) := dk_58 4 (dk_at dksX0_compare_0 13 rfl rfl)
theorem dX0_compare_15 : decode cX0_compare 15 = .ok (.iconst 1, 1) := dk_4 (dk_at dksX0_compare_0 15 rfl rfl)
theorem dX0_compare_16 : decode cX0_compare 16 = .ok (.ireturn, 1) := dk_172 (dk_at dksX0_compare_0 16 rfl rfl)
theorem dX0_compare_17 : decode cX0_compare 17 = .ok (.iconst 0, 1) := dk_3 (dk_at dksX0_compare_0 17 rfl rfl)
theorem dX0_compare_18 : decode cX0_compare 18 = .ok (.ireturn, 1) := dk_172 (dk_at dksX0_compare_0 18 rfl rfl)
abbrev cX0_differ : ByteArray := method_12_code
def yX0_differ : MethodName := ⟨RX0, "differ", "(LSpokenMarks;II[J)I"⟩
def dkwX0_differ_0 : List UInt8 := [45, 3, 42, 27, 28, 182, 0, 44, 133, 80, 167, 0, 7, 58, 4, 4, 172, 3, 172]
abbrev dktX0_differ_0 : List UInt8 := dkwX0_differ_0 ++ []
theorem dksX0_differ_0 : cX0_differ.data.toList.drop 0 = dktX0_differ_0 := by decide +kernel
theorem dX0_differ_0 : decode cX0_differ 0 = .ok (.aload_n 3, 1) := dk_45 (dk_at dksX0_differ_0 0 rfl rfl)
theorem dX0_differ_1 : decode cX0_differ 1 = .ok (.iconst 0, 1) := dk_3 (dk_at dksX0_differ_0 1 rfl rfl)
theorem dX0_differ_2 : decode cX0_differ 2 = .ok (.aload_n 0, 1) := dk_42 (dk_at dksX0_differ_0 2 rfl rfl)
theorem dX0_differ_3 : decode cX0_differ 3 = .ok (.iload_n 1, 1) := dk_27 (dk_at dksX0_differ_0 3 rfl rfl)
theorem dX0_differ_4 : decode cX0_differ 4 = .ok (.iload_n 2, 1) := dk_28 (dk_at dksX0_differ_0 4 rfl rfl)
theorem dX0_differ_5 : decode cX0_differ 5 = .ok (.invokevirtual 44, 3) := dk_182 0 44 (dk_at dksX0_differ_0 5 rfl rfl)
theorem dX0_differ_8 : decode cX0_differ 8 = .ok (.i2l, 1) := dk_133 (dk_at dksX0_differ_0 8 rfl rfl)
theorem dX0_differ_9 : decode cX0_differ 9 = .ok (.lastore, 1) := dk_80 (dk_at dksX0_differ_0 9 rfl rfl)
theorem dX0_differ_10 : decode cX0_differ 10 = .ok (.goto 7, 3) := dk_167 0 7 (dk_at dksX0_differ_0 10 rfl rfl)
theorem dX0_differ_13 : decode cX0_differ 13 = .ok (.astore 4, 2) := dk_58 4 (dk_at dksX0_differ_0 13 rfl rfl)
theorem dX0_differ_15 : decode cX0_differ 15 = .ok (.iconst 1, 1) := dk_4 (dk_at dksX0_differ_0 15 rfl rfl)
theorem dX0_differ_16 : decode cX0_differ 16 = .ok (.ireturn, 1) := dk_172 (dk_at dksX0_differ_0 16 rfl rfl)
theorem dX0_differ_17 : decode cX0_differ 17 = .ok (.iconst 0, 1) := dk_3 (dk_at dksX0_differ_0 17 rfl rfl)
theorem dX0_differ_18 : decode cX0_differ 18 = .ok (.ireturn, 1) := dk_172 (dk_at dksX0_differ_0 18 rfl rfl)
abbrev cX0_free : ByteArray := method_13_code
def yX0_free : MethodName := ⟨RX0, "free", "(LSpokenMarks;I[J)I"⟩
def dkwX0_free_0 : List UInt8 := [44, 3, 42, 27, 182, 0, 47, 133, 80, 167, 0, 6, 78, 4, 172, 3, 172]
abbrev dktX0_free_0 : List UInt8 := dkwX0_free_0 ++ []
theorem dksX0_free_0 : cX0_free.data.toList.drop 0 = dktX0_free_0 := by decide +kernel
theorem dX0_free_0 : decode cX0_free 0 = .ok (.aload_n 2, 1) := dk_44 (dk_at dksX0_free_0 0 rfl rfl)
theorem dX0_free_1 : decode cX0_free 1 = .ok (.iconst 0, 1) := dk_3 (dk_at dksX0_free_0 1 rfl rfl)
theorem dX0_free_2 : decode cX0_free 2 = .ok (.aload_n 0, 1) := dk_42 (dk_at dksX0_free_0 2 rfl rfl)
theorem dX0_free_3 : decode cX0_free 3 = .ok (.iload_n 1, 1) := dk_27 (dk_at dksX0_free_0 3 rfl rfl)
theorem dX0_free_4 : decode cX0_free 4 = .ok (.invokevirtual 47, 3) := dk_182 0 47 (dk_at dksX0_free_0 4 rfl rfl)
theorem dX0_free_7 : decode cX0_free 7 = .ok (.i2l, 1) := dk_133 (dk_at dksX0_free_0 7 rfl rfl)
theorem dX0_free_8 : decode cX0_free 8 = .ok (.lastore, 1) := dk_80 (dk_at dksX0_free_0 8 rfl rfl)
theorem dX0_free_9 : decode cX0_free 9 = .ok (.goto 6, 3) := dk_167 0 6 (dk_at dksX0_free_0 9 rfl rfl)
theorem dX0_free_12 : decode cX0_free 12 = .ok (.astore_n 3, 1) := dk_78 (dk_at dksX0_free_0 12 rfl rfl)
theorem dX0_free_13 : decode cX0_free 13 = .ok (.iconst 1, 1) := dk_4 (dk_at dksX0_free_0 13 rfl rfl)
theorem dX0_free_14 : decode cX0_free 14 = .ok (.ireturn, 1) := dk_172 (dk_at dksX0_free_0 14 rfl rfl)
theorem dX0_free_15 : decode cX0_free 15 = .ok (.iconst 0, 1) := dk_3 (dk_at dksX0_free_0 15 rfl rfl)
theorem dX0_free_16 : decode cX0_free 16 = .ok (.ireturn, 1) := dk_172 (dk_at dksX0_free_0 16 rfl rfl)
abbrev cX0_family : ByteArray := method_14_code
def yX0_family : MethodName := ⟨RX0, "family", "(LSpokenMarks;I[J)I"⟩
def dkwX0_family_0 : List UInt8 := [44, 3, 42, 27, 182, 0, 50, 133, 80, 167, 0, 6, 78, 4, 172, 3, 172]
abbrev dktX0_family_0 : List UInt8 := dkwX0_family_0 ++ []
theorem dksX0_family_0 : cX0_family.data.toList.drop 0 = dktX0_family_0 := by decide +kernel
theorem dX0_family_0 : decode cX0_family 0 = .ok (.aload_n 2, 1) := dk_44 (dk_at dksX0_family_0 0 rfl rfl)
theorem dX0_family_1 : decode cX0_family 1 = .ok (.iconst 0, 1) := dk_3 (dk_at dksX0_family_0 1 rfl rfl)
theorem dX0_family_2 : decode cX0_family 2 = .ok (.aload_n 0, 1) := dk_42 (dk_at dksX0_family_0 2 rfl rfl)
theorem dX0_family_3 : decode cX0_family 3 = .ok (.iload_n 1, 1) := dk_27 (dk_at dksX0_family_0 3 rfl rfl)
theorem dX0_family_4 : decode cX0_family 4 = .ok (.invokevirtual 50, 3) := dk_182 0 50 (dk_at dksX0_family_0 4 rfl rfl)
theorem dX0_family_7 : decode cX0_family 7 = .ok (.i2l, 1) := dk_133 (dk_at dksX0_family_0 7 rfl rfl)
theorem dX0_family_8 : decode cX0_family 8 = .ok (.lastore, 1) := dk_80 (dk_at dksX0_family_0 8 rfl rfl)
theorem dX0_family_9 : decode cX0_family 9 = .ok (.goto 6, 3) := dk_167 0 6 (dk_at dksX0_family_0 9 rfl rfl)
theorem dX0_family_12 : decode cX0_family 12 = .ok (.astore_n 3, 1) := dk_78 (dk_at dksX0_family_0 12 rfl rfl)
theorem dX0_family_13 : decode cX0_family 13 = .ok (.iconst 1, 1) := dk_4 (dk_at dksX0_family_0 13 rfl rfl)
theorem dX0_family_14 : decode cX0_family 14 = .ok (.ireturn, 1) := dk_172 (dk_at dksX0_family_0 14 rfl rfl)
theorem dX0_family_15 : decode cX0_family 15 = .ok (.iconst 0, 1) := dk_3 (dk_at dksX0_family_0 15 rfl rfl)
theorem dX0_family_16 : decode cX0_family 16 = .ok (.ireturn, 1) := dk_172 (dk_at dksX0_family_0 16 rfl rfl)
abbrev cX0_soundsLike : ByteArray := method_15_code
def yX0_soundsLike : MethodName := ⟨RX0, "soundsLike", "(LSpokenMarks;I[J)I"⟩
def dkwX0_soundsLike_0 : List UInt8 := [44, 3, 42, 27, 182, 0, 53, 133, 80, 167, 0, 6, 78, 4, 172, 3, 172]
abbrev dktX0_soundsLike_0 : List UInt8 := dkwX0_soundsLike_0 ++ []
theorem dksX0_soundsLike_0 : cX0_soundsLike.data.toList.drop 0 = dktX0_soundsLike_0 := by decide +kernel
theorem dX0_soundsLike_0 : decode cX0_soundsLike 0 = .ok (.aload_n 2, 1) := dk_44 (dk_at dksX0_soundsLike_0 0 rfl rfl)
theorem dX0_soundsLike_1 : decode cX0_soundsLike 1 = .ok (.iconst 0, 1) := dk_3 (dk_at dksX0_soundsLike_0 1 rfl rfl)
theorem dX0_soundsLike_2 : decode cX0_soundsLike 2 = .ok (.aload_n 0, 1) := dk_42 (dk_at dksX0_soundsLike_0 2 rfl rfl)
theorem dX0_soundsLike_3 : decode cX0_soundsLike 3 = .ok (.iload_n 1, 1) := dk_27 (dk_at dksX0_soundsLike_0 3 rfl rfl)
theorem dX0_soundsLike_4 : decode cX0_soundsLike 4 = .ok (.invokevirtual 53, 3) := dk_182 0 53 (dk_at dksX0_soundsLike_0 4 rfl rfl)
theorem dX0_soundsLike_7 : decode cX0_soundsLike 7 = .ok (.i2l, 1) := dk_133 (dk_at dksX0_soundsLike_0 7 rfl rfl)
theorem dX0_soundsLike_8 : decode cX0_soundsLike 8 = .ok (.lastore, 1) := dk_80 (dk_at dksX0_soundsLike_0 8 rfl rfl)
theorem dX0_soundsLike_9 : decode cX0_soundsLike 9 = .ok (.goto 6, 3) := dk_167 0 6 (dk_at dksX0_soundsLike_0 9 rfl rfl)
theorem dX0_soundsLike_12 : decode cX0_soundsLike 12 = .ok (.astore_n 3, 1) := dk_78 (dk_at dksX0_soundsLike_0 12 rfl rfl)
theorem dX0_soundsLike_13 : decode cX0_soundsLike 13 = .ok (.iconst 1, 1) := dk_4 (dk_at dksX0_soundsLike_0 13 rfl rfl)
theorem dX0_soundsLike_14 : decode cX0_soundsLike 14 = .ok (.ireturn, 1) := dk_172 (dk_at dksX0_soundsLike_0 14 rfl rfl)
theorem dX0_soundsLike_15 : decode cX0_soundsLike 15 = .ok (.iconst 0, 1) := dk_3 (dk_at dksX0_soundsLike_0 15 rfl rfl)
theorem dX0_soundsLike_16 : decode cX0_soundsLike 16 = .ok (.ireturn, 1) := dk_172 (dk_at dksX0_soundsLike_0 16 rfl rfl)
abbrev cX0_rankIf : ByteArray := method_16_code
def yX0_rankIf : MethodName := ⟨RX0, "rankIf", "(LSpokenMarks;I[J)I"⟩
def dkwX0_rankIf_0 : List UInt8 := [44, 3, 42, 27, 182, 0, 56, 133, 80, 167, 0, 6, 78, 4, 172, 3, 172]
abbrev dktX0_rankIf_0 : List UInt8 := dkwX0_rankIf_0 ++ []
theorem dksX0_rankIf_0 : cX0_rankIf.data.toList.drop 0 = dktX0_rankIf_0 := by decide +kernel
theorem dX0_rankIf_0 : decode cX0_rankIf 0 = .ok (.aload_n 2, 1) := dk_44 (dk_at dksX0_rankIf_0 0 rfl rfl)
theorem dX0_rankIf_1 : decode cX0_rankIf 1 = .ok (.iconst 0, 1) := dk_3 (dk_at dksX0_rankIf_0 1 rfl rfl)
theorem dX0_rankIf_2 : decode cX0_rankIf 2 = .ok (.aload_n 0, 1) := dk_42 (dk_at dksX0_rankIf_0 2 rfl rfl)
theorem dX0_rankIf_3 : decode cX0_rankIf 3 = .ok (.iload_n 1, 1) := dk_27 (dk_at dksX0_rankIf_0 3 rfl rfl)
theorem dX0_rankIf_4 : decode cX0_rankIf 4 = .ok (.invokevirtual 56, 3) := dk_182 0 56 (dk_at dksX0_rankIf_0 4 rfl rfl)
theorem dX0_rankIf_7 : decode cX0_rankIf 7 = .ok (.i2l, 1) := dk_133 (dk_at dksX0_rankIf_0 7 rfl rfl)
theorem dX0_rankIf_8 : decode cX0_rankIf 8 = .ok (.lastore, 1) := dk_80 (dk_at dksX0_rankIf_0 8 rfl rfl)
theorem dX0_rankIf_9 : decode cX0_rankIf 9 = .ok (.goto 6, 3) := dk_167 0 6 (dk_at dksX0_rankIf_0 9 rfl rfl)
theorem dX0_rankIf_12 : decode cX0_rankIf 12 = .ok (.astore_n 3, 1) := dk_78 (dk_at dksX0_rankIf_0 12 rfl rfl)
theorem dX0_rankIf_13 : decode cX0_rankIf 13 = .ok (.iconst 1, 1) := dk_4 (dk_at dksX0_rankIf_0 13 rfl rfl)
theorem dX0_rankIf_14 : decode cX0_rankIf 14 = .ok (.ireturn, 1) := dk_172 (dk_at dksX0_rankIf_0 14 rfl rfl)
theorem dX0_rankIf_15 : decode cX0_rankIf 15 = .ok (.iconst 0, 1) := dk_3 (dk_at dksX0_rankIf_0 15 rfl rfl)
theorem dX0_rankIf_16 : decode cX0_rankIf 16 = .ok (.ireturn, 1) := dk_172 (dk_at dksX0_rankIf_0 16 rfl rfl)
abbrev cX0_placeIf : ByteArray := method_17_code
def yX0_placeIf : MethodName := ⟨RX0, "placeIf", "(LSpokenMarks;I[J)I"⟩
def dkwX0_placeIf_0 : List UInt8 := [44, 3, 42, 27, 182, 0, 59, 133, 80, 167, 0, 6, 78, 4, 172, 3, 172]
abbrev dktX0_placeIf_0 : List UInt8 := dkwX0_placeIf_0 ++ []
theorem dksX0_placeIf_0 : cX0_placeIf.data.toList.drop 0 = dktX0_placeIf_0 := by decide +kernel
theorem dX0_placeIf_0 : decode cX0_placeIf 0 = .ok (.aload_n 2, 1) := dk_44 (dk_at dksX0_placeIf_0 0 rfl rfl)
theorem dX0_placeIf_1 : decode cX0_placeIf 1 = .ok (.iconst 0, 1) := dk_3 (dk_at dksX0_placeIf_0 1 rfl rfl)
theorem dX0_placeIf_2 : decode cX0_placeIf 2 = .ok (.aload_n 0, 1) := dk_42 (dk_at dksX0_placeIf_0 2 rfl rfl)
theorem dX0_placeIf_3 : decode cX0_placeIf 3 = .ok (.iload_n 1, 1) := dk_27 (dk_at dksX0_placeIf_0 3 rfl rfl)
theorem dX0_placeIf_4 : decode cX0_placeIf 4 = .ok (.invokevirtual 59, 3) := dk_182 0 59 (dk_at dksX0_placeIf_0 4 rfl rfl)
theorem dX0_placeIf_7 : decode cX0_placeIf 7 = .ok (.i2l, 1) := dk_133 (dk_at dksX0_placeIf_0 7 rfl rfl)
theorem dX0_placeIf_8 : decode cX0_placeIf 8 = .ok (.lastore, 1) := dk_80 (dk_at dksX0_placeIf_0 8 rfl rfl)
theorem dX0_placeIf_9 : decode cX0_placeIf 9 = .ok (.goto 6, 3) := dk_167 0 6 (dk_at dksX0_placeIf_0 9 rfl rfl)
theorem dX0_placeIf_12 : decode cX0_placeIf 12 = .ok (.astore_n 3, 1) := dk_78 (dk_at dksX0_placeIf_0 12 rfl rfl)
theorem dX0_placeIf_13 : decode cX0_placeIf 13 = .ok (.iconst 1, 1) := dk_4 (dk_at dksX0_placeIf_0 13 rfl rfl)
theorem dX0_placeIf_14 : decode cX0_placeIf 14 = .ok (.ireturn, 1) := dk_172 (dk_at dksX0_placeIf_0 14 rfl rfl)
theorem dX0_placeIf_15 : decode cX0_placeIf 15 = .ok (.iconst 0, 1) := dk_3 (dk_at dksX0_placeIf_0 15 rfl rfl)
theorem dX0_placeIf_16 : decode cX0_placeIf 16 = .ok (.ireturn, 1) := dk_172 (dk_at dksX0_placeIf_0 16 rfl rfl)
abbrev cX0_movesIf : ByteArray := method_18_code
def yX0_movesIf : MethodName := ⟨RX0, "movesIf", "(LSpokenMarks;I[J)I"⟩
def dkwX0_movesIf_0 : List UInt8 := [44, 3, 42, 27, 182, 0, 62, 133, 80, 167, 0, 6, 78, 4, 172, 3, 172]
abbrev dktX0_movesIf_0 : List UInt8 := dkwX0_movesIf_0 ++ []
theorem dksX0_movesIf_0 : cX0_movesIf.data.toList.drop 0 = dktX0_movesIf_0 := by decide +kernel
theorem dX0_movesIf_0 : decode cX0_movesIf 0 = .ok (.aload_n 2, 1) := dk_44 (dk_at dksX0_movesIf_0 0 rfl rfl)
theorem dX0_movesIf_1 : decode cX0_movesIf 1 = .ok (.iconst 0, 1) := dk_3 (dk_at dksX0_movesIf_0 1 rfl rfl)
theorem dX0_movesIf_2 : decode cX0_movesIf 2 = .ok (.aload_n 0, 1) := dk_42 (dk_at dksX0_movesIf_0 2 rfl rfl)
theorem dX0_movesIf_3 : decode cX0_movesIf 3 = .ok (.iload_n 1, 1) := dk_27 (dk_at dksX0_movesIf_0 3 rfl rfl)
theorem dX0_movesIf_4 : decode cX0_movesIf 4 = .ok (.invokevirtual 62, 3) := dk_182 0 62 (dk_at dksX0_movesIf_0 4 rfl rfl)
theorem dX0_movesIf_7 : decode cX0_movesIf 7 = .ok (.i2l, 1) := dk_133 (dk_at dksX0_movesIf_0 7 rfl rfl)
theorem dX0_movesIf_8 : decode cX0_movesIf 8 = .ok (.lastore, 1) := dk_80 (dk_at dksX0_movesIf_0 8 rfl rfl)
theorem dX0_movesIf_9 : decode cX0_movesIf 9 = .ok (.goto 6, 3) := dk_167 0 6 (dk_at dksX0_movesIf_0 9 rfl rfl)
theorem dX0_movesIf_12 : decode cX0_movesIf 12 = .ok (.astore_n 3, 1) := dk_78 (dk_at dksX0_movesIf_0 12 rfl rfl)
theorem dX0_movesIf_13 : decode cX0_movesIf 13 = .ok (.iconst 1, 1) := dk_4 (dk_at dksX0_movesIf_0 13 rfl rfl)
theorem dX0_movesIf_14 : decode cX0_movesIf 14 = .ok (.ireturn, 1) := dk_172 (dk_at dksX0_movesIf_0 14 rfl rfl)
theorem dX0_movesIf_15 : decode cX0_movesIf 15 = .ok (.iconst 0, 1) := dk_3 (dk_at dksX0_movesIf_0 15 rfl rfl)
theorem dX0_movesIf_16 : decode cX0_movesIf 16 = .ok (.ireturn, 1) := dk_172 (dk_at dksX0_movesIf_0 16 rfl rfl)
abbrev cX0_why : ByteArray := method_19_code
def yX0_why : MethodName := ⟨RX0, "why", "(LSpokenMarks;I[J)I"⟩
def dkwX0_why_0 : List UInt8 := [44, 3, 42, 27, 182, 0, 65, 133, 80, 167, 0, 6, 78, 4, 172, 3, 172]
abbrev dktX0_why_0 : List UInt8 := dkwX0_why_0 ++ []
theorem dksX0_why_0 : cX0_why.data.toList.drop 0 = dktX0_why_0 := by decide +kernel
theorem dX0_why_0 : decode cX0_why 0 = .ok (.aload_n 2, 1) := dk_44 (dk_at dksX0_why_0 0 rfl rfl)
theorem dX0_why_1 : decode cX0_why 1 = .ok (.iconst 0, 1) := dk_3 (dk_at dksX0_why_0 1 rfl rfl)
theorem dX0_why_2 : decode cX0_why 2 = .ok (.aload_n 0, 1) := dk_42 (dk_at dksX0_why_0 2 rfl rfl)
theorem dX0_why_3 : decode cX0_why 3 = .ok (.iload_n 1, 1) := dk_27 (dk_at dksX0_why_0 3 rfl rfl)
theorem dX0_why_4 : decode cX0_why 4 = .ok (.invokevirtual 65, 3) := dk_182 0 65 (dk_at dksX0_why_0 4 rfl rfl)
theorem dX0_why_7 : decode cX0_why 7 = .ok (.i2l, 1) := dk_133 (dk_at dksX0_why_0 7 rfl rfl)
theorem dX0_why_8 : decode cX0_why 8 = .ok (.lastore, 1) := dk_80 (dk_at dksX0_why_0 8 rfl rfl)
theorem dX0_why_9 : decode cX0_why 9 = .ok (.goto 6, 3) := dk_167 0 6 (dk_at dksX0_why_0 9 rfl rfl)
theorem dX0_why_12 : decode cX0_why 12 = .ok (.astore_n 3, 1) := dk_78 (dk_at dksX0_why_0 12 rfl rfl)
theorem dX0_why_13 : decode cX0_why 13 = .ok (.iconst 1, 1) := dk_4 (dk_at dksX0_why_0 13 rfl rfl)
theorem dX0_why_14 : decode cX0_why 14 = .ok (.ireturn, 1) := dk_172 (dk_at dksX0_why_0 14 rfl rfl)
theorem dX0_why_15 : decode cX0_why 15 = .ok (.iconst 0, 1) := dk_3 (dk_at dksX0_why_0 15 rfl rfl)
theorem dX0_why_16 : decode cX0_why 16 = .ok (.ireturn, 1) := dk_172 (dk_at dksX0_why_0 16 rfl rfl)
abbrev cX0_filled : ByteArray := method_20_code
def yX0_filled : MethodName := ⟨RX0, "filled", "(LSpokenMarks;I[D)I"⟩
def dkwX0_filled_0 : List UInt8 := [44, 3, 42, 27, 182, 0, 68, 141, 82, 167, 0, 6, 78, 4, 172, 3, 172]
abbrev dktX0_filled_0 : List UInt8 := dkwX0_filled_0 ++ []
theorem dksX0_filled_0 : cX0_filled.data.toList.drop 0 = dktX0_filled_0 := by decide +kernel
theorem dX0_filled_0 : decode cX0_filled 0 = .ok (.aload_n 2, 1) := dk_44 (dk_at dksX0_filled_0 0 rfl rfl)
theorem dX0_filled_1 : decode cX0_filled 1 = .ok (.iconst 0, 1) := dk_3 (dk_at dksX0_filled_0 1 rfl rfl)
theorem dX0_filled_2 : decode cX0_filled 2 = .ok (.aload_n 0, 1) := dk_42 (dk_at dksX0_filled_0 2 rfl rfl)
theorem dX0_filled_3 : decode cX0_filled 3 = .ok (.iload_n 1, 1) := dk_27 (dk_at dksX0_filled_0 3 rfl rfl)
theorem dX0_filled_4 : decode cX0_filled 4 = .ok (.invokevirtual 68, 3) := dk_182 0 68 (dk_at dksX0_filled_0 4 rfl rfl)
theorem dX0_filled_7 : decode cX0_filled 7 = .ok (.f2d, 1) := dk_141 (dk_at dksX0_filled_0 7 rfl rfl)
theorem dX0_filled_8 : decode cX0_filled 8 = .ok (.dastore, 1) := dk_82 (dk_at dksX0_filled_0 8 rfl rfl)
theorem dX0_filled_9 : decode cX0_filled 9 = .ok (.goto 6, 3) := dk_167 0 6 (dk_at dksX0_filled_0 9 rfl rfl)
theorem dX0_filled_12 : decode cX0_filled 12 = .ok (.astore_n 3, 1) := dk_78 (dk_at dksX0_filled_0 12 rfl rfl)
theorem dX0_filled_13 : decode cX0_filled 13 = .ok (.iconst 1, 1) := dk_4 (dk_at dksX0_filled_0 13 rfl rfl)
theorem dX0_filled_14 : decode cX0_filled 14 = .ok (.ireturn, 1) := dk_172 (dk_at dksX0_filled_0 14 rfl rfl)
theorem dX0_filled_15 : decode cX0_filled 15 = .ok (.iconst 0, 1) := dk_3 (dk_at dksX0_filled_0 15 rfl rfl)
theorem dX0_filled_16 : decode cX0_filled 16 = .ok (.ireturn, 1) := dk_172 (dk_at dksX0_filled_0 16 rfl rfl)
abbrev cX0_add : ByteArray := method_21_code
def yX0_add : MethodName := ⟨RX0, "add", "(LSpokenMarks;II[J)I"⟩
def dkwX0_add_0 : List UInt8 := [45, 3, 42, 27, 28, 182, 0, 72, 133, 80, 167, 0, 7, 58, 4, 4, 172, 3, 172]
abbrev dktX0_add_0 : List UInt8 := dkwX0_add_0 ++ []
theorem dksX0_add_0 : cX0_add.data.toList.drop 0 = dktX0_add_0 := by decide +kernel
theorem dX0_add_0 : decode cX0_add 0 = .ok (.aload_n 3, 1) := dk_45 (dk_at dksX0_add_0 0 rfl rfl)
theorem dX0_add_1 : decode cX0_add 1 = .ok (.iconst 0, 1) := dk_3 (dk_at dksX0_add_0 1 rfl rfl)
theorem dX0_add_2 : decode cX0_add 2 = .ok (.aload_n 0, 1) := dk_42 (dk_at dksX0_add_0 2 rfl rfl)
theorem dX0_add_3 : decode cX0_add 3 = .ok (.iload_n 1, 1) := dk_27 (dk_at dksX0_add_0 3 rfl rfl)
theorem dX0_add_4 : decode cX0_add 4 = .ok (.iload_n 2, 1) := dk_28 (dk_at dksX0_add_0 4 rfl rfl)
theorem dX0_add_5 : decode cX0_add 5 = .ok (.invokevirtual 72, 3) := dk_182 0 72 (dk_at dksX0_add_0 5 rfl rfl)
theorem dX0_add_8 : decode cX0_add 8 = .ok (.i2l, 1) := dk_133 (dk_at dksX0_add_0 8 rfl rfl)
theorem dX0_add_9 : decode cX0_add 9 = .ok (.lastore, 1) := dk_80 (dk_at dksX0_add_0 9 rfl rfl)
theorem dX0_add_10 : decode cX0_add 10 = .ok (.goto 7, 3) := dk_167 0 7 (dk_at dksX0_add_0 10 rfl rfl)
theorem dX0_add_13 : decode cX0_add 13 = .ok (.astore 4, 2) := dk_58 4 (dk_at dksX0_add_0 13 rfl rfl)
theorem dX0_add_15 : decode cX0_add 15 = .ok (.iconst 1, 1) := dk_4 (dk_at dksX0_add_0 15 rfl rfl)
theorem dX0_add_16 : decode cX0_add 16 = .ok (.ireturn, 1) := dk_172 (dk_at dksX0_add_0 16 rfl rfl)
theorem dX0_add_17 : decode cX0_add 17 = .ok (.iconst 0, 1) := dk_3 (dk_at dksX0_add_0 17 rfl rfl)
theorem dX0_add_18 : decode cX0_add 18 = .ok (.ireturn, 1) := dk_172 (dk_at dksX0_add_0 18 rfl rfl)
abbrev cX0_drop : ByteArray := method_22_code
def yX0_drop : MethodName := ⟨RX0, "drop", "(LSpokenMarks;I[J)I"⟩
def dkwX0_drop_0 : List UInt8 := [44, 3, 42, 27, 182, 0, 75, 133, 80, 167, 0, 6, 78, 4, 172, 3, 172]
abbrev dktX0_drop_0 : List UInt8 := dkwX0_drop_0 ++ []
theorem dksX0_drop_0 : cX0_drop.data.toList.drop 0 = dktX0_drop_0 := by decide +kernel
theorem dX0_drop_0 : decode cX0_drop 0 = .ok (.aload_n 2, 1) := dk_44 (dk_at dksX0_drop_0 0 rfl rfl)
theorem dX0_drop_1 : decode cX0_drop 1 = .ok (.iconst 0, 1) := dk_3 (dk_at dksX0_drop_0 1 rfl rfl)
theorem dX0_drop_2 : decode cX0_drop 2 = .ok (.aload_n 0, 1) := dk_42 (dk_at dksX0_drop_0 2 rfl rfl)
theorem dX0_drop_3 : decode cX0_drop 3 = .ok (.iload_n 1, 1) := dk_27 (dk_at dksX0_drop_0 3 rfl rfl)
theorem dX0_drop_4 : decode cX0_drop 4 = .ok (.invokevirtual 75, 3) := dk_182 0 75 (dk_at dksX0_drop_0 4 rfl rfl)
theorem dX0_drop_7 : decode cX0_drop 7 = .ok (.i2l, 1) := dk_133 (dk_at dksX0_drop_0 7 rfl rfl)
theorem dX0_drop_8 : decode cX0_drop 8 = .ok (.lastore, 1) := dk_80 (dk_at dksX0_drop_0 8 rfl rfl)
theorem dX0_drop_9 : decode cX0_drop 9 = .ok (.goto 6, 3) := dk_167 0 6 (dk_at dksX0_drop_0 9 rfl rfl)
theorem dX0_drop_12 : decode cX0_drop 12 = .ok (.astore_n 3, 1) := dk_78 (dk_at dksX0_drop_0 12 rfl rfl)
theorem dX0_drop_13 : decode cX0_drop 13 = .ok (.iconst 1, 1) := dk_4 (dk_at dksX0_drop_0 13 rfl rfl)
theorem dX0_drop_14 : decode cX0_drop 14 = .ok (.ireturn, 1) := dk_172 (dk_at dksX0_drop_0 14 rfl rfl)
theorem dX0_drop_15 : decode cX0_drop 15 = .ok (.iconst 0, 1) := dk_3 (dk_at dksX0_drop_0 15 rfl rfl)
theorem dX0_drop_16 : decode cX0_drop 16 = .ok (.ireturn, 1) := dk_172 (dk_at dksX0_drop_0 16 rfl rfl)
abbrev cX0_say : ByteArray := method_23_code
def yX0_say : MethodName := ⟨RX0, "say", "(LSpokenMarks;I[J)I"⟩
def dkwX0_say_0 : List UInt8 := [44, 3, 42, 27, 182, 0, 78, 133, 80, 167, 0, 6, 78, 4, 172, 3, 172]
abbrev dktX0_say_0 : List UInt8 := dkwX0_say_0 ++ []
theorem dksX0_say_0 : cX0_say.data.toList.drop 0 = dktX0_say_0 := by decide +kernel
theorem dX0_say_0 : decode cX0_say 0 = .ok (.aload_n 2, 1) := dk_44 (dk_at dksX0_say_0 0 rfl rfl)
theorem dX0_say_1 : decode cX0_say 1 = .ok (.iconst 0, 1) := dk_3 (dk_at dksX0_say_0 1 rfl rfl)
theorem dX0_say_2 : decode cX0_say 2 = .ok (.aload_n 0, 1) := dk_42 (dk_at dksX0_say_0 2 rfl rfl)
theorem dX0_say_3 : decode cX0_say 3 = .ok (.iload_n 1, 1) := dk_27 (dk_at dksX0_say_0 3 rfl rfl)
theorem dX0_say_4 : decode cX0_say 4 = .ok (.invokevirtual 78, 3) := dk_182 0 78 (dk_at dksX0_say_0 4 rfl rfl)
theorem dX0_say_7 : decode cX0_say 7 = .ok (.i2l, 1) := dk_133 (dk_at dksX0_say_0 7 rfl rfl)
theorem dX0_say_8 : decode cX0_say 8 = .ok (.lastore, 1) := dk_80 (dk_at dksX0_say_0 8 rfl rfl)
theorem dX0_say_9 : decode cX0_say 9 = .ok (.goto 6, 3) := dk_167 0 6 (dk_at dksX0_say_0 9 rfl rfl)
theorem dX0_say_12 : decode cX0_say 12 = .ok (.astore_n 3, 1) := dk_78 (dk_at dksX0_say_0 12 rfl rfl)
theorem dX0_say_13 : decode cX0_say 13 = .ok (.iconst 1, 1) := dk_4 (dk_at dksX0_say_0 13 rfl rfl)
theorem dX0_say_14 : decode cX0_say 14 = .ok (.ireturn, 1) := dk_172 (dk_at dksX0_say_0 14 rfl rfl)
theorem dX0_say_15 : decode cX0_say 15 = .ok (.iconst 0, 1) := dk_3 (dk_at dksX0_say_0 15 rfl rfl)
theorem dX0_say_16 : decode cX0_say 16 = .ok (.ireturn, 1) := dk_172 (dk_at dksX0_say_0 16 rfl rfl)
abbrev cX0_unsay : ByteArray := method_24_code
def yX0_unsay : MethodName := ⟨RX0, "unsay", "(LSpokenMarks;I[J)I"⟩
def dkwX0_unsay_0 : List UInt8 := [44, 3, 42, 27, 182, 0, 81, 133, 80, 167, 0, 6, 78, 4, 172, 3, 172]
abbrev dktX0_unsay_0 : List UInt8 := dkwX0_unsay_0 ++ []
theorem dksX0_unsay_0 : cX0_unsay.data.toList.drop 0 = dktX0_unsay_0 := by decide +kernel
theorem dX0_unsay_0 : decode cX0_unsay 0 = .ok (.aload_n 2, 1) := dk_44 (dk_at dksX0_unsay_0 0 rfl rfl)
theorem dX0_unsay_1 : decode cX0_unsay 1 = .ok (.iconst 0, 1) := dk_3 (dk_at dksX0_unsay_0 1 rfl rfl)
theorem dX0_unsay_2 : decode cX0_unsay 2 = .ok (.aload_n 0, 1) := dk_42 (dk_at dksX0_unsay_0 2 rfl rfl)
theorem dX0_unsay_3 : decode cX0_unsay 3 = .ok (.iload_n 1, 1) := dk_27 (dk_at dksX0_unsay_0 3 rfl rfl)
theorem dX0_unsay_4 : decode cX0_unsay 4 = .ok (.invokevirtual 81, 3) := dk_182 0 81 (dk_at dksX0_unsay_0 4 rfl rfl)
theorem dX0_unsay_7 : decode cX0_unsay 7 = .ok (.i2l, 1) := dk_133 (dk_at dksX0_unsay_0 7 rfl rfl)
theorem dX0_unsay_8 : decode cX0_unsay 8 = .ok (.lastore, 1) := dk_80 (dk_at dksX0_unsay_0 8 rfl rfl)
theorem dX0_unsay_9 : decode cX0_unsay 9 = .ok (.goto 6, 3) := dk_167 0 6 (dk_at dksX0_unsay_0 9 rfl rfl)
theorem dX0_unsay_12 : decode cX0_unsay 12 = .ok (.astore_n 3, 1) := dk_78 (dk_at dksX0_unsay_0 12 rfl rfl)
theorem dX0_unsay_13 : decode cX0_unsay 13 = .ok (.iconst 1, 1) := dk_4 (dk_at dksX0_unsay_0 13 rfl rfl)
theorem dX0_unsay_14 : decode cX0_unsay 14 = .ok (.ireturn, 1) := dk_172 (dk_at dksX0_unsay_0 14 rfl rfl)
theorem dX0_unsay_15 : decode cX0_unsay 15 = .ok (.iconst 0, 1) := dk_3 (dk_at dksX0_unsay_0 15 rfl rfl)
theorem dX0_unsay_16 : decode cX0_unsay 16 = .ok (.ireturn, 1) := dk_172 (dk_at dksX0_unsay_0 16 rfl rfl)
abbrev cX0_setWidth : ByteArray := method_25_code
def yX0_setWidth : MethodName := ⟨RX0, "setWidth", "(LSpokenMarks;II[J)I"⟩
def dkwX0_setWidth_0 : List UInt8 := [45, 3, 42, 27, 28, 182, 0, 84, 133, 80, 167, 0, 11, 58, 4, 4, 172, 58, 4, 5, 172, 3, 172]
abbrev dktX0_setWidth_0 : List UInt8 := dkwX0_setWidth_0 ++ []
theorem dksX0_setWidth_0 : cX0_setWidth.data.toList.drop 0 = dktX0_setWidth_0 := by decide +kernel
theorem dX0_setWidth_0 : decode cX0_setWidth 0 = .ok (.aload_n 3, 1) := dk_45 (dk_at dksX0_setWidth_0 0 rfl rfl)
theorem dX0_setWidth_1 : decode cX0_setWidth 1 = .ok (.iconst 0, 1) := dk_3 (dk_at dksX0_setWidth_0 1 rfl rfl)
theorem dX0_setWidth_2 : decode cX0_setWidth 2 = .ok (.aload_n 0, 1) := dk_42 (dk_at dksX0_setWidth_0 2 rfl rfl)
theorem dX0_setWidth_3 : decode cX0_setWidth 3 = .ok (.iload_n 1, 1) := dk_27 (dk_at dksX0_setWidth_0 3 rfl rfl)
theorem dX0_setWidth_4 : decode cX0_setWidth 4 = .ok (.iload_n 2, 1) := dk_28 (dk_at dksX0_setWidth_0 4 rfl rfl)
theorem dX0_setWidth_5 : decode cX0_setWidth 5 = .ok (.invokevirtual 84, 3) := dk_182 0 84 (dk_at dksX0_setWidth_0 5 rfl rfl)
theorem dX0_setWidth_8 : decode cX0_setWidth 8 = .ok (.i2l, 1) := dk_133 (dk_at dksX0_setWidth_0 8 rfl rfl)
theorem dX0_setWidth_9 : decode cX0_setWidth 9 = .ok (.lastore, 1) := dk_80 (dk_at dksX0_setWidth_0 9 rfl rfl)
theorem dX0_setWidth_10 : decode cX0_setWidth 10 = .ok (.goto 11, 3) := dk_167 0 11 (dk_at dksX0_setWidth_0 10 rfl rfl)
theorem dX0_setWidth_13 : decode cX0_setWidth 13 = .ok (.astore 4, 2) := dk_58 4 (dk_at dksX0_setWidth_0 13 rfl rfl)
theorem dX0_setWidth_15 : decode cX0_setWidth 15 = .ok (.iconst 1, 1) := dk_4 (dk_at dksX0_setWidth_0 15 rfl rfl)
theorem dX0_setWidth_16 : decode cX0_setWidth 16 = .ok (.ireturn, 1) := dk_172 (dk_at dksX0_setWidth_0 16 rfl rfl)
theorem dX0_setWidth_17 : decode cX0_setWidth 17 = .ok (.astore 4, 2) := dk_58 4 (dk_at dksX0_setWidth_0 17 rfl rfl)
theorem dX0_setWidth_19 : decode cX0_setWidth 19 = .ok (.iconst 2, 1) := dk_5 (dk_at dksX0_setWidth_0 19 rfl rfl)
theorem dX0_setWidth_20 : decode cX0_setWidth 20 = .ok (.ireturn, 1) := dk_172 (dk_at dksX0_setWidth_0 20 rfl rfl)
theorem dX0_setWidth_21 : decode cX0_setWidth 21 = .ok (.iconst 0, 1) := dk_3 (dk_at dksX0_setWidth_0 21 rfl rfl)
theorem dX0_setWidth_22 : decode cX0_setWidth 22 = .ok (.ireturn, 1) := dk_172 (dk_at dksX0_setWidth_0 22 rfl rfl)
abbrev cX0_setBound : ByteArray := method_26_code
def yX0_setBound : MethodName := ⟨RX0, "setBound", "(LSpokenMarks;II[J)I"⟩
def dkwX0_setBound_0 : List UInt8 := [45, 3, 42, 27, 28, 182, 0, 87, 133, 80, 167, 0, 11, 58, 4, 4, 172, 58, 4, 5, 172, 3, 172]
abbrev dktX0_setBound_0 : List UInt8 := dkwX0_setBound_0 ++ []
theorem dksX0_setBound_0 : cX0_setBound.data.toList.drop 0 = dktX0_setBound_0 := by decide +kernel
theorem dX0_setBound_0 : decode cX0_setBound 0 = .ok (.aload_n 3, 1) := dk_45 (dk_at dksX0_setBound_0 0 rfl rfl)
theorem dX0_setBound_1 : decode cX0_setBound 1 = .ok (.iconst 0, 1) := dk_3 (dk_at dksX0_setBound_0 1 rfl rfl)
theorem dX0_setBound_2 : decode cX0_setBound 2 = .ok (.aload_n 0, 1) := dk_42 (dk_at dksX0_setBound_0 2 rfl rfl)
theorem dX0_setBound_3 : decode cX0_setBound 3 = .ok (.iload_n 1, 1) := dk_27 (dk_at dksX0_setBound_0 3 rfl rfl)
theorem dX0_setBound_4 : decode cX0_setBound 4 = .ok (.iload_n 2, 1) := dk_28 (dk_at dksX0_setBound_0 4 rfl rfl)
theorem dX0_setBound_5 : decode cX0_setBound 5 = .ok (.invokevirtual 87, 3) := dk_182 0 87 (dk_at dksX0_setBound_0 5 rfl rfl)
theorem dX0_setBound_8 : decode cX0_setBound 8 = .ok (.i2l, 1) := dk_133 (dk_at dksX0_setBound_0 8 rfl rfl)
theorem dX0_setBound_9 : decode cX0_setBound 9 = .ok (.lastore, 1) := dk_80 (dk_at dksX0_setBound_0 9 rfl rfl)
theorem dX0_setBound_10 : decode cX0_setBound 10 = .ok (.goto 11, 3) := dk_167 0 11 (dk_at dksX0_setBound_0 10 rfl rfl)
theorem dX0_setBound_13 : decode cX0_setBound 13 = .ok (.astore 4, 2) := dk_58 4 (dk_at dksX0_setBound_0 13 rfl rfl)
theorem dX0_setBound_15 : decode cX0_setBound 15 = .ok (.iconst 1, 1) := dk_4 (dk_at dksX0_setBound_0 15 rfl rfl)
theorem dX0_setBound_16 : decode cX0_setBound 16 = .ok (.ireturn, 1) := dk_172 (dk_at dksX0_setBound_0 16 rfl rfl)
theorem dX0_setBound_17 : decode cX0_setBound 17 = .ok (.astore 4, 2) := dk_58 4 (dk_at dksX0_setBound_0 17 rfl rfl)
theorem dX0_setBound_19 : decode cX0_setBound 19 = .ok (.iconst 2, 1) := dk_5 (dk_at dksX0_setBound_0 19 rfl rfl)
theorem dX0_setBound_20 : decode cX0_setBound 20 = .ok (.ireturn, 1) := dk_172 (dk_at dksX0_setBound_0 20 rfl rfl)
theorem dX0_setBound_21 : decode cX0_setBound 21 = .ok (.iconst 0, 1) := dk_3 (dk_at dksX0_setBound_0 21 rfl rfl)
theorem dX0_setBound_22 : decode cX0_setBound 22 = .ok (.ireturn, 1) := dk_172 (dk_at dksX0_setBound_0 22 rfl rfl)
abbrev cX0_play : ByteArray := method_27_code
def yX0_play : MethodName := ⟨RX0, "play", "(LSpokenMarks;I[J)I"⟩
def dkwX0_play_0 : List UInt8 := [44, 3, 42, 27, 182, 0, 90, 133, 80, 167, 0, 6, 78, 4, 172, 3, 172]
abbrev dktX0_play_0 : List UInt8 := dkwX0_play_0 ++ []
theorem dksX0_play_0 : cX0_play.data.toList.drop 0 = dktX0_play_0 := by decide +kernel
theorem dX0_play_0 : decode cX0_play 0 = .ok (.aload_n 2, 1) := dk_44 (dk_at dksX0_play_0 0 rfl rfl)
theorem dX0_play_1 : decode cX0_play 1 = .ok (.iconst 0, 1) := dk_3 (dk_at dksX0_play_0 1 rfl rfl)
theorem dX0_play_2 : decode cX0_play 2 = .ok (.aload_n 0, 1) := dk_42 (dk_at dksX0_play_0 2 rfl rfl)
theorem dX0_play_3 : decode cX0_play 3 = .ok (.iload_n 1, 1) := dk_27 (dk_at dksX0_play_0 3 rfl rfl)
theorem dX0_play_4 : decode cX0_play 4 = .ok (.invokevirtual 90, 3) := dk_182 0 90 (dk_at dksX0_play_0 4 rfl rfl)
theorem dX0_play_7 : decode cX0_play 7 = .ok (.i2l, 1) := dk_133 (dk_at dksX0_play_0 7 rfl rfl)
theorem dX0_play_8 : decode cX0_play 8 = .ok (.lastore, 1) := dk_80 (dk_at dksX0_play_0 8 rfl rfl)
theorem dX0_play_9 : decode cX0_play 9 = .ok (.goto 6, 3) := dk_167 0 6 (dk_at dksX0_play_0 9 rfl rfl)
theorem dX0_play_12 : decode cX0_play 12 = .ok (.astore_n 3, 1) := dk_78 (dk_at dksX0_play_0 12 rfl rfl)
theorem dX0_play_13 : decode cX0_play 13 = .ok (.iconst 1, 1) := dk_4 (dk_at dksX0_play_0 13 rfl rfl)
theorem dX0_play_14 : decode cX0_play 14 = .ok (.ireturn, 1) := dk_172 (dk_at dksX0_play_0 14 rfl rfl)
theorem dX0_play_15 : decode cX0_play 15 = .ok (.iconst 0, 1) := dk_3 (dk_at dksX0_play_0 15 rfl rfl)
theorem dX0_play_16 : decode cX0_play 16 = .ok (.ireturn, 1) := dk_172 (dk_at dksX0_play_0 16 rfl rfl)
abbrev cX0_format : ByteArray := method_28_code
def yX0_format : MethodName := ⟨RX0, "format", "(LSpokenMarks;I[J)I"⟩
def dkwX0_format_0 : List UInt8 := [44, 3, 42, 27, 182, 0, 93, 133, 80, 167, 0, 6, 78, 4, 172, 3, 172]
abbrev dktX0_format_0 : List UInt8 := dkwX0_format_0 ++ []
theorem dksX0_format_0 : cX0_format.data.toList.drop 0 = dktX0_format_0 := by decide +kernel
theorem dX0_format_0 : decode cX0_format 0 = .ok (.aload_n 2, 1) := dk_44 (dk_at dksX0_format_0 0 rfl rfl)
theorem dX0_format_1 : decode cX0_format 1 = .ok (.iconst 0, 1) := dk_3 (dk_at dksX0_format_0 1 rfl rfl)
theorem dX0_format_2 : decode cX0_format 2 = .ok (.aload_n 0, 1) := dk_42 (dk_at dksX0_format_0 2 rfl rfl)
theorem dX0_format_3 : decode cX0_format 3 = .ok (.iload_n 1, 1) := dk_27 (dk_at dksX0_format_0 3 rfl rfl)
theorem dX0_format_4 : decode cX0_format 4 = .ok (.invokevirtual 93, 3) := dk_182 0 93 (dk_at dksX0_format_0 4 rfl rfl)
theorem dX0_format_7 : decode cX0_format 7 = .ok (.i2l, 1) := dk_133 (dk_at dksX0_format_0 7 rfl rfl)
theorem dX0_format_8 : decode cX0_format 8 = .ok (.lastore, 1) := dk_80 (dk_at dksX0_format_0 8 rfl rfl)
theorem dX0_format_9 : decode cX0_format 9 = .ok (.goto 6, 3) := dk_167 0 6 (dk_at dksX0_format_0 9 rfl rfl)
theorem dX0_format_12 : decode cX0_format 12 = .ok (.astore_n 3, 1) := dk_78 (dk_at dksX0_format_0 12 rfl rfl)
theorem dX0_format_13 : decode cX0_format 13 = .ok (.iconst 1, 1) := dk_4 (dk_at dksX0_format_0 13 rfl rfl)
theorem dX0_format_14 : decode cX0_format 14 = .ok (.ireturn, 1) := dk_172 (dk_at dksX0_format_0 14 rfl rfl)
theorem dX0_format_15 : decode cX0_format 15 = .ok (.iconst 0, 1) := dk_3 (dk_at dksX0_format_0 15 rfl rfl)
theorem dX0_format_16 : decode cX0_format 16 = .ok (.ireturn, 1) := dk_172 (dk_at dksX0_format_0 16 rfl rfl)
theorem q119 : (Jvm.Cond.initialized "SpokenMarksLaw") ∈ lw_all := lw_g (lw_at lw_m1 0 rfl) rfl
theorem q174 : (Jvm.Cond.classLink "SpokenMarksLaw" (8 : Nat) "SpokenMarks") ∈ lw_all := lw_g (lw_at lw_m1 55 rfl) rfl
theorem q176 : (Jvm.Cond.methodLink "SpokenMarksLaw" (96 : Nat) ({ cls := "SpokenMarks", name := "<init>", desc := "()V" } : Jvm.MethodName)) ∈ lw_all := lw_g (lw_at lw_m1 57 rfl) rfl
theorem q1726 : (Jvm.Cond.methodLink "SpokenMarksLaw" (100 : Nat) ({ cls := "SpokenMarks", name := "feed", desc := "(IIIII)I" } : Jvm.MethodName)) ∈ lw_all := lw_g (lw_at lw_m7 167 rfl) rfl
theorem q1730 : (Jvm.Cond.methodLink "SpokenMarksLaw" (115 : Nat) ({ cls := "SpokenMarks", name := "errorPosition", desc := "()I" } : Jvm.MethodName)) ∈ lw_all := lw_g (lw_at lw_m7 171 rfl) rfl
theorem q1734 : (Jvm.Cond.methodLink "SpokenMarksLaw" (125 : Nat) ({ cls := "SpokenMarks", name := "at", desc := "(I)I" } : Jvm.MethodName)) ∈ lw_all := lw_g (lw_at lw_m7 175 rfl) rfl
theorem q1746 : (Jvm.Cond.methodLink "SpokenMarksLaw" (147 : Nat) ({ cls := "SpokenMarks", name := "gap", desc := "()I" } : Jvm.MethodName)) ∈ lw_all := lw_g (lw_at lw_m7 187 rfl) rfl
theorem q1754 : (Jvm.Cond.methodLink "SpokenMarksLaw" (157 : Nat) ({ cls := "SpokenMarks", name := "alike", desc := "()I" } : Jvm.MethodName)) ∈ lw_all := lw_g (lw_at lw_m7 195 rfl) rfl
theorem q1765 : (Jvm.Cond.methodLink "SpokenMarksLaw" (182 : Nat) ({ cls := "SpokenMarks", name := "cause", desc := "()I" } : Jvm.MethodName)) ∈ lw_all := lw_g (lw_at lw_m7 206 rfl) rfl
theorem q1769 : (Jvm.Cond.methodLink "SpokenMarksLaw" (190 : Nat) ({ cls := "SpokenMarks", name := "meanMoves", desc := "()D" } : Jvm.MethodName)) ∈ lw_all := lw_g (lw_at lw_m7 210 rfl) rfl
theorem q1773 : (Jvm.Cond.methodLink "SpokenMarksLaw" (213 : Nat) ({ cls := "SpokenMarks", name := "balance", desc := "()I" } : Jvm.MethodName)) ∈ lw_all := lw_g (lw_at lw_m7 214 rfl) rfl
theorem q1984 : (Jvm.Cond.methodLink "SpokenMarksLaw" (217 : Nat) ({ cls := "SpokenMarks", name := "respace", desc := "()I" } : Jvm.MethodName)) ∈ lw_all := lw_g (lw_at lw_m8 185 rfl) rfl
theorem q1988 : (Jvm.Cond.methodLink "SpokenMarksLaw" (227 : Nat) ({ cls := "SpokenMarks", name := "formattedByte", desc := "(I)I" } : Jvm.MethodName)) ∈ lw_all := lw_g (lw_at lw_m8 189 rfl) rfl
theorem q1994 : (Jvm.Cond.methodLink "SpokenMarksLaw" (231 : Nat) ({ cls := "SpokenMarks", name := "undoCount", desc := "()I" } : Jvm.MethodName)) ∈ lw_all := lw_g (lw_at lw_m8 195 rfl) rfl
theorem q1998 : (Jvm.Cond.methodLink "SpokenMarksLaw" (235 : Nat) ({ cls := "SpokenMarks", name := "undo", desc := "()I" } : Jvm.MethodName)) ∈ lw_all := lw_g (lw_at lw_m8 199 rfl) rfl
theorem q2017 : (Jvm.Cond.methodLink "SpokenMarksLaw" (239 : Nat) ({ cls := "SpokenMarks", name := "saveSnapshot", desc := "()V" } : Jvm.MethodName)) ∈ lw_all := lw_g (lw_at lw_m8 218 rfl) rfl
theorem q2021 : (Jvm.Cond.methodLink "SpokenMarksLaw" (243 : Nat) ({ cls := "SpokenMarks", name := "restoreSnapshot", desc := "()Z" } : Jvm.MethodName)) ∈ lw_all := lw_g (lw_at lw_m8 222 rfl) rfl
theorem q2032 : (Jvm.Cond.methodLink "SpokenMarksLaw" (105 : Nat) ({ cls := "SpokenMarksLaw", name := "load", desc := "(LSpokenMarks;I[J)I" } : Jvm.MethodName)) ∈ lw_all := lw_g (lw_at lw_m8 233 rfl) rfl
theorem q2033 : (Jvm.Cond.static ({ cls := "SpokenMarksLaw", name := "load", desc := "(LSpokenMarks;I[J)I" } : Jvm.MethodName)) ∈ lw_all := lw_g (lw_at lw_m8 234 rfl) rfl
theorem q2034 : (Jvm.Cond.codeWith ({ cls := "SpokenMarksLaw", name := "load", desc := "(LSpokenMarks;I[J)I" } : Jvm.MethodName) method_3_code (4 : Nat) (Option.some Jvm.ClassFile.FieldType.int) [((0 : Nat), (9 : Nat), (12 : Nat), (13 : Nat))]) ∈ lw_all := lw_g (lw_at lw_m8 235 rfl) rfl
theorem q2035 : (Jvm.Cond.classLink "SpokenMarksLaw" (13 : Nat) "java/lang/IllegalArgumentException") ∈ lw_all := lw_g (lw_at lw_m8 236 rfl) rfl
theorem q2036 : (Jvm.Cond.methodLink "SpokenMarksLaw" (7 : Nat) ({ cls := "SpokenMarks", name := "load", desc := "(I)I" } : Jvm.MethodName)) ∈ lw_all := lw_g (lw_at lw_m8 237 rfl) rfl
theorem q2247 : (Jvm.Cond.methodLink "SpokenMarksLaw" (119 : Nat) ({ cls := "SpokenMarksLaw", name := "size", desc := "(LSpokenMarks;I[J)I" } : Jvm.MethodName)) ∈ lw_all := lw_g (lw_at lw_m9 208 rfl) rfl
theorem q2248 : (Jvm.Cond.static ({ cls := "SpokenMarksLaw", name := "size", desc := "(LSpokenMarks;I[J)I" } : Jvm.MethodName)) ∈ lw_all := lw_g (lw_at lw_m9 209 rfl) rfl
theorem q2249 : (Jvm.Cond.codeWith ({ cls := "SpokenMarksLaw", name := "size", desc := "(LSpokenMarks;I[J)I" } : Jvm.MethodName) method_4_code (4 : Nat) (Option.some Jvm.ClassFile.FieldType.int) [((0 : Nat), (9 : Nat), (12 : Nat), (13 : Nat))]) ∈ lw_all := lw_g (lw_at lw_m9 210 rfl) rfl
theorem q2250 : (Jvm.Cond.methodLink "SpokenMarksLaw" (15 : Nat) ({ cls := "SpokenMarks", name := "size", desc := "(I)I" } : Jvm.MethodName)) ∈ lw_all := lw_g (lw_at lw_m9 211 rfl) rfl
theorem q2263 : (Jvm.Cond.methodLink "SpokenMarksLaw" (122 : Nat) ({ cls := "SpokenMarksLaw", name := "account", desc := "(LSpokenMarks;I[J)I" } : Jvm.MethodName)) ∈ lw_all := lw_g (lw_at lw_m9 224 rfl) rfl
theorem q2264 : (Jvm.Cond.static ({ cls := "SpokenMarksLaw", name := "account", desc := "(LSpokenMarks;I[J)I" } : Jvm.MethodName)) ∈ lw_all := lw_g (lw_at lw_m9 225 rfl) rfl
theorem q2265 : (Jvm.Cond.codeWith ({ cls := "SpokenMarksLaw", name := "account", desc := "(LSpokenMarks;I[J)I" } : Jvm.MethodName) method_5_code (4 : Nat) (Option.some Jvm.ClassFile.FieldType.int) [((0 : Nat), (9 : Nat), (12 : Nat), (13 : Nat))]) ∈ lw_all := lw_g (lw_at lw_m9 226 rfl) rfl
theorem q2266 : (Jvm.Cond.methodLink "SpokenMarksLaw" (18 : Nat) ({ cls := "SpokenMarks", name := "account", desc := "(I)I" } : Jvm.MethodName)) ∈ lw_all := lw_g (lw_at lw_m9 227 rfl) rfl
theorem q2270 : (Jvm.Cond.methodLink "SpokenMarksLaw" (129 : Nat) ({ cls := "SpokenMarksLaw", name := "mark", desc := "(LSpokenMarks;II[J)I" } : Jvm.MethodName)) ∈ lw_all := lw_g (lw_at lw_m9 231 rfl) rfl
theorem q2271 : (Jvm.Cond.static ({ cls := "SpokenMarksLaw", name := "mark", desc := "(LSpokenMarks;II[J)I" } : Jvm.MethodName)) ∈ lw_all := lw_g (lw_at lw_m9 232 rfl) rfl
theorem q2272 : (Jvm.Cond.codeWith ({ cls := "SpokenMarksLaw", name := "mark", desc := "(LSpokenMarks;II[J)I" } : Jvm.MethodName) method_6_code (5 : Nat) (Option.some Jvm.ClassFile.FieldType.int) [((0 : Nat), (10 : Nat), (13 : Nat), (25 : Nat)), ((0 : Nat), (10 : Nat), (17 : Nat), (13 : Nat))]) ∈ lw_all := lw_g (lw_at lw_m9 233 rfl) rfl
theorem q2273 : (Jvm.Cond.classLink "SpokenMarksLaw" (25 : Nat) "java/util/NoSuchElementException") ∈ lw_all := lw_g (lw_at lw_m9 234 rfl) rfl
theorem q2274 : (Jvm.Cond.methodLink "SpokenMarksLaw" (21 : Nat) ({ cls := "SpokenMarks", name := "mark", desc := "(II)I" } : Jvm.MethodName)) ∈ lw_all := lw_g (lw_at lw_m9 235 rfl) rfl
theorem q2299 : (Jvm.Cond.methodLink "SpokenMarksLaw" (133 : Nat) ({ cls := "SpokenMarksLaw", name := "number", desc := "(LSpokenMarks;II[J)I" } : Jvm.MethodName)) ∈ lw_all := lw_g (lw_at lw_m10 20 rfl) rfl
theorem q2300 : (Jvm.Cond.static ({ cls := "SpokenMarksLaw", name := "number", desc := "(LSpokenMarks;II[J)I" } : Jvm.MethodName)) ∈ lw_all := lw_g (lw_at lw_m10 21 rfl) rfl
theorem q2301 : (Jvm.Cond.codeWith ({ cls := "SpokenMarksLaw", name := "number", desc := "(LSpokenMarks;II[J)I" } : Jvm.MethodName) method_7_code (5 : Nat) (Option.some Jvm.ClassFile.FieldType.int) [((0 : Nat), (10 : Nat), (13 : Nat), (25 : Nat))]) ∈ lw_all := lw_g (lw_at lw_m10 22 rfl) rfl
theorem q2302 : (Jvm.Cond.methodLink "SpokenMarksLaw" (27 : Nat) ({ cls := "SpokenMarks", name := "number", desc := "(II)I" } : Jvm.MethodName)) ∈ lw_all := lw_g (lw_at lw_m10 23 rfl) rfl
theorem q2311 : (Jvm.Cond.methodLink "SpokenMarksLaw" (136 : Nat) ({ cls := "SpokenMarksLaw", name := "letter", desc := "(LSpokenMarks;IIZI[J)I" } : Jvm.MethodName)) ∈ lw_all := lw_g (lw_at lw_m10 32 rfl) rfl
theorem q2312 : (Jvm.Cond.static ({ cls := "SpokenMarksLaw", name := "letter", desc := "(LSpokenMarks;IIZI[J)I" } : Jvm.MethodName)) ∈ lw_all := lw_g (lw_at lw_m10 33 rfl) rfl
theorem q2313 : (Jvm.Cond.codeWith ({ cls := "SpokenMarksLaw", name := "letter", desc := "(LSpokenMarks;IIZI[J)I" } : Jvm.MethodName) method_8_code (7 : Nat) (Option.some Jvm.ClassFile.FieldType.int) [((0 : Nat), (14 : Nat), (17 : Nat), (25 : Nat))]) ∈ lw_all := lw_g (lw_at lw_m10 34 rfl) rfl
theorem q2314 : (Jvm.Cond.methodLink "SpokenMarksLaw" (30 : Nat) ({ cls := "SpokenMarks", name := "letter", desc := "(IIZI)I" } : Jvm.MethodName)) ∈ lw_all := lw_g (lw_at lw_m10 35 rfl) rfl
theorem q2322 : (Jvm.Cond.methodLink "SpokenMarksLaw" (140 : Nat) ({ cls := "SpokenMarksLaw", name := "ruleLetter", desc := "(LSpokenMarks;IZI[J)I" } : Jvm.MethodName)) ∈ lw_all := lw_g (lw_at lw_m10 43 rfl) rfl
theorem q2323 : (Jvm.Cond.static ({ cls := "SpokenMarksLaw", name := "ruleLetter", desc := "(LSpokenMarks;IZI[J)I" } : Jvm.MethodName)) ∈ lw_all := lw_g (lw_at lw_m10 44 rfl) rfl
theorem q2324 : (Jvm.Cond.codeWith ({ cls := "SpokenMarksLaw", name := "ruleLetter", desc := "(LSpokenMarks;IZI[J)I" } : Jvm.MethodName) method_9_code (6 : Nat) (Option.some Jvm.ClassFile.FieldType.int) [((0 : Nat), (12 : Nat), (15 : Nat), (25 : Nat))]) ∈ lw_all := lw_g (lw_at lw_m10 45 rfl) rfl
theorem q2325 : (Jvm.Cond.methodLink "SpokenMarksLaw" (34 : Nat) ({ cls := "SpokenMarks", name := "ruleLetter", desc := "(IZI)I" } : Jvm.MethodName)) ∈ lw_all := lw_g (lw_at lw_m10 46 rfl) rfl
theorem q2333 : (Jvm.Cond.methodLink "SpokenMarksLaw" (144 : Nat) ({ cls := "SpokenMarksLaw", name := "shelf", desc := "(LSpokenMarks;II[J)I" } : Jvm.MethodName)) ∈ lw_all := lw_g (lw_at lw_m10 54 rfl) rfl
theorem q2334 : (Jvm.Cond.static ({ cls := "SpokenMarksLaw", name := "shelf", desc := "(LSpokenMarks;II[J)I" } : Jvm.MethodName)) ∈ lw_all := lw_g (lw_at lw_m10 55 rfl) rfl
theorem q2335 : (Jvm.Cond.codeWith ({ cls := "SpokenMarksLaw", name := "shelf", desc := "(LSpokenMarks;II[J)I" } : Jvm.MethodName) method_10_code (5 : Nat) (Option.some Jvm.ClassFile.FieldType.int) [((0 : Nat), (10 : Nat), (13 : Nat), (25 : Nat)), ((0 : Nat), (10 : Nat), (17 : Nat), (13 : Nat))]) ∈ lw_all := lw_g (lw_at lw_m10 56 rfl) rfl
theorem q2336 : (Jvm.Cond.methodLink "SpokenMarksLaw" (38 : Nat) ({ cls := "SpokenMarks", name := "shelf", desc := "(II)I" } : Jvm.MethodName)) ∈ lw_all := lw_g (lw_at lw_m10 57 rfl) rfl
theorem q2354 : (Jvm.Cond.methodLink "SpokenMarksLaw" (151 : Nat) ({ cls := "SpokenMarksLaw", name := "compare", desc := "(LSpokenMarks;II[J)I" } : Jvm.MethodName)) ∈ lw_all := lw_g (lw_at lw_m10 75 rfl) rfl
theorem q2355 : (Jvm.Cond.static ({ cls := "SpokenMarksLaw", name := "compare", desc := "(LSpokenMarks;II[J)I" } : Jvm.MethodName)) ∈ lw_all := lw_g (lw_at lw_m10 76 rfl) rfl
theorem q2356 : (Jvm.Cond.codeWith ({ cls := "SpokenMarksLaw", name := "compare", desc := "(LSpokenMarks;II[J)I" } : Jvm.MethodName) method_11_code (5 : Nat) (Option.some Jvm.ClassFile.FieldType.int) [((0 : Nat), (10 : Nat), (13 : Nat), (25 : Nat))]) ∈ lw_all := lw_g (lw_at lw_m10 77 rfl) rfl
theorem q2357 : (Jvm.Cond.methodLink "SpokenMarksLaw" (41 : Nat) ({ cls := "SpokenMarks", name := "compare", desc := "(II)I" } : Jvm.MethodName)) ∈ lw_all := lw_g (lw_at lw_m10 78 rfl) rfl
theorem q2366 : (Jvm.Cond.methodLink "SpokenMarksLaw" (154 : Nat) ({ cls := "SpokenMarksLaw", name := "differ", desc := "(LSpokenMarks;II[J)I" } : Jvm.MethodName)) ∈ lw_all := lw_g (lw_at lw_m10 87 rfl) rfl
theorem q2367 : (Jvm.Cond.static ({ cls := "SpokenMarksLaw", name := "differ", desc := "(LSpokenMarks;II[J)I" } : Jvm.MethodName)) ∈ lw_all := lw_g (lw_at lw_m10 88 rfl) rfl
theorem q2368 : (Jvm.Cond.codeWith ({ cls := "SpokenMarksLaw", name := "differ", desc := "(LSpokenMarks;II[J)I" } : Jvm.MethodName) method_12_code (5 : Nat) (Option.some Jvm.ClassFile.FieldType.int) [((0 : Nat), (10 : Nat), (13 : Nat), (25 : Nat))]) ∈ lw_all := lw_g (lw_at lw_m10 89 rfl) rfl
theorem q2369 : (Jvm.Cond.methodLink "SpokenMarksLaw" (44 : Nat) ({ cls := "SpokenMarks", name := "differ", desc := "(II)I" } : Jvm.MethodName)) ∈ lw_all := lw_g (lw_at lw_m10 90 rfl) rfl
theorem q2374 : (Jvm.Cond.methodLink "SpokenMarksLaw" (161 : Nat) ({ cls := "SpokenMarksLaw", name := "free", desc := "(LSpokenMarks;I[J)I" } : Jvm.MethodName)) ∈ lw_all := lw_g (lw_at lw_m10 95 rfl) rfl
theorem q2375 : (Jvm.Cond.static ({ cls := "SpokenMarksLaw", name := "free", desc := "(LSpokenMarks;I[J)I" } : Jvm.MethodName)) ∈ lw_all := lw_g (lw_at lw_m10 96 rfl) rfl
theorem q2376 : (Jvm.Cond.codeWith ({ cls := "SpokenMarksLaw", name := "free", desc := "(LSpokenMarks;I[J)I" } : Jvm.MethodName) method_13_code (4 : Nat) (Option.some Jvm.ClassFile.FieldType.int) [((0 : Nat), (9 : Nat), (12 : Nat), (25 : Nat))]) ∈ lw_all := lw_g (lw_at lw_m10 97 rfl) rfl
theorem q2377 : (Jvm.Cond.methodLink "SpokenMarksLaw" (47 : Nat) ({ cls := "SpokenMarks", name := "free", desc := "(I)I" } : Jvm.MethodName)) ∈ lw_all := lw_g (lw_at lw_m10 98 rfl) rfl
theorem q2382 : (Jvm.Cond.methodLink "SpokenMarksLaw" (164 : Nat) ({ cls := "SpokenMarksLaw", name := "family", desc := "(LSpokenMarks;I[J)I" } : Jvm.MethodName)) ∈ lw_all := lw_g (lw_at lw_m10 103 rfl) rfl
theorem q2383 : (Jvm.Cond.static ({ cls := "SpokenMarksLaw", name := "family", desc := "(LSpokenMarks;I[J)I" } : Jvm.MethodName)) ∈ lw_all := lw_g (lw_at lw_m10 104 rfl) rfl
theorem q2384 : (Jvm.Cond.codeWith ({ cls := "SpokenMarksLaw", name := "family", desc := "(LSpokenMarks;I[J)I" } : Jvm.MethodName) method_14_code (4 : Nat) (Option.some Jvm.ClassFile.FieldType.int) [((0 : Nat), (9 : Nat), (12 : Nat), (25 : Nat))]) ∈ lw_all := lw_g (lw_at lw_m10 105 rfl) rfl
theorem q2385 : (Jvm.Cond.methodLink "SpokenMarksLaw" (50 : Nat) ({ cls := "SpokenMarks", name := "family", desc := "(I)I" } : Jvm.MethodName)) ∈ lw_all := lw_g (lw_at lw_m10 106 rfl) rfl
theorem q2394 : (Jvm.Cond.methodLink "SpokenMarksLaw" (167 : Nat) ({ cls := "SpokenMarksLaw", name := "soundsLike", desc := "(LSpokenMarks;I[J)I" } : Jvm.MethodName)) ∈ lw_all := lw_g (lw_at lw_m10 115 rfl) rfl
theorem q2395 : (Jvm.Cond.static ({ cls := "SpokenMarksLaw", name := "soundsLike", desc := "(LSpokenMarks;I[J)I" } : Jvm.MethodName)) ∈ lw_all := lw_g (lw_at lw_m10 116 rfl) rfl
theorem q2396 : (Jvm.Cond.codeWith ({ cls := "SpokenMarksLaw", name := "soundsLike", desc := "(LSpokenMarks;I[J)I" } : Jvm.MethodName) method_15_code (4 : Nat) (Option.some Jvm.ClassFile.FieldType.int) [((0 : Nat), (9 : Nat), (12 : Nat), (13 : Nat))]) ∈ lw_all := lw_g (lw_at lw_m10 117 rfl) rfl
theorem q2397 : (Jvm.Cond.methodLink "SpokenMarksLaw" (53 : Nat) ({ cls := "SpokenMarks", name := "soundsLike", desc := "(I)I" } : Jvm.MethodName)) ∈ lw_all := lw_g (lw_at lw_m10 118 rfl) rfl
theorem q2431 : (Jvm.Cond.methodLink "SpokenMarksLaw" (170 : Nat) ({ cls := "SpokenMarksLaw", name := "rankIf", desc := "(LSpokenMarks;I[J)I" } : Jvm.MethodName)) ∈ lw_all := lw_g (lw_at lw_m10 152 rfl) rfl
theorem q2432 : (Jvm.Cond.static ({ cls := "SpokenMarksLaw", name := "rankIf", desc := "(LSpokenMarks;I[J)I" } : Jvm.MethodName)) ∈ lw_all := lw_g (lw_at lw_m10 153 rfl) rfl
theorem q2433 : (Jvm.Cond.codeWith ({ cls := "SpokenMarksLaw", name := "rankIf", desc := "(LSpokenMarks;I[J)I" } : Jvm.MethodName) method_16_code (4 : Nat) (Option.some Jvm.ClassFile.FieldType.int) [((0 : Nat), (9 : Nat), (12 : Nat), (13 : Nat))]) ∈ lw_all := lw_g (lw_at lw_m10 154 rfl) rfl
theorem q2434 : (Jvm.Cond.methodLink "SpokenMarksLaw" (56 : Nat) ({ cls := "SpokenMarks", name := "rankIf", desc := "(I)I" } : Jvm.MethodName)) ∈ lw_all := lw_g (lw_at lw_m10 155 rfl) rfl
theorem q2449 : (Jvm.Cond.methodLink "SpokenMarksLaw" (173 : Nat) ({ cls := "SpokenMarksLaw", name := "placeIf", desc := "(LSpokenMarks;I[J)I" } : Jvm.MethodName)) ∈ lw_all := lw_g (lw_at lw_m10 170 rfl) rfl
theorem q2450 : (Jvm.Cond.static ({ cls := "SpokenMarksLaw", name := "placeIf", desc := "(LSpokenMarks;I[J)I" } : Jvm.MethodName)) ∈ lw_all := lw_g (lw_at lw_m10 171 rfl) rfl
theorem q2451 : (Jvm.Cond.codeWith ({ cls := "SpokenMarksLaw", name := "placeIf", desc := "(LSpokenMarks;I[J)I" } : Jvm.MethodName) method_17_code (4 : Nat) (Option.some Jvm.ClassFile.FieldType.int) [((0 : Nat), (9 : Nat), (12 : Nat), (13 : Nat))]) ∈ lw_all := lw_g (lw_at lw_m10 172 rfl) rfl
theorem q2452 : (Jvm.Cond.methodLink "SpokenMarksLaw" (59 : Nat) ({ cls := "SpokenMarks", name := "placeIf", desc := "(I)I" } : Jvm.MethodName)) ∈ lw_all := lw_g (lw_at lw_m10 173 rfl) rfl
theorem q2458 : (Jvm.Cond.methodLink "SpokenMarksLaw" (176 : Nat) ({ cls := "SpokenMarksLaw", name := "movesIf", desc := "(LSpokenMarks;I[J)I" } : Jvm.MethodName)) ∈ lw_all := lw_g (lw_at lw_m10 179 rfl) rfl
theorem q2459 : (Jvm.Cond.static ({ cls := "SpokenMarksLaw", name := "movesIf", desc := "(LSpokenMarks;I[J)I" } : Jvm.MethodName)) ∈ lw_all := lw_g (lw_at lw_m10 180 rfl) rfl
theorem q2460 : (Jvm.Cond.codeWith ({ cls := "SpokenMarksLaw", name := "movesIf", desc := "(LSpokenMarks;I[J)I" } : Jvm.MethodName) method_18_code (4 : Nat) (Option.some Jvm.ClassFile.FieldType.int) [((0 : Nat), (9 : Nat), (12 : Nat), (13 : Nat))]) ∈ lw_all := lw_g (lw_at lw_m10 181 rfl) rfl
theorem q2461 : (Jvm.Cond.methodLink "SpokenMarksLaw" (62 : Nat) ({ cls := "SpokenMarks", name := "movesIf", desc := "(I)I" } : Jvm.MethodName)) ∈ lw_all := lw_g (lw_at lw_m10 182 rfl) rfl
theorem q2469 : (Jvm.Cond.methodLink "SpokenMarksLaw" (179 : Nat) ({ cls := "SpokenMarksLaw", name := "why", desc := "(LSpokenMarks;I[J)I" } : Jvm.MethodName)) ∈ lw_all := lw_g (lw_at lw_m10 190 rfl) rfl
theorem q2470 : (Jvm.Cond.static ({ cls := "SpokenMarksLaw", name := "why", desc := "(LSpokenMarks;I[J)I" } : Jvm.MethodName)) ∈ lw_all := lw_g (lw_at lw_m10 191 rfl) rfl
theorem q2471 : (Jvm.Cond.codeWith ({ cls := "SpokenMarksLaw", name := "why", desc := "(LSpokenMarks;I[J)I" } : Jvm.MethodName) method_19_code (4 : Nat) (Option.some Jvm.ClassFile.FieldType.int) [((0 : Nat), (9 : Nat), (12 : Nat), (13 : Nat))]) ∈ lw_all := lw_g (lw_at lw_m10 192 rfl) rfl
theorem q2472 : (Jvm.Cond.methodLink "SpokenMarksLaw" (65 : Nat) ({ cls := "SpokenMarks", name := "why", desc := "(I)I" } : Jvm.MethodName)) ∈ lw_all := lw_g (lw_at lw_m10 193 rfl) rfl
theorem q2485 : (Jvm.Cond.methodLink "SpokenMarksLaw" (186 : Nat) ({ cls := "SpokenMarksLaw", name := "filled", desc := "(LSpokenMarks;I[D)I" } : Jvm.MethodName)) ∈ lw_all := lw_g (lw_at lw_m10 206 rfl) rfl
theorem q2486 : (Jvm.Cond.static ({ cls := "SpokenMarksLaw", name := "filled", desc := "(LSpokenMarks;I[D)I" } : Jvm.MethodName)) ∈ lw_all := lw_g (lw_at lw_m10 207 rfl) rfl
theorem q2487 : (Jvm.Cond.codeWith ({ cls := "SpokenMarksLaw", name := "filled", desc := "(LSpokenMarks;I[D)I" } : Jvm.MethodName) method_20_code (4 : Nat) (Option.some Jvm.ClassFile.FieldType.int) [((0 : Nat), (9 : Nat), (12 : Nat), (25 : Nat))]) ∈ lw_all := lw_g (lw_at lw_m10 208 rfl) rfl
theorem q2488 : (Jvm.Cond.methodLink "SpokenMarksLaw" (68 : Nat) ({ cls := "SpokenMarks", name := "filled", desc := "(I)F" } : Jvm.MethodName)) ∈ lw_all := lw_g (lw_at lw_m10 209 rfl) rfl
theorem q2492 : (Jvm.Cond.methodLink "SpokenMarksLaw" (195 : Nat) ({ cls := "SpokenMarksLaw", name := "add", desc := "(LSpokenMarks;II[J)I" } : Jvm.MethodName)) ∈ lw_all := lw_g (lw_at lw_m10 213 rfl) rfl
theorem q2493 : (Jvm.Cond.static ({ cls := "SpokenMarksLaw", name := "add", desc := "(LSpokenMarks;II[J)I" } : Jvm.MethodName)) ∈ lw_all := lw_g (lw_at lw_m10 214 rfl) rfl
theorem q2494 : (Jvm.Cond.codeWith ({ cls := "SpokenMarksLaw", name := "add", desc := "(LSpokenMarks;II[J)I" } : Jvm.MethodName) method_21_code (5 : Nat) (Option.some Jvm.ClassFile.FieldType.int) [((0 : Nat), (10 : Nat), (13 : Nat), (13 : Nat))]) ∈ lw_all := lw_g (lw_at lw_m10 215 rfl) rfl
theorem q2495 : (Jvm.Cond.methodLink "SpokenMarksLaw" (72 : Nat) ({ cls := "SpokenMarks", name := "add", desc := "(II)I" } : Jvm.MethodName)) ∈ lw_all := lw_g (lw_at lw_m10 216 rfl) rfl
theorem q2512 : (Jvm.Cond.methodLink "SpokenMarksLaw" (198 : Nat) ({ cls := "SpokenMarksLaw", name := "drop", desc := "(LSpokenMarks;I[J)I" } : Jvm.MethodName)) ∈ lw_all := lw_g (lw_at lw_m10 233 rfl) rfl
theorem q2513 : (Jvm.Cond.static ({ cls := "SpokenMarksLaw", name := "drop", desc := "(LSpokenMarks;I[J)I" } : Jvm.MethodName)) ∈ lw_all := lw_g (lw_at lw_m10 234 rfl) rfl
theorem q2514 : (Jvm.Cond.codeWith ({ cls := "SpokenMarksLaw", name := "drop", desc := "(LSpokenMarks;I[J)I" } : Jvm.MethodName) method_22_code (4 : Nat) (Option.some Jvm.ClassFile.FieldType.int) [((0 : Nat), (9 : Nat), (12 : Nat), (25 : Nat))]) ∈ lw_all := lw_g (lw_at lw_m10 235 rfl) rfl
theorem q2515 : (Jvm.Cond.methodLink "SpokenMarksLaw" (75 : Nat) ({ cls := "SpokenMarks", name := "drop", desc := "(I)I" } : Jvm.MethodName)) ∈ lw_all := lw_g (lw_at lw_m10 236 rfl) rfl
theorem q2529 : (Jvm.Cond.methodLink "SpokenMarksLaw" (201 : Nat) ({ cls := "SpokenMarksLaw", name := "say", desc := "(LSpokenMarks;I[J)I" } : Jvm.MethodName)) ∈ lw_all := lw_g (lw_at lw_m11 10 rfl) rfl
theorem q2530 : (Jvm.Cond.static ({ cls := "SpokenMarksLaw", name := "say", desc := "(LSpokenMarks;I[J)I" } : Jvm.MethodName)) ∈ lw_all := lw_g (lw_at lw_m11 11 rfl) rfl
theorem q2531 : (Jvm.Cond.codeWith ({ cls := "SpokenMarksLaw", name := "say", desc := "(LSpokenMarks;I[J)I" } : Jvm.MethodName) method_23_code (4 : Nat) (Option.some Jvm.ClassFile.FieldType.int) [((0 : Nat), (9 : Nat), (12 : Nat), (13 : Nat))]) ∈ lw_all := lw_g (lw_at lw_m11 12 rfl) rfl
theorem q2532 : (Jvm.Cond.methodLink "SpokenMarksLaw" (78 : Nat) ({ cls := "SpokenMarks", name := "say", desc := "(I)I" } : Jvm.MethodName)) ∈ lw_all := lw_g (lw_at lw_m11 13 rfl) rfl
theorem q2547 : (Jvm.Cond.methodLink "SpokenMarksLaw" (204 : Nat) ({ cls := "SpokenMarksLaw", name := "unsay", desc := "(LSpokenMarks;I[J)I" } : Jvm.MethodName)) ∈ lw_all := lw_g (lw_at lw_m11 28 rfl) rfl
theorem q2548 : (Jvm.Cond.static ({ cls := "SpokenMarksLaw", name := "unsay", desc := "(LSpokenMarks;I[J)I" } : Jvm.MethodName)) ∈ lw_all := lw_g (lw_at lw_m11 29 rfl) rfl
theorem q2549 : (Jvm.Cond.codeWith ({ cls := "SpokenMarksLaw", name := "unsay", desc := "(LSpokenMarks;I[J)I" } : Jvm.MethodName) method_24_code (4 : Nat) (Option.some Jvm.ClassFile.FieldType.int) [((0 : Nat), (9 : Nat), (12 : Nat), (25 : Nat))]) ∈ lw_all := lw_g (lw_at lw_m11 30 rfl) rfl
theorem q2550 : (Jvm.Cond.methodLink "SpokenMarksLaw" (81 : Nat) ({ cls := "SpokenMarks", name := "unsay", desc := "(I)I" } : Jvm.MethodName)) ∈ lw_all := lw_g (lw_at lw_m11 31 rfl) rfl
theorem q2564 : (Jvm.Cond.methodLink "SpokenMarksLaw" (207 : Nat) ({ cls := "SpokenMarksLaw", name := "setWidth", desc := "(LSpokenMarks;II[J)I" } : Jvm.MethodName)) ∈ lw_all := lw_g (lw_at lw_m11 45 rfl) rfl
theorem q2565 : (Jvm.Cond.static ({ cls := "SpokenMarksLaw", name := "setWidth", desc := "(LSpokenMarks;II[J)I" } : Jvm.MethodName)) ∈ lw_all := lw_g (lw_at lw_m11 46 rfl) rfl
theorem q2566 : (Jvm.Cond.codeWith ({ cls := "SpokenMarksLaw", name := "setWidth", desc := "(LSpokenMarks;II[J)I" } : Jvm.MethodName) method_25_code (5 : Nat) (Option.some Jvm.ClassFile.FieldType.int) [((0 : Nat), (10 : Nat), (13 : Nat), (25 : Nat)), ((0 : Nat), (10 : Nat), (17 : Nat), (13 : Nat))]) ∈ lw_all := lw_g (lw_at lw_m11 47 rfl) rfl
theorem q2567 : (Jvm.Cond.methodLink "SpokenMarksLaw" (84 : Nat) ({ cls := "SpokenMarks", name := "setWidth", desc := "(II)I" } : Jvm.MethodName)) ∈ lw_all := lw_g (lw_at lw_m11 48 rfl) rfl
theorem q2584 : (Jvm.Cond.methodLink "SpokenMarksLaw" (210 : Nat) ({ cls := "SpokenMarksLaw", name := "setBound", desc := "(LSpokenMarks;II[J)I" } : Jvm.MethodName)) ∈ lw_all := lw_g (lw_at lw_m11 65 rfl) rfl
theorem q2585 : (Jvm.Cond.static ({ cls := "SpokenMarksLaw", name := "setBound", desc := "(LSpokenMarks;II[J)I" } : Jvm.MethodName)) ∈ lw_all := lw_g (lw_at lw_m11 66 rfl) rfl
theorem q2586 : (Jvm.Cond.codeWith ({ cls := "SpokenMarksLaw", name := "setBound", desc := "(LSpokenMarks;II[J)I" } : Jvm.MethodName) method_26_code (5 : Nat) (Option.some Jvm.ClassFile.FieldType.int) [((0 : Nat), (10 : Nat), (13 : Nat), (25 : Nat)), ((0 : Nat), (10 : Nat), (17 : Nat), (13 : Nat))]) ∈ lw_all := lw_g (lw_at lw_m11 67 rfl) rfl
theorem q2587 : (Jvm.Cond.methodLink "SpokenMarksLaw" (87 : Nat) ({ cls := "SpokenMarks", name := "setBound", desc := "(II)I" } : Jvm.MethodName)) ∈ lw_all := lw_g (lw_at lw_m11 68 rfl) rfl
theorem q2604 : (Jvm.Cond.methodLink "SpokenMarksLaw" (221 : Nat) ({ cls := "SpokenMarksLaw", name := "play", desc := "(LSpokenMarks;I[J)I" } : Jvm.MethodName)) ∈ lw_all := lw_g (lw_at lw_m11 85 rfl) rfl
theorem q2605 : (Jvm.Cond.static ({ cls := "SpokenMarksLaw", name := "play", desc := "(LSpokenMarks;I[J)I" } : Jvm.MethodName)) ∈ lw_all := lw_g (lw_at lw_m11 86 rfl) rfl
theorem q2606 : (Jvm.Cond.codeWith ({ cls := "SpokenMarksLaw", name := "play", desc := "(LSpokenMarks;I[J)I" } : Jvm.MethodName) method_27_code (4 : Nat) (Option.some Jvm.ClassFile.FieldType.int) [((0 : Nat), (9 : Nat), (12 : Nat), (13 : Nat))]) ∈ lw_all := lw_g (lw_at lw_m11 87 rfl) rfl
theorem q2607 : (Jvm.Cond.methodLink "SpokenMarksLaw" (90 : Nat) ({ cls := "SpokenMarks", name := "play", desc := "(I)I" } : Jvm.MethodName)) ∈ lw_all := lw_g (lw_at lw_m11 88 rfl) rfl
theorem q2695 : (Jvm.Cond.methodLink "SpokenMarksLaw" (224 : Nat) ({ cls := "SpokenMarksLaw", name := "format", desc := "(LSpokenMarks;I[J)I" } : Jvm.MethodName)) ∈ lw_all := lw_g (lw_at lw_m11 176 rfl) rfl
theorem q2696 : (Jvm.Cond.static ({ cls := "SpokenMarksLaw", name := "format", desc := "(LSpokenMarks;I[J)I" } : Jvm.MethodName)) ∈ lw_all := lw_g (lw_at lw_m11 177 rfl) rfl
theorem q2697 : (Jvm.Cond.codeWith ({ cls := "SpokenMarksLaw", name := "format", desc := "(LSpokenMarks;I[J)I" } : Jvm.MethodName) method_28_code (4 : Nat) (Option.some Jvm.ClassFile.FieldType.int) [((0 : Nat), (9 : Nat), (12 : Nat), (25 : Nat))]) ∈ lw_all := lw_g (lw_at lw_m11 178 rfl) rfl
theorem q2698 : (Jvm.Cond.methodLink "SpokenMarksLaw" (93 : Nat) ({ cls := "SpokenMarks", name := "format", desc := "(I)I" } : Jvm.MethodName)) ∈ lw_all := lw_g (lw_at lw_m11 179 rfl) rfl
theorem q2713 : (Jvm.Cond.methodLink "SpokenMarksLaw" (111 : Nat) ({ cls := "SpokenMarksModel", name := "thrown", desc := "()I" } : Jvm.MethodName)) ∈ lw_all := lw_g (lw_at lw_m11 194 rfl) rfl
theorem q2717 : (Jvm.Cond.classLink "SpokenMarksLaw" (97 : Nat) "SpokenMarksModel") ∈ lw_all := lw_g (lw_at lw_m11 198 rfl) rfl
theorem q2719 : (Jvm.Cond.methodLink "SpokenMarksLaw" (99 : Nat) ({ cls := "SpokenMarksModel", name := "<init>", desc := "()V" } : Jvm.MethodName)) ∈ lw_all := lw_g (lw_at lw_m11 200 rfl) rfl
theorem q3042 : (Jvm.Cond.methodLink "SpokenMarksLaw" (104 : Nat) ({ cls := "SpokenMarksModel", name := "feed", desc := "(IIIII)I" } : Jvm.MethodName)) ∈ lw_all := lw_g (lw_at lw_m13 43 rfl) rfl
theorem q3050 : (Jvm.Cond.methodLink "SpokenMarksLaw" (118 : Nat) ({ cls := "SpokenMarksModel", name := "errorPosition", desc := "()I" } : Jvm.MethodName)) ∈ lw_all := lw_g (lw_at lw_m13 51 rfl) rfl
theorem q3054 : (Jvm.Cond.methodLink "SpokenMarksLaw" (110 : Nat) ({ cls := "SpokenMarksModel", name := "load", desc := "(I)I" } : Jvm.MethodName)) ∈ lw_all := lw_g (lw_at lw_m13 55 rfl) rfl
theorem q3055 : (Jvm.Cond.methodLink "SpokenMarksLaw" (121 : Nat) ({ cls := "SpokenMarksModel", name := "size", desc := "(I)I" } : Jvm.MethodName)) ∈ lw_all := lw_g (lw_at lw_m13 56 rfl) rfl
theorem q3084 : (Jvm.Cond.methodLink "SpokenMarksLaw" (124 : Nat) ({ cls := "SpokenMarksModel", name := "account", desc := "(I)I" } : Jvm.MethodName)) ∈ lw_all := lw_g (lw_at lw_m13 85 rfl) rfl
theorem q3089 : (Jvm.Cond.methodLink "SpokenMarksLaw" (128 : Nat) ({ cls := "SpokenMarksModel", name := "at", desc := "(I)I" } : Jvm.MethodName)) ∈ lw_all := lw_g (lw_at lw_m13 90 rfl) rfl
theorem q3093 : (Jvm.Cond.methodLink "SpokenMarksLaw" (132 : Nat) ({ cls := "SpokenMarksModel", name := "mark", desc := "(II)I" } : Jvm.MethodName)) ∈ lw_all := lw_g (lw_at lw_m13 94 rfl) rfl
theorem q3113 : (Jvm.Cond.methodLink "SpokenMarksLaw" (135 : Nat) ({ cls := "SpokenMarksModel", name := "number", desc := "(II)I" } : Jvm.MethodName)) ∈ lw_all := lw_g (lw_at lw_m13 114 rfl) rfl
theorem q3121 : (Jvm.Cond.methodLink "SpokenMarksLaw" (139 : Nat) ({ cls := "SpokenMarksModel", name := "letter", desc := "(IIZI)I" } : Jvm.MethodName)) ∈ lw_all := lw_g (lw_at lw_m13 122 rfl) rfl
theorem q3133 : (Jvm.Cond.methodLink "SpokenMarksLaw" (143 : Nat) ({ cls := "SpokenMarksModel", name := "ruleLetter", desc := "(IZI)I" } : Jvm.MethodName)) ∈ lw_all := lw_g (lw_at lw_m13 134 rfl) rfl
theorem q3141 : (Jvm.Cond.methodLink "SpokenMarksLaw" (146 : Nat) ({ cls := "SpokenMarksModel", name := "shelf", desc := "(II)I" } : Jvm.MethodName)) ∈ lw_all := lw_g (lw_at lw_m13 142 rfl) rfl
theorem q3157 : (Jvm.Cond.methodLink "SpokenMarksLaw" (150 : Nat) ({ cls := "SpokenMarksModel", name := "gap", desc := "()I" } : Jvm.MethodName)) ∈ lw_all := lw_g (lw_at lw_m13 158 rfl) rfl
theorem q3161 : (Jvm.Cond.methodLink "SpokenMarksLaw" (153 : Nat) ({ cls := "SpokenMarksModel", name := "compare", desc := "(II)I" } : Jvm.MethodName)) ∈ lw_all := lw_g (lw_at lw_m13 162 rfl) rfl
theorem q3165 : (Jvm.Cond.methodLink "SpokenMarksLaw" (156 : Nat) ({ cls := "SpokenMarksModel", name := "differ", desc := "(II)I" } : Jvm.MethodName)) ∈ lw_all := lw_g (lw_at lw_m13 166 rfl) rfl
theorem q3173 : (Jvm.Cond.methodLink "SpokenMarksLaw" (160 : Nat) ({ cls := "SpokenMarksModel", name := "alike", desc := "()I" } : Jvm.MethodName)) ∈ lw_all := lw_g (lw_at lw_m13 174 rfl) rfl
theorem q3177 : (Jvm.Cond.methodLink "SpokenMarksLaw" (163 : Nat) ({ cls := "SpokenMarksModel", name := "free", desc := "(I)I" } : Jvm.MethodName)) ∈ lw_all := lw_g (lw_at lw_m13 178 rfl) rfl
theorem q3181 : (Jvm.Cond.methodLink "SpokenMarksLaw" (166 : Nat) ({ cls := "SpokenMarksModel", name := "family", desc := "(I)I" } : Jvm.MethodName)) ∈ lw_all := lw_g (lw_at lw_m13 182 rfl) rfl
theorem q3185 : (Jvm.Cond.methodLink "SpokenMarksLaw" (169 : Nat) ({ cls := "SpokenMarksModel", name := "soundsLike", desc := "(I)I" } : Jvm.MethodName)) ∈ lw_all := lw_g (lw_at lw_m13 186 rfl) rfl
theorem q3193 : (Jvm.Cond.methodLink "SpokenMarksLaw" (172 : Nat) ({ cls := "SpokenMarksModel", name := "rankIf", desc := "(I)I" } : Jvm.MethodName)) ∈ lw_all := lw_g (lw_at lw_m13 194 rfl) rfl
theorem q3201 : (Jvm.Cond.methodLink "SpokenMarksLaw" (175 : Nat) ({ cls := "SpokenMarksModel", name := "placeIf", desc := "(I)I" } : Jvm.MethodName)) ∈ lw_all := lw_g (lw_at lw_m13 202 rfl) rfl
theorem q3205 : (Jvm.Cond.methodLink "SpokenMarksLaw" (178 : Nat) ({ cls := "SpokenMarksModel", name := "movesIf", desc := "(I)I" } : Jvm.MethodName)) ∈ lw_all := lw_g (lw_at lw_m13 206 rfl) rfl
theorem q3209 : (Jvm.Cond.methodLink "SpokenMarksLaw" (181 : Nat) ({ cls := "SpokenMarksModel", name := "why", desc := "(I)I" } : Jvm.MethodName)) ∈ lw_all := lw_g (lw_at lw_m13 210 rfl) rfl
theorem q3221 : (Jvm.Cond.methodLink "SpokenMarksLaw" (185 : Nat) ({ cls := "SpokenMarksModel", name := "cause", desc := "()I" } : Jvm.MethodName)) ∈ lw_all := lw_g (lw_at lw_m13 222 rfl) rfl
theorem q3225 : (Jvm.Cond.methodLink "SpokenMarksLaw" (189 : Nat) ({ cls := "SpokenMarksModel", name := "filled", desc := "(I)F" } : Jvm.MethodName)) ∈ lw_all := lw_g (lw_at lw_m13 226 rfl) rfl
theorem q3229 : (Jvm.Cond.methodLink "SpokenMarksLaw" (194 : Nat) ({ cls := "SpokenMarksModel", name := "meanMoves", desc := "()D" } : Jvm.MethodName)) ∈ lw_all := lw_g (lw_at lw_m13 230 rfl) rfl
theorem q3233 : (Jvm.Cond.methodLink "SpokenMarksLaw" (197 : Nat) ({ cls := "SpokenMarksModel", name := "add", desc := "(II)I" } : Jvm.MethodName)) ∈ lw_all := lw_g (lw_at lw_m13 234 rfl) rfl
theorem q3250 : (Jvm.Cond.methodLink "SpokenMarksLaw" (200 : Nat) ({ cls := "SpokenMarksModel", name := "drop", desc := "(I)I" } : Jvm.MethodName)) ∈ lw_all := lw_g (lw_at lw_m14 11 rfl) rfl
theorem q3283 : (Jvm.Cond.methodLink "SpokenMarksLaw" (203 : Nat) ({ cls := "SpokenMarksModel", name := "say", desc := "(I)I" } : Jvm.MethodName)) ∈ lw_all := lw_g (lw_at lw_m14 44 rfl) rfl
theorem q3291 : (Jvm.Cond.methodLink "SpokenMarksLaw" (206 : Nat) ({ cls := "SpokenMarksModel", name := "unsay", desc := "(I)I" } : Jvm.MethodName)) ∈ lw_all := lw_g (lw_at lw_m14 52 rfl) rfl
theorem q3295 : (Jvm.Cond.methodLink "SpokenMarksLaw" (209 : Nat) ({ cls := "SpokenMarksModel", name := "setWidth", desc := "(II)I" } : Jvm.MethodName)) ∈ lw_all := lw_g (lw_at lw_m14 56 rfl) rfl
theorem q3299 : (Jvm.Cond.methodLink "SpokenMarksLaw" (212 : Nat) ({ cls := "SpokenMarksModel", name := "setBound", desc := "(II)I" } : Jvm.MethodName)) ∈ lw_all := lw_g (lw_at lw_m14 60 rfl) rfl
theorem q3303 : (Jvm.Cond.methodLink "SpokenMarksLaw" (216 : Nat) ({ cls := "SpokenMarksModel", name := "balance", desc := "()I" } : Jvm.MethodName)) ∈ lw_all := lw_g (lw_at lw_m14 64 rfl) rfl
theorem q3307 : (Jvm.Cond.methodLink "SpokenMarksLaw" (220 : Nat) ({ cls := "SpokenMarksModel", name := "respace", desc := "()I" } : Jvm.MethodName)) ∈ lw_all := lw_g (lw_at lw_m14 68 rfl) rfl
theorem q3311 : (Jvm.Cond.methodLink "SpokenMarksLaw" (223 : Nat) ({ cls := "SpokenMarksModel", name := "play", desc := "(I)I" } : Jvm.MethodName)) ∈ lw_all := lw_g (lw_at lw_m14 72 rfl) rfl
theorem q3341 : (Jvm.Cond.methodLink "SpokenMarksLaw" (226 : Nat) ({ cls := "SpokenMarksModel", name := "format", desc := "(I)I" } : Jvm.MethodName)) ∈ lw_all := lw_g (lw_at lw_m14 102 rfl) rfl
theorem q3353 : (Jvm.Cond.methodLink "SpokenMarksLaw" (230 : Nat) ({ cls := "SpokenMarksModel", name := "formattedByte", desc := "(I)I" } : Jvm.MethodName)) ∈ lw_all := lw_g (lw_at lw_m14 114 rfl) rfl
theorem q3357 : (Jvm.Cond.methodLink "SpokenMarksLaw" (234 : Nat) ({ cls := "SpokenMarksModel", name := "undoCount", desc := "()I" } : Jvm.MethodName)) ∈ lw_all := lw_g (lw_at lw_m14 118 rfl) rfl
theorem q3361 : (Jvm.Cond.methodLink "SpokenMarksLaw" (238 : Nat) ({ cls := "SpokenMarksModel", name := "undo", desc := "()I" } : Jvm.MethodName)) ∈ lw_all := lw_g (lw_at lw_m14 122 rfl) rfl
theorem q3365 : (Jvm.Cond.methodLink "SpokenMarksLaw" (242 : Nat) ({ cls := "SpokenMarksModel", name := "saveSnapshot", desc := "()V" } : Jvm.MethodName)) ∈ lw_all := lw_g (lw_at lw_m14 126 rfl) rfl
theorem q3369 : (Jvm.Cond.methodLink "SpokenMarksLaw" (247 : Nat) ({ cls := "SpokenMarksModel", name := "restoreSnapshot", desc := "()Z" } : Jvm.MethodName)) ∈ lw_all := lw_g (lw_at lw_m14 130 rfl) rfl
/-! the law's own entry -/
set_option maxRecDepth 100000
abbrev cL_law : ByteArray := code
def dkwL_law_86 : List UInt8 := [182, 0, 243, 44, 182, 0, 247, 159, 0, 5, 3, 172, 132, 5, 6, 167, 247, 151, 4, 172]
abbrev dktL_law_86 : List UInt8 := dkwL_law_86 ++ []
def dkwL_law_85 : List UInt8 := [182, 0, 235, 44, 182, 0, 238, 159, 0, 29, 3, 172, 43, 182, 0, 239, 44, 182, 0, 242, 167, 0, 16, 43]
abbrev dktL_law_85 : List UInt8 := dkwL_law_85 ++ dktL_law_86
def dkwL_law_84 : List UInt8 := [46, 182, 0, 230, 159, 0, 55, 3, 172, 43, 182, 0, 231, 44, 182, 0, 234, 159, 0, 42, 3, 172, 43]
abbrev dktL_law_84 : List UInt8 := dkwL_law_84 ++ dktL_law_85
def dkwL_law_83 : List UInt8 := [153, 0, 5, 3, 172, 167, 0, 78, 43, 42, 21, 5, 4, 96, 46, 182, 0, 227, 44, 42, 21, 5, 4, 96]
abbrev dktL_law_83 : List UInt8 := dkwL_law_83 ++ dktL_law_84
def dkwL_law_82 : List UInt8 := [182, 0, 111, 21, 6, 159, 0, 5, 3, 172, 21, 6, 154, 0, 15, 45, 3, 47, 21, 7, 133, 148]
abbrev dktL_law_82 : List UInt8 := dkwL_law_82 ++ dktL_law_83
def dkwL_law_81 : List UInt8 := [21, 5, 4, 96, 46, 45, 184, 0, 224, 54, 6, 44, 42, 21, 5, 4, 96, 46, 182, 0, 226, 54, 7, 44]
abbrev dktL_law_81 : List UInt8 := dkwL_law_81 ++ dktL_law_82
def dkwL_law_80 : List UInt8 := [172, 21, 6, 154, 0, 15, 45, 3, 47, 21, 7, 133, 148, 153, 0, 5, 3, 172, 167, 0, 134, 43, 42]
abbrev dktL_law_80 : List UInt8 := dkwL_law_80 ++ dktL_law_81
def dkwL_law_79 : List UInt8 := [54, 6, 44, 42, 21, 5, 4, 96, 46, 182, 0, 223, 54, 7, 44, 182, 0, 111, 21, 6, 159, 0, 5, 3]
abbrev dktL_law_79 : List UInt8 := dkwL_law_79 ++ dktL_law_80
def dkwL_law_78 : List UInt8 := [182, 0, 217, 44, 182, 0, 220, 159, 0, 192, 3, 172, 43, 42, 21, 5, 4, 96, 46, 45, 184, 0, 221]
abbrev dktL_law_78 : List UInt8 := dkwL_law_78 ++ dktL_law_79
def dkwL_law_77 : List UInt8 := [153, 0, 5, 3, 172, 167, 0, 216, 43, 182, 0, 213, 44, 182, 0, 216, 159, 0, 205, 3, 172, 43]
abbrev dktL_law_77 : List UInt8 := dkwL_law_77 ++ dktL_law_78
def dkwL_law_76 : List UInt8 := [182, 0, 111, 21, 6, 159, 0, 5, 3, 172, 21, 6, 154, 0, 15, 45, 3, 47, 21, 7, 133, 148]
abbrev dktL_law_76 : List UInt8 := dkwL_law_76 ++ dktL_law_77
def dkwL_law_75 : List UInt8 := [184, 0, 210, 54, 6, 44, 42, 21, 5, 4, 96, 46, 42, 21, 5, 5, 96, 46, 182, 0, 212, 54, 7, 44]
abbrev dktL_law_75 : List UInt8 := dkwL_law_75 ++ dktL_law_76
def dkwL_law_74 : List UInt8 := [148, 153, 0, 5, 3, 172, 167, 1, 28, 43, 42, 21, 5, 4, 96, 46, 42, 21, 5, 5, 96, 46, 45]
abbrev dktL_law_74 : List UInt8 := dkwL_law_74 ++ dktL_law_75
def dkwL_law_73 : List UInt8 := [54, 7, 44, 182, 0, 111, 21, 6, 159, 0, 5, 3, 172, 21, 6, 154, 0, 15, 45, 3, 47, 21, 7, 133]
abbrev dktL_law_73 : List UInt8 := dkwL_law_73 ++ dktL_law_74
def dkwL_law_72 : List UInt8 := [46, 45, 184, 0, 207, 54, 6, 44, 42, 21, 5, 4, 96, 46, 42, 21, 5, 5, 96, 46, 182, 0, 209]
abbrev dktL_law_72 : List UInt8 := dkwL_law_72 ++ dktL_law_73
def dkwL_law_71 : List UInt8 := [21, 7, 133, 148, 153, 0, 5, 3, 172, 167, 1, 96, 43, 42, 21, 5, 4, 96, 46, 42, 21, 5, 5, 96]
abbrev dktL_law_71 : List UInt8 := dkwL_law_71 ++ dktL_law_72
def dkwL_law_70 : List UInt8 := [182, 0, 206, 54, 7, 44, 182, 0, 111, 21, 6, 159, 0, 5, 3, 172, 21, 6, 154, 0, 15, 45, 3, 47]
abbrev dktL_law_70 : List UInt8 := dkwL_law_70 ++ dktL_law_71
def dkwL_law_69 : List UInt8 := [167, 1, 152, 43, 42, 21, 5, 4, 96, 46, 45, 184, 0, 204, 54, 6, 44, 42, 21, 5, 4, 96, 46]
abbrev dktL_law_69 : List UInt8 := dkwL_law_69 ++ dktL_law_70
def dkwL_law_68 : List UInt8 := [21, 6, 159, 0, 5, 3, 172, 21, 6, 154, 0, 15, 45, 3, 47, 21, 7, 133, 148, 153, 0, 5, 3, 172]
abbrev dktL_law_68 : List UInt8 := dkwL_law_68 ++ dktL_law_69
def dkwL_law_67 : List UInt8 := [46, 45, 184, 0, 201, 54, 6, 44, 42, 21, 5, 4, 96, 46, 182, 0, 203, 54, 7, 44, 182, 0, 111]
abbrev dktL_law_67 : List UInt8 := dkwL_law_67 ++ dktL_law_68
def dkwL_law_66 : List UInt8 := [154, 0, 15, 45, 3, 47, 21, 7, 133, 148, 153, 0, 5, 3, 172, 167, 1, 208, 43, 42, 21, 5, 4, 96]
abbrev dktL_law_66 : List UInt8 := dkwL_law_66 ++ dktL_law_67
def dkwL_law_65 : List UInt8 := [21, 5, 4, 96, 46, 182, 0, 200, 54, 7, 44, 182, 0, 111, 21, 6, 159, 0, 5, 3, 172, 21, 6]
abbrev dktL_law_65 : List UInt8 := dkwL_law_65 ++ dktL_law_66
def dkwL_law_64 : List UInt8 := [153, 0, 5, 3, 172, 167, 2, 8, 43, 42, 21, 5, 4, 96, 46, 45, 184, 0, 198, 54, 6, 44, 42]
abbrev dktL_law_64 : List UInt8 := dkwL_law_64 ++ dktL_law_65
def dkwL_law_63 : List UInt8 := [44, 182, 0, 111, 21, 6, 159, 0, 5, 3, 172, 21, 6, 154, 0, 15, 45, 3, 47, 21, 7, 133, 148]
abbrev dktL_law_63 : List UInt8 := dkwL_law_63 ++ dktL_law_64
def dkwL_law_62 : List UInt8 := [45, 184, 0, 195, 54, 6, 44, 42, 21, 5, 4, 96, 46, 42, 21, 5, 5, 96, 46, 182, 0, 197, 54, 7]
abbrev dktL_law_62 : List UInt8 := dkwL_law_62 ++ dktL_law_63
def dkwL_law_61 : List UInt8 := [24, 8, 151, 154, 0, 5, 3, 172, 167, 2, 76, 43, 42, 21, 5, 4, 96, 46, 42, 21, 5, 5, 96, 46]
abbrev dktL_law_61 : List UInt8 := dkwL_law_61 ++ dktL_law_62
def dkwL_law_60 : List UInt8 := [182, 0, 194, 57, 8, 24, 6, 24, 8, 151, 153, 0, 21, 24, 6, 24, 6, 151, 153, 0, 11, 24, 8]
abbrev dktL_law_60 : List UInt8 := dkwL_law_60 ++ dktL_law_61
def dkwL_law_59 : List UInt8 := [153, 0, 11, 23, 7, 23, 7, 149, 154, 0, 5, 3, 172, 167, 2, 117, 43, 182, 0, 190, 57, 6, 44]
abbrev dktL_law_59 : List UInt8 := dkwL_law_59 ++ dktL_law_60
def dkwL_law_58 : List UInt8 := [154, 0, 36, 25, 4, 3, 49, 23, 7, 141, 151, 153, 0, 25, 25, 4, 3, 49, 25, 4, 3, 49, 151]
abbrev dktL_law_58 : List UInt8 := dkwL_law_58 ++ dktL_law_59
def dkwL_law_57 : List UInt8 := [21, 5, 4, 96, 46, 182, 0, 189, 56, 7, 44, 182, 0, 111, 21, 6, 159, 0, 5, 3, 172, 21, 6]
abbrev dktL_law_57 : List UInt8 := dkwL_law_57 ++ dktL_law_58
def dkwL_law_56 : List UInt8 := [182, 0, 185, 159, 2, 197, 3, 172, 43, 42, 21, 5, 4, 96, 46, 25, 4, 184, 0, 186, 54, 6, 44, 42]
abbrev dktL_law_56 : List UInt8 := dkwL_law_56 ++ dktL_law_57
def dkwL_law_55 : List UInt8 := [154, 0, 15, 45, 3, 47, 21, 7, 133, 148, 153, 0, 5, 3, 172, 167, 2, 208, 43, 182, 0, 182, 44]
abbrev dktL_law_55 : List UInt8 := dkwL_law_55 ++ dktL_law_56
def dkwL_law_54 : List UInt8 := [21, 5, 4, 96, 46, 182, 0, 181, 54, 7, 44, 182, 0, 111, 21, 6, 159, 0, 5, 3, 172, 21, 6]
abbrev dktL_law_54 : List UInt8 := dkwL_law_54 ++ dktL_law_55
def dkwL_law_53 : List UInt8 := [153, 0, 5, 3, 172, 167, 3, 8, 43, 42, 21, 5, 4, 96, 46, 45, 184, 0, 179, 54, 6, 44, 42]
abbrev dktL_law_53 : List UInt8 := dkwL_law_53 ++ dktL_law_54
def dkwL_law_52 : List UInt8 := [182, 0, 111, 21, 6, 159, 0, 5, 3, 172, 21, 6, 154, 0, 15, 45, 3, 47, 21, 7, 133, 148]
abbrev dktL_law_52 : List UInt8 := dkwL_law_52 ++ dktL_law_53
def dkwL_law_51 : List UInt8 := [21, 5, 4, 96, 46, 45, 184, 0, 176, 54, 6, 44, 42, 21, 5, 4, 96, 46, 182, 0, 178, 54, 7, 44]
abbrev dktL_law_51 : List UInt8 := dkwL_law_51 ++ dktL_law_52
def dkwL_law_50 : List UInt8 := [172, 21, 6, 154, 0, 15, 45, 3, 47, 21, 7, 133, 148, 153, 0, 5, 3, 172, 167, 3, 64, 43, 42]
abbrev dktL_law_50 : List UInt8 := dkwL_law_50 ++ dktL_law_51
def dkwL_law_49 : List UInt8 := [54, 6, 44, 42, 21, 5, 4, 96, 46, 182, 0, 175, 54, 7, 44, 182, 0, 111, 21, 6, 159, 0, 5, 3]
abbrev dktL_law_49 : List UInt8 := dkwL_law_49 ++ dktL_law_50
def dkwL_law_48 : List UInt8 := [21, 7, 133, 148, 153, 0, 5, 3, 172, 167, 3, 120, 43, 42, 21, 5, 4, 96, 46, 45, 184, 0, 173]
abbrev dktL_law_48 : List UInt8 := dkwL_law_48 ++ dktL_law_49
def dkwL_law_47 : List UInt8 := [182, 0, 172, 54, 7, 44, 182, 0, 111, 21, 6, 159, 0, 5, 3, 172, 21, 6, 154, 0, 15, 45, 3, 47]
abbrev dktL_law_47 : List UInt8 := dkwL_law_47 ++ dktL_law_48
def dkwL_law_46 : List UInt8 := [167, 3, 176, 43, 42, 21, 5, 4, 96, 46, 45, 184, 0, 170, 54, 6, 44, 42, 21, 5, 4, 96, 46]
abbrev dktL_law_46 : List UInt8 := dkwL_law_46 ++ dktL_law_47
def dkwL_law_45 : List UInt8 := [21, 6, 159, 0, 5, 3, 172, 21, 6, 154, 0, 15, 45, 3, 47, 21, 7, 133, 148, 153, 0, 5, 3, 172]
abbrev dktL_law_45 : List UInt8 := dkwL_law_45 ++ dktL_law_46
def dkwL_law_44 : List UInt8 := [46, 45, 184, 0, 167, 54, 6, 44, 42, 21, 5, 4, 96, 46, 182, 0, 169, 54, 7, 44, 182, 0, 111]
abbrev dktL_law_44 : List UInt8 := dkwL_law_44 ++ dktL_law_45
def dkwL_law_43 : List UInt8 := [154, 0, 15, 45, 3, 47, 21, 7, 133, 148, 153, 0, 5, 3, 172, 167, 3, 232, 43, 42, 21, 5, 4, 96]
abbrev dktL_law_43 : List UInt8 := dkwL_law_43 ++ dktL_law_44
def dkwL_law_42 : List UInt8 := [21, 5, 4, 96, 46, 182, 0, 166, 54, 7, 44, 182, 0, 111, 21, 6, 159, 0, 5, 3, 172, 21, 6]
abbrev dktL_law_42 : List UInt8 := dkwL_law_42 ++ dktL_law_43
def dkwL_law_41 : List UInt8 := [153, 0, 5, 3, 172, 167, 4, 32, 43, 42, 21, 5, 4, 96, 46, 45, 184, 0, 164, 54, 6, 44, 42]
abbrev dktL_law_41 : List UInt8 := dkwL_law_41 ++ dktL_law_42
def dkwL_law_40 : List UInt8 := [182, 0, 111, 21, 6, 159, 0, 5, 3, 172, 21, 6, 154, 0, 15, 45, 3, 47, 21, 7, 133, 148]
abbrev dktL_law_40 : List UInt8 := dkwL_law_40 ++ dktL_law_41
def dkwL_law_39 : List UInt8 := [21, 5, 4, 96, 46, 45, 184, 0, 161, 54, 6, 44, 42, 21, 5, 4, 96, 46, 182, 0, 163, 54, 7, 44]
abbrev dktL_law_39 : List UInt8 := dkwL_law_39 ++ dktL_law_40
def dkwL_law_38 : List UInt8 := [148, 153, 0, 5, 3, 172, 167, 4, 101, 43, 182, 0, 157, 44, 182, 0, 160, 159, 4, 90, 3, 172, 43, 42]
abbrev dktL_law_38 : List UInt8 := dkwL_law_38 ++ dktL_law_39
def dkwL_law_37 : List UInt8 := [54, 7, 44, 182, 0, 111, 21, 6, 159, 0, 5, 3, 172, 21, 6, 154, 0, 15, 45, 3, 47, 21, 7, 133]
abbrev dktL_law_37 : List UInt8 := dkwL_law_37 ++ dktL_law_38
def dkwL_law_36 : List UInt8 := [46, 45, 184, 0, 154, 54, 6, 44, 42, 21, 5, 4, 96, 46, 42, 21, 5, 5, 96, 46, 182, 0, 156]
abbrev dktL_law_36 : List UInt8 := dkwL_law_36 ++ dktL_law_37
def dkwL_law_35 : List UInt8 := [21, 7, 133, 148, 153, 0, 5, 3, 172, 167, 4, 169, 43, 42, 21, 5, 4, 96, 46, 42, 21, 5, 5, 96]
abbrev dktL_law_35 : List UInt8 := dkwL_law_35 ++ dktL_law_36
def dkwL_law_34 : List UInt8 := [182, 0, 153, 54, 7, 44, 182, 0, 111, 21, 6, 159, 0, 5, 3, 172, 21, 6, 154, 0, 15, 45, 3, 47]
abbrev dktL_law_34 : List UInt8 := dkwL_law_34 ++ dktL_law_35
def dkwL_law_33 : List UInt8 := [21, 5, 5, 96, 46, 45, 184, 0, 151, 54, 6, 44, 42, 21, 5, 4, 96, 46, 42, 21, 5, 5, 96, 46]
abbrev dktL_law_33 : List UInt8 := dkwL_law_33 ++ dktL_law_34
def dkwL_law_32 : List UInt8 := [167, 4, 250, 43, 182, 0, 147, 44, 182, 0, 150, 159, 4, 239, 3, 172, 43, 42, 21, 5, 4, 96, 46, 42]
abbrev dktL_law_32 : List UInt8 := dkwL_law_32 ++ dktL_law_33
def dkwL_law_31 : List UInt8 := [159, 0, 5, 3, 172, 21, 6, 154, 0, 15, 45, 3, 47, 21, 7, 133, 148, 153, 0, 5, 3, 172]
abbrev dktL_law_31 : List UInt8 := dkwL_law_31 ++ dktL_law_32
def dkwL_law_30 : List UInt8 := [21, 5, 4, 96, 46, 42, 21, 5, 5, 96, 46, 182, 0, 146, 54, 7, 44, 182, 0, 111, 21, 6]
abbrev dktL_law_30 : List UInt8 := dkwL_law_30 ++ dktL_law_31
def dkwL_law_29 : List UInt8 := [167, 5, 62, 43, 42, 21, 5, 4, 96, 46, 42, 21, 5, 5, 96, 46, 45, 184, 0, 144, 54, 6, 44, 42]
abbrev dktL_law_29 : List UInt8 := dkwL_law_29 ++ dktL_law_30
def dkwL_law_28 : List UInt8 := [21, 6, 159, 0, 5, 3, 172, 21, 6, 154, 0, 15, 45, 3, 47, 21, 7, 133, 148, 153, 0, 5, 3, 172]
abbrev dktL_law_28 : List UInt8 := dkwL_law_28 ++ dktL_law_29
def dkwL_law_27 : List UInt8 := [46, 153, 0, 7, 4, 167, 0, 4, 3, 42, 21, 5, 6, 96, 46, 182, 0, 143, 54, 7, 44, 182, 0, 111]
abbrev dktL_law_27 : List UInt8 := dkwL_law_27 ++ dktL_law_28
def dkwL_law_26 : List UInt8 := [42, 21, 5, 6, 96, 46, 45, 184, 0, 140, 54, 6, 44, 42, 21, 5, 4, 96, 46, 42, 21, 5, 5, 96]
abbrev dktL_law_26 : List UInt8 := dkwL_law_26 ++ dktL_law_27
def dkwL_law_25 : List UInt8 := [167, 5, 158, 43, 42, 21, 5, 4, 96, 46, 42, 21, 5, 5, 96, 46, 153, 0, 7, 4, 167, 0, 4, 3]
abbrev dktL_law_25 : List UInt8 := dkwL_law_25 ++ dktL_law_26
def dkwL_law_24 : List UInt8 := [21, 6, 159, 0, 5, 3, 172, 21, 6, 154, 0, 15, 45, 3, 47, 21, 7, 133, 148, 153, 0, 5, 3, 172]
abbrev dktL_law_24 : List UInt8 := dkwL_law_24 ++ dktL_law_25
def dkwL_law_23 : List UInt8 := [153, 0, 7, 4, 167, 0, 4, 3, 42, 21, 5, 7, 96, 46, 182, 0, 139, 54, 7, 44, 182, 0, 111]
abbrev dktL_law_23 : List UInt8 := dkwL_law_23 ++ dktL_law_24
def dkwL_law_22 : List UInt8 := [184, 0, 136, 54, 6, 44, 42, 21, 5, 4, 96, 46, 42, 21, 5, 5, 96, 46, 42, 21, 5, 6, 96, 46]
abbrev dktL_law_22 : List UInt8 := dkwL_law_22 ++ dktL_law_23
def dkwL_law_21 : List UInt8 := [46, 42, 21, 5, 6, 96, 46, 153, 0, 7, 4, 167, 0, 4, 3, 42, 21, 5, 7, 96, 46, 45]
abbrev dktL_law_21 : List UInt8 := dkwL_law_21 ++ dktL_law_22
def dkwL_law_20 : List UInt8 := [21, 7, 133, 148, 153, 0, 5, 3, 172, 167, 6, 10, 43, 42, 21, 5, 4, 96, 46, 42, 21, 5, 5, 96]
abbrev dktL_law_20 : List UInt8 := dkwL_law_20 ++ dktL_law_21
def dkwL_law_19 : List UInt8 := [182, 0, 135, 54, 7, 44, 182, 0, 111, 21, 6, 159, 0, 5, 3, 172, 21, 6, 154, 0, 15, 45, 3, 47]
abbrev dktL_law_19 : List UInt8 := dkwL_law_19 ++ dktL_law_20
def dkwL_law_18 : List UInt8 := [21, 5, 5, 96, 46, 45, 184, 0, 133, 54, 6, 44, 42, 21, 5, 4, 96, 46, 42, 21, 5, 5, 96, 46]
abbrev dktL_law_18 : List UInt8 := dkwL_law_18 ++ dktL_law_19
def dkwL_law_17 : List UInt8 := [45, 3, 47, 21, 7, 133, 148, 153, 0, 5, 3, 172, 167, 6, 78, 43, 42, 21, 5, 4, 96, 46, 42]
abbrev dktL_law_17 : List UInt8 := dkwL_law_17 ++ dktL_law_18
def dkwL_law_16 : List UInt8 := [5, 96, 46, 182, 0, 132, 54, 7, 44, 182, 0, 111, 21, 6, 159, 0, 5, 3, 172, 21, 6, 154, 0, 15]
abbrev dktL_law_16 : List UInt8 := dkwL_law_16 ++ dktL_law_17
def dkwL_law_15 : List UInt8 := [96, 46, 42, 21, 5, 5, 96, 46, 45, 184, 0, 129, 54, 6, 44, 42, 21, 5, 4, 96, 46, 42, 21, 5]
abbrev dktL_law_15 : List UInt8 := dkwL_law_15 ++ dktL_law_16
def dkwL_law_14 : List UInt8 := [46, 182, 0, 125, 44, 42, 21, 5, 4, 96, 46, 182, 0, 128, 159, 6, 148, 3, 172, 43, 42, 21, 5, 4]
abbrev dktL_law_14 : List UInt8 := dkwL_law_14 ++ dktL_law_15
def dkwL_law_13 : List UInt8 := [154, 0, 15, 45, 3, 47, 21, 7, 133, 148, 153, 0, 5, 3, 172, 167, 6, 171, 43, 42, 21, 5, 4, 96]
abbrev dktL_law_13 : List UInt8 := dkwL_law_13 ++ dktL_law_14
def dkwL_law_12 : List UInt8 := [21, 5, 4, 96, 46, 182, 0, 124, 54, 7, 44, 182, 0, 111, 21, 6, 159, 0, 5, 3, 172, 21, 6]
abbrev dktL_law_12 : List UInt8 := dkwL_law_12 ++ dktL_law_13
def dkwL_law_11 : List UInt8 := [153, 0, 5, 3, 172, 167, 6, 227, 43, 42, 21, 5, 4, 96, 46, 45, 184, 0, 122, 54, 6, 44, 42]
abbrev dktL_law_11 : List UInt8 := dkwL_law_11 ++ dktL_law_12
def dkwL_law_10 : List UInt8 := [182, 0, 111, 21, 6, 159, 0, 5, 3, 172, 21, 6, 154, 0, 15, 45, 3, 47, 21, 7, 133, 148]
abbrev dktL_law_10 : List UInt8 := dkwL_law_10 ++ dktL_law_11
def dkwL_law_9 : List UInt8 := [21, 5, 4, 96, 46, 45, 184, 0, 119, 54, 6, 44, 42, 21, 5, 4, 96, 46, 182, 0, 121, 54, 7, 44]
abbrev dktL_law_9 : List UInt8 := dkwL_law_9 ++ dktL_law_10
def dkwL_law_8 : List UInt8 := [148, 153, 0, 5, 3, 172, 167, 7, 40, 43, 182, 0, 115, 44, 182, 0, 118, 159, 7, 29, 3, 172, 43, 42]
abbrev dktL_law_8 : List UInt8 := dkwL_law_8 ++ dktL_law_9
def dkwL_law_7 : List UInt8 := [54, 7, 44, 182, 0, 111, 21, 6, 159, 0, 5, 3, 172, 21, 6, 154, 0, 15, 45, 3, 47, 21, 7, 133]
abbrev dktL_law_7 : List UInt8 := dkwL_law_7 ++ dktL_law_8
def dkwL_law_6 : List UInt8 := [172, 43, 42, 21, 5, 4, 96, 46, 45, 184, 0, 105, 54, 6, 44, 42, 21, 5, 4, 96, 46, 182, 0, 110]
abbrev dktL_law_6 : List UInt8 := dkwL_law_6 ++ dktL_law_7
def dkwL_law_5 : List UInt8 := [21, 5, 6, 96, 46, 42, 21, 5, 7, 96, 46, 42, 21, 5, 8, 96, 46, 182, 0, 104, 159, 7, 98, 3]
abbrev dktL_law_5 : List UInt8 := dkwL_law_5 ++ dktL_law_6
def dkwL_law_4 : List UInt8 := [46, 42, 21, 5, 8, 96, 46, 182, 0, 100, 44, 42, 21, 5, 4, 96, 46, 42, 21, 5, 5, 96, 46, 42]
abbrev dktL_law_4 : List UInt8 := dkwL_law_4 ++ dktL_law_5
def dkwL_law_3 : List UInt8 := [43, 42, 21, 5, 4, 96, 46, 42, 21, 5, 5, 96, 46, 42, 21, 5, 6, 96, 46, 42, 21, 5, 7, 96]
abbrev dktL_law_3 : List UInt8 := dkwL_law_3 ++ dktL_law_4
def dkwL_law_2 : List UInt8 := [170, 0, 0, 0, 0, 8, 85, 0, 0, 0, 0, 0, 0, 0, 39, 0, 0, 0, 175, 0, 0, 0, 248, 0, 0, 1, 48, 0, 0, 1, 61, 0, 0, 1, 117, 0, 0, 1, 173, 0, 0, 1, 198, 0, 0, 2, 10, 0, 0, 2, 78, 0, 0, 2, 186, 0, 0, 3, 26, 0, 0, 3, 94, 0, 0, 3, 107, 0, 0, 3, 175, 0, 0, 3, 243, 0, 0, 4, 0, 0, 0, 4, 56, 0, 0, 4, 112, 0, 0, 4, 168, 0, 0, 4, 224, 0, 0, 5, 24, 0, 0, 5, 80, 0, 0, 5, 136, 0, 0, 5, 149, 0, 0, 5, 227, 0, 0, 6, 12, 0, 0, 6, 80, 0, 0, 6, 136, 0, 0, 6, 192, 0, 0, 6, 248, 0, 0, 7, 60, 0, 0, 7, 128, 0, 0, 7, 141, 0, 0, 7, 154, 0, 0, 7, 210, 0, 0, 8, 10, 0, 0, 8, 35, 0, 0, 8, 48, 0, 0, 8, 61, 0, 0, 8, 72]
abbrev dktL_law_2 : List UInt8 := dkwL_law_2 ++ dktL_law_3
def dkwL_law_1 : List UInt8 := [58, 4, 3, 54, 5, 21, 5, 42, 190, 16, 6, 100, 163, 8, 101, 42, 21, 5, 46, 16, 63, 126]
abbrev dktL_law_1 : List UInt8 := dkwL_law_1 ++ dktL_law_2
def dkwL_law_0 : List UInt8 := [187, 0, 8, 89, 183, 0, 96, 76, 187, 0, 97, 89, 183, 0, 99, 77, 4, 188, 11, 78, 4, 188, 7]
abbrev dktL_law_0 : List UInt8 := dkwL_law_0 ++ dktL_law_1
theorem dksL_law_0 : cL_law.data.toList.drop 0 = dktL_law_0 := by decide +kernel
theorem dksL_law_1 : cL_law.data.toList.drop 23 = dktL_law_1 := dk_seg dksL_law_0 23 rfl rfl
theorem dksL_law_2 : cL_law.data.toList.drop 45 = dktL_law_2 := dk_seg dksL_law_1 22 rfl rfl
theorem dksL_law_3 : cL_law.data.toList.drop 220 = dktL_law_3 := dk_seg dksL_law_2 175 rfl rfl
theorem dksL_law_4 : cL_law.data.toList.drop 244 = dktL_law_4 := dk_seg dksL_law_3 24 rfl rfl
theorem dksL_law_5 : cL_law.data.toList.drop 268 = dktL_law_5 := dk_seg dksL_law_4 24 rfl rfl
theorem dksL_law_6 : cL_law.data.toList.drop 292 = dktL_law_6 := dk_seg dksL_law_5 24 rfl rfl
theorem dksL_law_7 : cL_law.data.toList.drop 316 = dktL_law_7 := dk_seg dksL_law_6 24 rfl rfl
theorem dksL_law_8 : cL_law.data.toList.drop 340 = dktL_law_8 := dk_seg dksL_law_7 24 rfl rfl
theorem dksL_law_9 : cL_law.data.toList.drop 364 = dktL_law_9 := dk_seg dksL_law_8 24 rfl rfl
theorem dksL_law_10 : cL_law.data.toList.drop 388 = dktL_law_10 := dk_seg dksL_law_9 24 rfl rfl
theorem dksL_law_11 : cL_law.data.toList.drop 410 = dktL_law_11 := dk_seg dksL_law_10 22 rfl rfl
theorem dksL_law_12 : cL_law.data.toList.drop 433 = dktL_law_12 := dk_seg dksL_law_11 23 rfl rfl
theorem dksL_law_13 : cL_law.data.toList.drop 456 = dktL_law_13 := dk_seg dksL_law_12 23 rfl rfl
theorem dksL_law_14 : cL_law.data.toList.drop 480 = dktL_law_14 := dk_seg dksL_law_13 24 rfl rfl
theorem dksL_law_15 : cL_law.data.toList.drop 504 = dktL_law_15 := dk_seg dksL_law_14 24 rfl rfl
theorem dksL_law_16 : cL_law.data.toList.drop 528 = dktL_law_16 := dk_seg dksL_law_15 24 rfl rfl
theorem dksL_law_17 : cL_law.data.toList.drop 552 = dktL_law_17 := dk_seg dksL_law_16 24 rfl rfl
theorem dksL_law_18 : cL_law.data.toList.drop 575 = dktL_law_18 := dk_seg dksL_law_17 23 rfl rfl
theorem dksL_law_19 : cL_law.data.toList.drop 599 = dktL_law_19 := dk_seg dksL_law_18 24 rfl rfl
theorem dksL_law_20 : cL_law.data.toList.drop 623 = dktL_law_20 := dk_seg dksL_law_19 24 rfl rfl
theorem dksL_law_21 : cL_law.data.toList.drop 647 = dktL_law_21 := dk_seg dksL_law_20 24 rfl rfl
theorem dksL_law_22 : cL_law.data.toList.drop 669 = dktL_law_22 := dk_seg dksL_law_21 22 rfl rfl
theorem dksL_law_23 : cL_law.data.toList.drop 693 = dktL_law_23 := dk_seg dksL_law_22 24 rfl rfl
theorem dksL_law_24 : cL_law.data.toList.drop 716 = dktL_law_24 := dk_seg dksL_law_23 23 rfl rfl
theorem dksL_law_25 : cL_law.data.toList.drop 740 = dktL_law_25 := dk_seg dksL_law_24 24 rfl rfl
theorem dksL_law_26 : cL_law.data.toList.drop 764 = dktL_law_26 := dk_seg dksL_law_25 24 rfl rfl
theorem dksL_law_27 : cL_law.data.toList.drop 788 = dktL_law_27 := dk_seg dksL_law_26 24 rfl rfl
theorem dksL_law_28 : cL_law.data.toList.drop 812 = dktL_law_28 := dk_seg dksL_law_27 24 rfl rfl
theorem dksL_law_29 : cL_law.data.toList.drop 836 = dktL_law_29 := dk_seg dksL_law_28 24 rfl rfl
theorem dksL_law_30 : cL_law.data.toList.drop 860 = dktL_law_30 := dk_seg dksL_law_29 24 rfl rfl
theorem dksL_law_31 : cL_law.data.toList.drop 882 = dktL_law_31 := dk_seg dksL_law_30 22 rfl rfl
theorem dksL_law_32 : cL_law.data.toList.drop 904 = dktL_law_32 := dk_seg dksL_law_31 22 rfl rfl
theorem dksL_law_33 : cL_law.data.toList.drop 928 = dktL_law_33 := dk_seg dksL_law_32 24 rfl rfl
theorem dksL_law_34 : cL_law.data.toList.drop 952 = dktL_law_34 := dk_seg dksL_law_33 24 rfl rfl
theorem dksL_law_35 : cL_law.data.toList.drop 976 = dktL_law_35 := dk_seg dksL_law_34 24 rfl rfl
theorem dksL_law_36 : cL_law.data.toList.drop 1000 = dktL_law_36 := dk_seg dksL_law_35 24 rfl rfl
theorem dksL_law_37 : cL_law.data.toList.drop 1023 = dktL_law_37 := dk_seg dksL_law_36 23 rfl rfl
theorem dksL_law_38 : cL_law.data.toList.drop 1047 = dktL_law_38 := dk_seg dksL_law_37 24 rfl rfl
theorem dksL_law_39 : cL_law.data.toList.drop 1071 = dktL_law_39 := dk_seg dksL_law_38 24 rfl rfl
theorem dksL_law_40 : cL_law.data.toList.drop 1095 = dktL_law_40 := dk_seg dksL_law_39 24 rfl rfl
theorem dksL_law_41 : cL_law.data.toList.drop 1117 = dktL_law_41 := dk_seg dksL_law_40 22 rfl rfl
theorem dksL_law_42 : cL_law.data.toList.drop 1140 = dktL_law_42 := dk_seg dksL_law_41 23 rfl rfl
theorem dksL_law_43 : cL_law.data.toList.drop 1163 = dktL_law_43 := dk_seg dksL_law_42 23 rfl rfl
theorem dksL_law_44 : cL_law.data.toList.drop 1187 = dktL_law_44 := dk_seg dksL_law_43 24 rfl rfl
theorem dksL_law_45 : cL_law.data.toList.drop 1210 = dktL_law_45 := dk_seg dksL_law_44 23 rfl rfl
theorem dksL_law_46 : cL_law.data.toList.drop 1234 = dktL_law_46 := dk_seg dksL_law_45 24 rfl rfl
theorem dksL_law_47 : cL_law.data.toList.drop 1257 = dktL_law_47 := dk_seg dksL_law_46 23 rfl rfl
theorem dksL_law_48 : cL_law.data.toList.drop 1281 = dktL_law_48 := dk_seg dksL_law_47 24 rfl rfl
theorem dksL_law_49 : cL_law.data.toList.drop 1304 = dktL_law_49 := dk_seg dksL_law_48 23 rfl rfl
theorem dksL_law_50 : cL_law.data.toList.drop 1328 = dktL_law_50 := dk_seg dksL_law_49 24 rfl rfl
theorem dksL_law_51 : cL_law.data.toList.drop 1351 = dktL_law_51 := dk_seg dksL_law_50 23 rfl rfl
theorem dksL_law_52 : cL_law.data.toList.drop 1375 = dktL_law_52 := dk_seg dksL_law_51 24 rfl rfl
theorem dksL_law_53 : cL_law.data.toList.drop 1397 = dktL_law_53 := dk_seg dksL_law_52 22 rfl rfl
theorem dksL_law_54 : cL_law.data.toList.drop 1420 = dktL_law_54 := dk_seg dksL_law_53 23 rfl rfl
theorem dksL_law_55 : cL_law.data.toList.drop 1443 = dktL_law_55 := dk_seg dksL_law_54 23 rfl rfl
theorem dksL_law_56 : cL_law.data.toList.drop 1466 = dktL_law_56 := dk_seg dksL_law_55 23 rfl rfl
theorem dksL_law_57 : cL_law.data.toList.drop 1490 = dktL_law_57 := dk_seg dksL_law_56 24 rfl rfl
theorem dksL_law_58 : cL_law.data.toList.drop 1513 = dktL_law_58 := dk_seg dksL_law_57 23 rfl rfl
theorem dksL_law_59 : cL_law.data.toList.drop 1536 = dktL_law_59 := dk_seg dksL_law_58 23 rfl rfl
theorem dksL_law_60 : cL_law.data.toList.drop 1559 = dktL_law_60 := dk_seg dksL_law_59 23 rfl rfl
theorem dksL_law_61 : cL_law.data.toList.drop 1582 = dktL_law_61 := dk_seg dksL_law_60 23 rfl rfl
theorem dksL_law_62 : cL_law.data.toList.drop 1606 = dktL_law_62 := dk_seg dksL_law_61 24 rfl rfl
theorem dksL_law_63 : cL_law.data.toList.drop 1630 = dktL_law_63 := dk_seg dksL_law_62 24 rfl rfl
theorem dksL_law_64 : cL_law.data.toList.drop 1653 = dktL_law_64 := dk_seg dksL_law_63 23 rfl rfl
theorem dksL_law_65 : cL_law.data.toList.drop 1676 = dktL_law_65 := dk_seg dksL_law_64 23 rfl rfl
theorem dksL_law_66 : cL_law.data.toList.drop 1699 = dktL_law_66 := dk_seg dksL_law_65 23 rfl rfl
theorem dksL_law_67 : cL_law.data.toList.drop 1723 = dktL_law_67 := dk_seg dksL_law_66 24 rfl rfl
theorem dksL_law_68 : cL_law.data.toList.drop 1746 = dktL_law_68 := dk_seg dksL_law_67 23 rfl rfl
theorem dksL_law_69 : cL_law.data.toList.drop 1770 = dktL_law_69 := dk_seg dksL_law_68 24 rfl rfl
theorem dksL_law_70 : cL_law.data.toList.drop 1793 = dktL_law_70 := dk_seg dksL_law_69 23 rfl rfl
theorem dksL_law_71 : cL_law.data.toList.drop 1817 = dktL_law_71 := dk_seg dksL_law_70 24 rfl rfl
theorem dksL_law_72 : cL_law.data.toList.drop 1841 = dktL_law_72 := dk_seg dksL_law_71 24 rfl rfl
theorem dksL_law_73 : cL_law.data.toList.drop 1864 = dktL_law_73 := dk_seg dksL_law_72 23 rfl rfl
theorem dksL_law_74 : cL_law.data.toList.drop 1888 = dktL_law_74 := dk_seg dksL_law_73 24 rfl rfl
theorem dksL_law_75 : cL_law.data.toList.drop 1911 = dktL_law_75 := dk_seg dksL_law_74 23 rfl rfl
theorem dksL_law_76 : cL_law.data.toList.drop 1935 = dktL_law_76 := dk_seg dksL_law_75 24 rfl rfl
theorem dksL_law_77 : cL_law.data.toList.drop 1957 = dktL_law_77 := dk_seg dksL_law_76 22 rfl rfl
theorem dksL_law_78 : cL_law.data.toList.drop 1979 = dktL_law_78 := dk_seg dksL_law_77 22 rfl rfl
theorem dksL_law_79 : cL_law.data.toList.drop 2002 = dktL_law_79 := dk_seg dksL_law_78 23 rfl rfl
theorem dksL_law_80 : cL_law.data.toList.drop 2026 = dktL_law_80 := dk_seg dksL_law_79 24 rfl rfl
theorem dksL_law_81 : cL_law.data.toList.drop 2049 = dktL_law_81 := dk_seg dksL_law_80 23 rfl rfl
theorem dksL_law_82 : cL_law.data.toList.drop 2073 = dktL_law_82 := dk_seg dksL_law_81 24 rfl rfl
theorem dksL_law_83 : cL_law.data.toList.drop 2095 = dktL_law_83 := dk_seg dksL_law_82 22 rfl rfl
theorem dksL_law_84 : cL_law.data.toList.drop 2119 = dktL_law_84 := dk_seg dksL_law_83 24 rfl rfl
theorem dksL_law_85 : cL_law.data.toList.drop 2142 = dktL_law_85 := dk_seg dksL_law_84 23 rfl rfl
theorem dksL_law_86 : cL_law.data.toList.drop 2166 = dktL_law_86 := dk_seg dksL_law_85 24 rfl rfl
theorem dL_law_0 : decode cL_law 0 = .ok (.new 8, 3) := dk_187 0 8 (dk_at dksL_law_0 0 rfl rfl)
theorem dL_law_3 : decode cL_law 3 = .ok (.dup, 1) := dk_89 (dk_at dksL_law_0 3 rfl rfl)
theorem dL_law_4 : decode cL_law 4 = .ok (.invokespecial 96, 3) := dk_183 0 96 (dk_at dksL_law_0 4 rfl rfl)
theorem dL_law_7 : decode cL_law 7 = .ok (.astore_n 1, 1) := dk_76 (dk_at dksL_law_0 7 rfl rfl)
theorem dL_law_8 : decode cL_law 8 = .ok (.new 97, 3) := dk_187 0 97 (dk_at dksL_law_0 8 rfl rfl)
theorem dL_law_11 : decode cL_law 11 = .ok (.dup, 1) := dk_89 (dk_at dksL_law_0 11 rfl rfl)
theorem dL_law_12 : decode cL_law 12 = .ok (.invokespecial 99, 3) := dk_183 0 99 (dk_at dksL_law_0 12 rfl rfl)
theorem dL_law_15 : decode cL_law 15 = .ok (.astore_n 2, 1) := dk_77 (dk_at dksL_law_0 15 rfl rfl)
theorem dL_law_16 : decode cL_law 16 = .ok (.iconst 1, 1) := dk_4 (dk_at dksL_law_0 16 rfl rfl)
theorem dL_law_17 : decode cL_law 17 = .ok (.newarray .long, 2) := dk_188_11 (dk_at dksL_law_0 17 rfl rfl)
theorem dL_law_19 : decode cL_law 19 = .ok (.astore_n 3, 1) := dk_78 (dk_at dksL_law_0 19 rfl rfl)
theorem dL_law_20 : decode cL_law 20 = .ok (.iconst 1, 1) := dk_4 (dk_at dksL_law_0 20 rfl rfl)
theorem dL_law_21 : decode cL_law 21 = .ok (.newarray .double, 2) := dk_188_7 (dk_at dksL_law_0 21 rfl rfl)
theorem dL_law_23 : decode cL_law 23 = .ok (.astore 4, 2) := dk_58 4 (dk_at dksL_law_1 0 rfl rfl)
theorem dL_law_25 : decode cL_law 25 = .ok (.iconst 0, 1) := dk_3 (dk_at dksL_law_1 2 rfl rfl)
theorem dL_law_26 : decode cL_law 26 = .ok (.istore 5, 2) := dk_54 5 (dk_at dksL_law_1 3 rfl rfl)
theorem dL_law_28 : decode cL_law 28 = .ok (.iload 5, 2) := dk_21 5 (dk_at dksL_law_1 5 rfl rfl)
theorem dL_law_30 : decode cL_law 30 = .ok (.aload_n 0, 1) := dk_42 (dk_at dksL_law_1 7 rfl rfl)
theorem dL_law_31 : decode cL_law 31 = .ok (.arraylength, 1) := dk_190 (dk_at dksL_law_1 8 rfl rfl)
theorem dL_law_32 : decode cL_law 32 = .ok (.bipush 6, 2) := dk_16 6 (dk_at dksL_law_1 9 rfl rfl)
theorem dL_law_34 : decode cL_law 34 = .ok (.isub, 1) := dk_100 (dk_at dksL_law_1 11 rfl rfl)
theorem dL_law_35 : decode cL_law 35 = .ok (.if_icmp .gt 2149, 3) := dk_163 8 101 (dk_at dksL_law_1 12 rfl rfl)
theorem dL_law_38 : decode cL_law 38 = .ok (.aload_n 0, 1) := dk_42 (dk_at dksL_law_1 15 rfl rfl)
theorem dL_law_39 : decode cL_law 39 = .ok (.iload 5, 2) := dk_21 5 (dk_at dksL_law_1 16 rfl rfl)
theorem dL_law_41 : decode cL_law 41 = .ok (.iaload, 1) := dk_46 (dk_at dksL_law_1 18 rfl rfl)
theorem dL_law_42 : decode cL_law 42 = .ok (.bipush 63, 2) := dk_16 63 (dk_at dksL_law_1 19 rfl rfl)
theorem dL_law_44 : decode cL_law 44 = .ok (.iand, 1) := dk_126 (dk_at dksL_law_1 21 rfl rfl)
theorem dL_law_45 : decode cL_law 45 = .ok (.tableswitch 2133 0 39 #[175, 248, 304, 317, 373, 429, 454, 522, 590, 698, 794, 862, 875, 943, 1011, 1024, 1080, 1136, 1192, 1248, 1304, 1360, 1416, 1429, 1507, 1548, 1616, 1672, 1728, 1784, 1852, 1920, 1933, 1946, 2002, 2058, 2083, 2096, 2109, 2120], 175) := by decide +kernel
theorem dL_law_220 : decode cL_law 220 = .ok (.aload_n 1, 1) := dk_43 (dk_at dksL_law_3 0 rfl rfl)
theorem dL_law_221 : decode cL_law 221 = .ok (.aload_n 0, 1) := dk_42 (dk_at dksL_law_3 1 rfl rfl)
theorem dL_law_222 : decode cL_law 222 = .ok (.iload 5, 2) := dk_21 5 (dk_at dksL_law_3 2 rfl rfl)
theorem dL_law_224 : decode cL_law 224 = .ok (.iconst 1, 1) := dk_4 (dk_at dksL_law_3 4 rfl rfl)
theorem dL_law_225 : decode cL_law 225 = .ok (.iadd, 1) := dk_96 (dk_at dksL_law_3 5 rfl rfl)
theorem dL_law_226 : decode cL_law 226 = .ok (.iaload, 1) := dk_46 (dk_at dksL_law_3 6 rfl rfl)
theorem dL_law_227 : decode cL_law 227 = .ok (.aload_n 0, 1) := dk_42 (dk_at dksL_law_3 7 rfl rfl)
theorem dL_law_228 : decode cL_law 228 = .ok (.iload 5, 2) := dk_21 5 (dk_at dksL_law_3 8 rfl rfl)
theorem dL_law_230 : decode cL_law 230 = .ok (.iconst 2, 1) := dk_5 (dk_at dksL_law_3 10 rfl rfl)
theorem dL_law_231 : decode cL_law 231 = .ok (.iadd, 1) := dk_96 (dk_at dksL_law_3 11 rfl rfl)
theorem dL_law_232 : decode cL_law 232 = .ok (.iaload, 1) := dk_46 (dk_at dksL_law_3 12 rfl rfl)
theorem dL_law_233 : decode cL_law 233 = .ok (.aload_n 0, 1) := dk_42 (dk_at dksL_law_3 13 rfl rfl)
theorem dL_law_234 : decode cL_law 234 = .ok (.iload 5, 2) := dk_21 5 (dk_at dksL_law_3 14 rfl rfl)
theorem dL_law_236 : decode cL_law 236 = .ok (.iconst 3, 1) := dk_6 (dk_at dksL_law_3 16 rfl rfl)
theorem dL_law_237 : decode cL_law 237 = .ok (.iadd, 1) := dk_96 (dk_at dksL_law_3 17 rfl rfl)
theorem dL_law_238 : decode cL_law 238 = .ok (.iaload, 1) := dk_46 (dk_at dksL_law_3 18 rfl rfl)
theorem dL_law_239 : decode cL_law 239 = .ok (.aload_n 0, 1) := dk_42 (dk_at dksL_law_3 19 rfl rfl)
theorem dL_law_240 : decode cL_law 240 = .ok (.iload 5, 2) := dk_21 5 (dk_at dksL_law_3 20 rfl rfl)
theorem dL_law_242 : decode cL_law 242 = .ok (.iconst 4, 1) := dk_7 (dk_at dksL_law_3 22 rfl rfl)
theorem dL_law_243 : decode cL_law 243 = .ok (.iadd, 1) := dk_96 (dk_at dksL_law_3 23 rfl rfl)
theorem dL_law_244 : decode cL_law 244 = .ok (.iaload, 1) := dk_46 (dk_at dksL_law_4 0 rfl rfl)
theorem dL_law_245 : decode cL_law 245 = .ok (.aload_n 0, 1) := dk_42 (dk_at dksL_law_4 1 rfl rfl)
theorem dL_law_246 : decode cL_law 246 = .ok (.iload 5, 2) := dk_21 5 (dk_at dksL_law_4 2 rfl rfl)
theorem dL_law_248 : decode cL_law 248 = .ok (.iconst 5, 1) := dk_8 (dk_at dksL_law_4 4 rfl rfl)
theorem dL_law_249 : decode cL_law 249 = .ok (.iadd, 1) := dk_96 (dk_at dksL_law_4 5 rfl rfl)
theorem dL_law_250 : decode cL_law 250 = .ok (.iaload, 1) := dk_46 (dk_at dksL_law_4 6 rfl rfl)
theorem dL_law_251 : decode cL_law 251 = .ok (.invokevirtual 100, 3) := dk_182 0 100 (dk_at dksL_law_4 7 rfl rfl)
theorem dL_law_254 : decode cL_law 254 = .ok (.aload_n 2, 1) := dk_44 (dk_at dksL_law_4 10 rfl rfl)
theorem dL_law_255 : decode cL_law 255 = .ok (.aload_n 0, 1) := dk_42 (dk_at dksL_law_4 11 rfl rfl)
theorem dL_law_256 : decode cL_law 256 = .ok (.iload 5, 2) := dk_21 5 (dk_at dksL_law_4 12 rfl rfl)
theorem dL_law_258 : decode cL_law 258 = .ok (.iconst 1, 1) := dk_4 (dk_at dksL_law_4 14 rfl rfl)
theorem dL_law_259 : decode cL_law 259 = .ok (.iadd, 1) := dk_96 (dk_at dksL_law_4 15 rfl rfl)
theorem dL_law_260 : decode cL_law 260 = .ok (.iaload, 1) := dk_46 (dk_at dksL_law_4 16 rfl rfl)
theorem dL_law_261 : decode cL_law 261 = .ok (.aload_n 0, 1) := dk_42 (dk_at dksL_law_4 17 rfl rfl)
theorem dL_law_262 : decode cL_law 262 = .ok (.iload 5, 2) := dk_21 5 (dk_at dksL_law_4 18 rfl rfl)
theorem dL_law_264 : decode cL_law 264 = .ok (.iconst 2, 1) := dk_5 (dk_at dksL_law_4 20 rfl rfl)
theorem dL_law_265 : decode cL_law 265 = .ok (.iadd, 1) := dk_96 (dk_at dksL_law_4 21 rfl rfl)
theorem dL_law_266 : decode cL_law 266 = .ok (.iaload, 1) := dk_46 (dk_at dksL_law_4 22 rfl rfl)
theorem dL_law_267 : decode cL_law 267 = .ok (.aload_n 0, 1) := dk_42 (dk_at dksL_law_4 23 rfl rfl)
theorem dL_law_268 : decode cL_law 268 = .ok (.iload 5, 2) := dk_21 5 (dk_at dksL_law_5 0 rfl rfl)
theorem dL_law_270 : decode cL_law 270 = .ok (.iconst 3, 1) := dk_6 (dk_at dksL_law_5 2 rfl rfl)
theorem dL_law_271 : decode cL_law 271 = .ok (.iadd, 1) := dk_96 (dk_at dksL_law_5 3 rfl rfl)
theorem dL_law_272 : decode cL_law 272 = .ok (.iaload, 1) := dk_46 (dk_at dksL_law_5 4 rfl rfl)
theorem dL_law_273 : decode cL_law 273 = .ok (.aload_n 0, 1) := dk_42 (dk_at dksL_law_5 5 rfl rfl)
theorem dL_law_274 : decode cL_law 274 = .ok (.iload 5, 2) := dk_21 5 (dk_at dksL_law_5 6 rfl rfl)
theorem dL_law_276 : decode cL_law 276 = .ok (.iconst 4, 1) := dk_7 (dk_at dksL_law_5 8 rfl rfl)
theorem dL_law_277 : decode cL_law 277 = .ok (.iadd, 1) := dk_96 (dk_at dksL_law_5 9 rfl rfl)
theorem dL_law_278 : decode cL_law 278 = .ok (.iaload, 1) := dk_46 (dk_at dksL_law_5 10 rfl rfl)
theorem dL_law_279 : decode cL_law 279 = .ok (.aload_n 0, 1) := dk_42 (dk_at dksL_law_5 11 rfl rfl)
theorem dL_law_280 : decode cL_law 280 = .ok (.iload 5, 2) := dk_21 5 (dk_at dksL_law_5 12 rfl rfl)
theorem dL_law_282 : decode cL_law 282 = .ok (.iconst 5, 1) := dk_8 (dk_at dksL_law_5 14 rfl rfl)
theorem dL_law_283 : decode cL_law 283 = .ok (.iadd, 1) := dk_96 (dk_at dksL_law_5 15 rfl rfl)
theorem dL_law_284 : decode cL_law 284 = .ok (.iaload, 1) := dk_46 (dk_at dksL_law_5 16 rfl rfl)
theorem dL_law_285 : decode cL_law 285 = .ok (.invokevirtual 104, 3) := dk_182 0 104 (dk_at dksL_law_5 17 rfl rfl)
theorem dL_law_288 : decode cL_law 288 = .ok (.if_icmp .eq 1890, 3) := dk_159 7 98 (dk_at dksL_law_5 20 rfl rfl)
theorem dL_law_291 : decode cL_law 291 = .ok (.iconst 0, 1) := dk_3 (dk_at dksL_law_5 23 rfl rfl)
theorem dL_law_292 : decode cL_law 292 = .ok (.ireturn, 1) := dk_172 (dk_at dksL_law_6 0 rfl rfl)
theorem dL_law_293 : decode cL_law 293 = .ok (.aload_n 1, 1) := dk_43 (dk_at dksL_law_6 1 rfl rfl)
theorem dL_law_294 : decode cL_law 294 = .ok (.aload_n 0, 1) := dk_42 (dk_at dksL_law_6 2 rfl rfl)
theorem dL_law_295 : decode cL_law 295 = .ok (.iload 5, 2) := dk_21 5 (dk_at dksL_law_6 3 rfl rfl)
theorem dL_law_297 : decode cL_law 297 = .ok (.iconst 1, 1) := dk_4 (dk_at dksL_law_6 5 rfl rfl)
theorem dL_law_298 : decode cL_law 298 = .ok (.iadd, 1) := dk_96 (dk_at dksL_law_6 6 rfl rfl)
theorem dL_law_299 : decode cL_law 299 = .ok (.iaload, 1) := dk_46 (dk_at dksL_law_6 7 rfl rfl)
theorem dL_law_300 : decode cL_law 300 = .ok (.aload_n 3, 1) := dk_45 (dk_at dksL_law_6 8 rfl rfl)
theorem dL_law_301 : decode cL_law 301 = .ok (.invokestatic 105, 3) := dk_184 0 105 (dk_at dksL_law_6 9 rfl rfl)
theorem dL_law_304 : decode cL_law 304 = .ok (.istore 6, 2) := dk_54 6 (dk_at dksL_law_6 12 rfl rfl)
theorem dL_law_306 : decode cL_law 306 = .ok (.aload_n 2, 1) := dk_44 (dk_at dksL_law_6 14 rfl rfl)
theorem dL_law_307 : decode cL_law 307 = .ok (.aload_n 0, 1) := dk_42 (dk_at dksL_law_6 15 rfl rfl)
theorem dL_law_308 : decode cL_law 308 = .ok (.iload 5, 2) := dk_21 5 (dk_at dksL_law_6 16 rfl rfl)
theorem dL_law_310 : decode cL_law 310 = .ok (.iconst 1, 1) := dk_4 (dk_at dksL_law_6 18 rfl rfl)
theorem dL_law_311 : decode cL_law 311 = .ok (.iadd, 1) := dk_96 (dk_at dksL_law_6 19 rfl rfl)
theorem dL_law_312 : decode cL_law 312 = .ok (.iaload, 1) := dk_46 (dk_at dksL_law_6 20 rfl rfl)
theorem dL_law_313 : decode cL_law 313 = .ok (.invokevirtual 110, 3) := dk_182 0 110 (dk_at dksL_law_6 21 rfl rfl)
theorem dL_law_316 : decode cL_law 316 = .ok (.istore 7, 2) := dk_54 7 (dk_at dksL_law_7 0 rfl rfl)
theorem dL_law_318 : decode cL_law 318 = .ok (.aload_n 2, 1) := dk_44 (dk_at dksL_law_7 2 rfl rfl)
theorem dL_law_319 : decode cL_law 319 = .ok (.invokevirtual 111, 3) := dk_182 0 111 (dk_at dksL_law_7 3 rfl rfl)
theorem dL_law_322 : decode cL_law 322 = .ok (.iload 6, 2) := dk_21 6 (dk_at dksL_law_7 6 rfl rfl)
theorem dL_law_324 : decode cL_law 324 = .ok (.if_icmp .eq 5, 3) := dk_159 0 5 (dk_at dksL_law_7 8 rfl rfl)
theorem dL_law_327 : decode cL_law 327 = .ok (.iconst 0, 1) := dk_3 (dk_at dksL_law_7 11 rfl rfl)
theorem dL_law_328 : decode cL_law 328 = .ok (.ireturn, 1) := dk_172 (dk_at dksL_law_7 12 rfl rfl)
theorem dL_law_329 : decode cL_law 329 = .ok (.iload 6, 2) := dk_21 6 (dk_at dksL_law_7 13 rfl rfl)
theorem dL_law_331 : decode cL_law 331 = .ok (.ifCond .ne 15, 3) := dk_154 0 15 (dk_at dksL_law_7 15 rfl rfl)
theorem dL_law_334 : decode cL_law 334 = .ok (.aload_n 3, 1) := dk_45 (dk_at dksL_law_7 18 rfl rfl)
theorem dL_law_335 : decode cL_law 335 = .ok (.iconst 0, 1) := dk_3 (dk_at dksL_law_7 19 rfl rfl)
theorem dL_law_336 : decode cL_law 336 = .ok (.laload, 1) := dk_47 (dk_at dksL_law_7 20 rfl rfl)
theorem dL_law_337 : decode cL_law 337 = .ok (.iload 7, 2) := dk_21 7 (dk_at dksL_law_7 21 rfl rfl)
theorem dL_law_339 : decode cL_law 339 = .ok (.i2l, 1) := dk_133 (dk_at dksL_law_7 23 rfl rfl)
theorem dL_law_340 : decode cL_law 340 = .ok (.lcmp, 1) := dk_148 (dk_at dksL_law_8 0 rfl rfl)
theorem dL_law_341 : decode cL_law 341 = .ok (.ifCond .eq 5, 3) := dk_153 0 5 (dk_at dksL_law_8 1 rfl rfl)
theorem dL_law_344 : decode cL_law 344 = .ok (.iconst 0, 1) := dk_3 (dk_at dksL_law_8 4 rfl rfl)
theorem dL_law_345 : decode cL_law 345 = .ok (.ireturn, 1) := dk_172 (dk_at dksL_law_8 5 rfl rfl)
theorem dL_law_346 : decode cL_law 346 = .ok (.goto 1832, 3) := dk_167 7 40 (dk_at dksL_law_8 6 rfl rfl)
theorem dL_law_349 : decode cL_law 349 = .ok (.aload_n 1, 1) := dk_43 (dk_at dksL_law_8 9 rfl rfl)
theorem dL_law_350 : decode cL_law 350 = .ok (.invokevirtual 115, 3) := dk_182 0 115 (dk_at dksL_law_8 10 rfl rfl)
theorem dL_law_353 : decode cL_law 353 = .ok (.aload_n 2, 1) := dk_44 (dk_at dksL_law_8 13 rfl rfl)
theorem dL_law_354 : decode cL_law 354 = .ok (.invokevirtual 118, 3) := dk_182 0 118 (dk_at dksL_law_8 14 rfl rfl)
theorem dL_law_357 : decode cL_law 357 = .ok (.if_icmp .eq 1821, 3) := dk_159 7 29 (dk_at dksL_law_8 17 rfl rfl)
theorem dL_law_360 : decode cL_law 360 = .ok (.iconst 0, 1) := dk_3 (dk_at dksL_law_8 20 rfl rfl)
theorem dL_law_361 : decode cL_law 361 = .ok (.ireturn, 1) := dk_172 (dk_at dksL_law_8 21 rfl rfl)
theorem dL_law_362 : decode cL_law 362 = .ok (.aload_n 1, 1) := dk_43 (dk_at dksL_law_8 22 rfl rfl)
theorem dL_law_363 : decode cL_law 363 = .ok (.aload_n 0, 1) := dk_42 (dk_at dksL_law_8 23 rfl rfl)
theorem dL_law_364 : decode cL_law 364 = .ok (.iload 5, 2) := dk_21 5 (dk_at dksL_law_9 0 rfl rfl)
theorem dL_law_366 : decode cL_law 366 = .ok (.iconst 1, 1) := dk_4 (dk_at dksL_law_9 2 rfl rfl)
theorem dL_law_367 : decode cL_law 367 = .ok (.iadd, 1) := dk_96 (dk_at dksL_law_9 3 rfl rfl)
theorem dL_law_368 : decode cL_law 368 = .ok (.iaload, 1) := dk_46 (dk_at dksL_law_9 4 rfl rfl)
theorem dL_law_369 : decode cL_law 369 = .ok (.aload_n 3, 1) := dk_45 (dk_at dksL_law_9 5 rfl rfl)
theorem dL_law_370 : decode cL_law 370 = .ok (.invokestatic 119, 3) := dk_184 0 119 (dk_at dksL_law_9 6 rfl rfl)
theorem dL_law_373 : decode cL_law 373 = .ok (.istore 6, 2) := dk_54 6 (dk_at dksL_law_9 9 rfl rfl)
theorem dL_law_375 : decode cL_law 375 = .ok (.aload_n 2, 1) := dk_44 (dk_at dksL_law_9 11 rfl rfl)
theorem dL_law_376 : decode cL_law 376 = .ok (.aload_n 0, 1) := dk_42 (dk_at dksL_law_9 12 rfl rfl)
theorem dL_law_377 : decode cL_law 377 = .ok (.iload 5, 2) := dk_21 5 (dk_at dksL_law_9 13 rfl rfl)
theorem dL_law_379 : decode cL_law 379 = .ok (.iconst 1, 1) := dk_4 (dk_at dksL_law_9 15 rfl rfl)
theorem dL_law_380 : decode cL_law 380 = .ok (.iadd, 1) := dk_96 (dk_at dksL_law_9 16 rfl rfl)
theorem dL_law_381 : decode cL_law 381 = .ok (.iaload, 1) := dk_46 (dk_at dksL_law_9 17 rfl rfl)
theorem dL_law_382 : decode cL_law 382 = .ok (.invokevirtual 121, 3) := dk_182 0 121 (dk_at dksL_law_9 18 rfl rfl)
theorem dL_law_385 : decode cL_law 385 = .ok (.istore 7, 2) := dk_54 7 (dk_at dksL_law_9 21 rfl rfl)
theorem dL_law_387 : decode cL_law 387 = .ok (.aload_n 2, 1) := dk_44 (dk_at dksL_law_9 23 rfl rfl)
theorem dL_law_388 : decode cL_law 388 = .ok (.invokevirtual 111, 3) := dk_182 0 111 (dk_at dksL_law_10 0 rfl rfl)
theorem dL_law_391 : decode cL_law 391 = .ok (.iload 6, 2) := dk_21 6 (dk_at dksL_law_10 3 rfl rfl)
theorem dL_law_393 : decode cL_law 393 = .ok (.if_icmp .eq 5, 3) := dk_159 0 5 (dk_at dksL_law_10 5 rfl rfl)
theorem dL_law_396 : decode cL_law 396 = .ok (.iconst 0, 1) := dk_3 (dk_at dksL_law_10 8 rfl rfl)
theorem dL_law_397 : decode cL_law 397 = .ok (.ireturn, 1) := dk_172 (dk_at dksL_law_10 9 rfl rfl)
theorem dL_law_398 : decode cL_law 398 = .ok (.iload 6, 2) := dk_21 6 (dk_at dksL_law_10 10 rfl rfl)
theorem dL_law_400 : decode cL_law 400 = .ok (.ifCond .ne 15, 3) := dk_154 0 15 (dk_at dksL_law_10 12 rfl rfl)
theorem dL_law_403 : decode cL_law 403 = .ok (.aload_n 3, 1) := dk_45 (dk_at dksL_law_10 15 rfl rfl)
theorem dL_law_404 : decode cL_law 404 = .ok (.iconst 0, 1) := dk_3 (dk_at dksL_law_10 16 rfl rfl)
theorem dL_law_405 : decode cL_law 405 = .ok (.laload, 1) := dk_47 (dk_at dksL_law_10 17 rfl rfl)
theorem dL_law_406 : decode cL_law 406 = .ok (.iload 7, 2) := dk_21 7 (dk_at dksL_law_10 18 rfl rfl)
theorem dL_law_408 : decode cL_law 408 = .ok (.i2l, 1) := dk_133 (dk_at dksL_law_10 20 rfl rfl)
theorem dL_law_409 : decode cL_law 409 = .ok (.lcmp, 1) := dk_148 (dk_at dksL_law_10 21 rfl rfl)
theorem dL_law_410 : decode cL_law 410 = .ok (.ifCond .eq 5, 3) := dk_153 0 5 (dk_at dksL_law_11 0 rfl rfl)
theorem dL_law_413 : decode cL_law 413 = .ok (.iconst 0, 1) := dk_3 (dk_at dksL_law_11 3 rfl rfl)
theorem dL_law_414 : decode cL_law 414 = .ok (.ireturn, 1) := dk_172 (dk_at dksL_law_11 4 rfl rfl)
theorem dL_law_415 : decode cL_law 415 = .ok (.goto 1763, 3) := dk_167 6 227 (dk_at dksL_law_11 5 rfl rfl)
theorem dL_law_418 : decode cL_law 418 = .ok (.aload_n 1, 1) := dk_43 (dk_at dksL_law_11 8 rfl rfl)
theorem dL_law_419 : decode cL_law 419 = .ok (.aload_n 0, 1) := dk_42 (dk_at dksL_law_11 9 rfl rfl)
theorem dL_law_420 : decode cL_law 420 = .ok (.iload 5, 2) := dk_21 5 (dk_at dksL_law_11 10 rfl rfl)
theorem dL_law_422 : decode cL_law 422 = .ok (.iconst 1, 1) := dk_4 (dk_at dksL_law_11 12 rfl rfl)
theorem dL_law_423 : decode cL_law 423 = .ok (.iadd, 1) := dk_96 (dk_at dksL_law_11 13 rfl rfl)
theorem dL_law_424 : decode cL_law 424 = .ok (.iaload, 1) := dk_46 (dk_at dksL_law_11 14 rfl rfl)
theorem dL_law_425 : decode cL_law 425 = .ok (.aload_n 3, 1) := dk_45 (dk_at dksL_law_11 15 rfl rfl)
theorem dL_law_426 : decode cL_law 426 = .ok (.invokestatic 122, 3) := dk_184 0 122 (dk_at dksL_law_11 16 rfl rfl)
theorem dL_law_429 : decode cL_law 429 = .ok (.istore 6, 2) := dk_54 6 (dk_at dksL_law_11 19 rfl rfl)
theorem dL_law_431 : decode cL_law 431 = .ok (.aload_n 2, 1) := dk_44 (dk_at dksL_law_11 21 rfl rfl)
theorem dL_law_432 : decode cL_law 432 = .ok (.aload_n 0, 1) := dk_42 (dk_at dksL_law_11 22 rfl rfl)
theorem dL_law_433 : decode cL_law 433 = .ok (.iload 5, 2) := dk_21 5 (dk_at dksL_law_12 0 rfl rfl)
theorem dL_law_435 : decode cL_law 435 = .ok (.iconst 1, 1) := dk_4 (dk_at dksL_law_12 2 rfl rfl)
theorem dL_law_436 : decode cL_law 436 = .ok (.iadd, 1) := dk_96 (dk_at dksL_law_12 3 rfl rfl)
theorem dL_law_437 : decode cL_law 437 = .ok (.iaload, 1) := dk_46 (dk_at dksL_law_12 4 rfl rfl)
theorem dL_law_438 : decode cL_law 438 = .ok (.invokevirtual 124, 3) := dk_182 0 124 (dk_at dksL_law_12 5 rfl rfl)
theorem dL_law_441 : decode cL_law 441 = .ok (.istore 7, 2) := dk_54 7 (dk_at dksL_law_12 8 rfl rfl)
theorem dL_law_443 : decode cL_law 443 = .ok (.aload_n 2, 1) := dk_44 (dk_at dksL_law_12 10 rfl rfl)
theorem dL_law_444 : decode cL_law 444 = .ok (.invokevirtual 111, 3) := dk_182 0 111 (dk_at dksL_law_12 11 rfl rfl)
theorem dL_law_447 : decode cL_law 447 = .ok (.iload 6, 2) := dk_21 6 (dk_at dksL_law_12 14 rfl rfl)
theorem dL_law_449 : decode cL_law 449 = .ok (.if_icmp .eq 5, 3) := dk_159 0 5 (dk_at dksL_law_12 16 rfl rfl)
theorem dL_law_452 : decode cL_law 452 = .ok (.iconst 0, 1) := dk_3 (dk_at dksL_law_12 19 rfl rfl)
theorem dL_law_453 : decode cL_law 453 = .ok (.ireturn, 1) := dk_172 (dk_at dksL_law_12 20 rfl rfl)
theorem dL_law_454 : decode cL_law 454 = .ok (.iload 6, 2) := dk_21 6 (dk_at dksL_law_12 21 rfl rfl)
theorem dL_law_456 : decode cL_law 456 = .ok (.ifCond .ne 15, 3) := dk_154 0 15 (dk_at dksL_law_13 0 rfl rfl)
theorem dL_law_459 : decode cL_law 459 = .ok (.aload_n 3, 1) := dk_45 (dk_at dksL_law_13 3 rfl rfl)
theorem dL_law_460 : decode cL_law 460 = .ok (.iconst 0, 1) := dk_3 (dk_at dksL_law_13 4 rfl rfl)
theorem dL_law_461 : decode cL_law 461 = .ok (.laload, 1) := dk_47 (dk_at dksL_law_13 5 rfl rfl)
theorem dL_law_462 : decode cL_law 462 = .ok (.iload 7, 2) := dk_21 7 (dk_at dksL_law_13 6 rfl rfl)
theorem dL_law_464 : decode cL_law 464 = .ok (.i2l, 1) := dk_133 (dk_at dksL_law_13 8 rfl rfl)
theorem dL_law_465 : decode cL_law 465 = .ok (.lcmp, 1) := dk_148 (dk_at dksL_law_13 9 rfl rfl)
theorem dL_law_466 : decode cL_law 466 = .ok (.ifCond .eq 5, 3) := dk_153 0 5 (dk_at dksL_law_13 10 rfl rfl)
theorem dL_law_469 : decode cL_law 469 = .ok (.iconst 0, 1) := dk_3 (dk_at dksL_law_13 13 rfl rfl)
theorem dL_law_470 : decode cL_law 470 = .ok (.ireturn, 1) := dk_172 (dk_at dksL_law_13 14 rfl rfl)
theorem dL_law_471 : decode cL_law 471 = .ok (.goto 1707, 3) := dk_167 6 171 (dk_at dksL_law_13 15 rfl rfl)
theorem dL_law_474 : decode cL_law 474 = .ok (.aload_n 1, 1) := dk_43 (dk_at dksL_law_13 18 rfl rfl)
theorem dL_law_475 : decode cL_law 475 = .ok (.aload_n 0, 1) := dk_42 (dk_at dksL_law_13 19 rfl rfl)
theorem dL_law_476 : decode cL_law 476 = .ok (.iload 5, 2) := dk_21 5 (dk_at dksL_law_13 20 rfl rfl)
theorem dL_law_478 : decode cL_law 478 = .ok (.iconst 1, 1) := dk_4 (dk_at dksL_law_13 22 rfl rfl)
theorem dL_law_479 : decode cL_law 479 = .ok (.iadd, 1) := dk_96 (dk_at dksL_law_13 23 rfl rfl)
theorem dL_law_480 : decode cL_law 480 = .ok (.iaload, 1) := dk_46 (dk_at dksL_law_14 0 rfl rfl)
theorem dL_law_481 : decode cL_law 481 = .ok (.invokevirtual 125, 3) := dk_182 0 125 (dk_at dksL_law_14 1 rfl rfl)
theorem dL_law_484 : decode cL_law 484 = .ok (.aload_n 2, 1) := dk_44 (dk_at dksL_law_14 4 rfl rfl)
theorem dL_law_485 : decode cL_law 485 = .ok (.aload_n 0, 1) := dk_42 (dk_at dksL_law_14 5 rfl rfl)
theorem dL_law_486 : decode cL_law 486 = .ok (.iload 5, 2) := dk_21 5 (dk_at dksL_law_14 6 rfl rfl)
theorem dL_law_488 : decode cL_law 488 = .ok (.iconst 1, 1) := dk_4 (dk_at dksL_law_14 8 rfl rfl)
theorem dL_law_489 : decode cL_law 489 = .ok (.iadd, 1) := dk_96 (dk_at dksL_law_14 9 rfl rfl)
theorem dL_law_490 : decode cL_law 490 = .ok (.iaload, 1) := dk_46 (dk_at dksL_law_14 10 rfl rfl)
theorem dL_law_491 : decode cL_law 491 = .ok (.invokevirtual 128, 3) := dk_182 0 128 (dk_at dksL_law_14 11 rfl rfl)
theorem dL_law_494 : decode cL_law 494 = .ok (.if_icmp .eq 1684, 3) := dk_159 6 148 (dk_at dksL_law_14 14 rfl rfl)
theorem dL_law_497 : decode cL_law 497 = .ok (.iconst 0, 1) := dk_3 (dk_at dksL_law_14 17 rfl rfl)
theorem dL_law_498 : decode cL_law 498 = .ok (.ireturn, 1) := dk_172 (dk_at dksL_law_14 18 rfl rfl)
theorem dL_law_499 : decode cL_law 499 = .ok (.aload_n 1, 1) := dk_43 (dk_at dksL_law_14 19 rfl rfl)
theorem dL_law_500 : decode cL_law 500 = .ok (.aload_n 0, 1) := dk_42 (dk_at dksL_law_14 20 rfl rfl)
theorem dL_law_501 : decode cL_law 501 = .ok (.iload 5, 2) := dk_21 5 (dk_at dksL_law_14 21 rfl rfl)
theorem dL_law_503 : decode cL_law 503 = .ok (.iconst 1, 1) := dk_4 (dk_at dksL_law_14 23 rfl rfl)
theorem dL_law_504 : decode cL_law 504 = .ok (.iadd, 1) := dk_96 (dk_at dksL_law_15 0 rfl rfl)
theorem dL_law_505 : decode cL_law 505 = .ok (.iaload, 1) := dk_46 (dk_at dksL_law_15 1 rfl rfl)
theorem dL_law_506 : decode cL_law 506 = .ok (.aload_n 0, 1) := dk_42 (dk_at dksL_law_15 2 rfl rfl)
theorem dL_law_507 : decode cL_law 507 = .ok (.iload 5, 2) := dk_21 5 (dk_at dksL_law_15 3 rfl rfl)
theorem dL_law_509 : decode cL_law 509 = .ok (.iconst 2, 1) := dk_5 (dk_at dksL_law_15 5 rfl rfl)
theorem dL_law_510 : decode cL_law 510 = .ok (.iadd, 1) := dk_96 (dk_at dksL_law_15 6 rfl rfl)
theorem dL_law_511 : decode cL_law 511 = .ok (.iaload, 1) := dk_46 (dk_at dksL_law_15 7 rfl rfl)
theorem dL_law_512 : decode cL_law 512 = .ok (.aload_n 3, 1) := dk_45 (dk_at dksL_law_15 8 rfl rfl)
theorem dL_law_513 : decode cL_law 513 = .ok (.invokestatic 129, 3) := dk_184 0 129 (dk_at dksL_law_15 9 rfl rfl)
theorem dL_law_516 : decode cL_law 516 = .ok (.istore 6, 2) := dk_54 6 (dk_at dksL_law_15 12 rfl rfl)
theorem dL_law_518 : decode cL_law 518 = .ok (.aload_n 2, 1) := dk_44 (dk_at dksL_law_15 14 rfl rfl)
theorem dL_law_519 : decode cL_law 519 = .ok (.aload_n 0, 1) := dk_42 (dk_at dksL_law_15 15 rfl rfl)
theorem dL_law_520 : decode cL_law 520 = .ok (.iload 5, 2) := dk_21 5 (dk_at dksL_law_15 16 rfl rfl)
theorem dL_law_522 : decode cL_law 522 = .ok (.iconst 1, 1) := dk_4 (dk_at dksL_law_15 18 rfl rfl)
theorem dL_law_523 : decode cL_law 523 = .ok (.iadd, 1) := dk_96 (dk_at dksL_law_15 19 rfl rfl)
theorem dL_law_524 : decode cL_law 524 = .ok (.iaload, 1) := dk_46 (dk_at dksL_law_15 20 rfl rfl)
theorem dL_law_525 : decode cL_law 525 = .ok (.aload_n 0, 1) := dk_42 (dk_at dksL_law_15 21 rfl rfl)
theorem dL_law_526 : decode cL_law 526 = .ok (.iload 5, 2) := dk_21 5 (dk_at dksL_law_15 22 rfl rfl)
theorem dL_law_528 : decode cL_law 528 = .ok (.iconst 2, 1) := dk_5 (dk_at dksL_law_16 0 rfl rfl)
theorem dL_law_529 : decode cL_law 529 = .ok (.iadd, 1) := dk_96 (dk_at dksL_law_16 1 rfl rfl)
theorem dL_law_530 : decode cL_law 530 = .ok (.iaload, 1) := dk_46 (dk_at dksL_law_16 2 rfl rfl)
theorem dL_law_531 : decode cL_law 531 = .ok (.invokevirtual 132, 3) := dk_182 0 132 (dk_at dksL_law_16 3 rfl rfl)
theorem dL_law_534 : decode cL_law 534 = .ok (.istore 7, 2) := dk_54 7 (dk_at dksL_law_16 6 rfl rfl)
theorem dL_law_536 : decode cL_law 536 = .ok (.aload_n 2, 1) := dk_44 (dk_at dksL_law_16 8 rfl rfl)
theorem dL_law_537 : decode cL_law 537 = .ok (.invokevirtual 111, 3) := dk_182 0 111 (dk_at dksL_law_16 9 rfl rfl)
theorem dL_law_540 : decode cL_law 540 = .ok (.iload 6, 2) := dk_21 6 (dk_at dksL_law_16 12 rfl rfl)
theorem dL_law_542 : decode cL_law 542 = .ok (.if_icmp .eq 5, 3) := dk_159 0 5 (dk_at dksL_law_16 14 rfl rfl)
theorem dL_law_545 : decode cL_law 545 = .ok (.iconst 0, 1) := dk_3 (dk_at dksL_law_16 17 rfl rfl)
theorem dL_law_546 : decode cL_law 546 = .ok (.ireturn, 1) := dk_172 (dk_at dksL_law_16 18 rfl rfl)
theorem dL_law_547 : decode cL_law 547 = .ok (.iload 6, 2) := dk_21 6 (dk_at dksL_law_16 19 rfl rfl)
theorem dL_law_549 : decode cL_law 549 = .ok (.ifCond .ne 15, 3) := dk_154 0 15 (dk_at dksL_law_16 21 rfl rfl)
theorem dL_law_552 : decode cL_law 552 = .ok (.aload_n 3, 1) := dk_45 (dk_at dksL_law_17 0 rfl rfl)
theorem dL_law_553 : decode cL_law 553 = .ok (.iconst 0, 1) := dk_3 (dk_at dksL_law_17 1 rfl rfl)
theorem dL_law_554 : decode cL_law 554 = .ok (.laload, 1) := dk_47 (dk_at dksL_law_17 2 rfl rfl)
theorem dL_law_555 : decode cL_law 555 = .ok (.iload 7, 2) := dk_21 7 (dk_at dksL_law_17 3 rfl rfl)
theorem dL_law_557 : decode cL_law 557 = .ok (.i2l, 1) := dk_133 (dk_at dksL_law_17 5 rfl rfl)
theorem dL_law_558 : decode cL_law 558 = .ok (.lcmp, 1) := dk_148 (dk_at dksL_law_17 6 rfl rfl)
theorem dL_law_559 : decode cL_law 559 = .ok (.ifCond .eq 5, 3) := dk_153 0 5 (dk_at dksL_law_17 7 rfl rfl)
theorem dL_law_562 : decode cL_law 562 = .ok (.iconst 0, 1) := dk_3 (dk_at dksL_law_17 10 rfl rfl)
theorem dL_law_563 : decode cL_law 563 = .ok (.ireturn, 1) := dk_172 (dk_at dksL_law_17 11 rfl rfl)
theorem dL_law_564 : decode cL_law 564 = .ok (.goto 1614, 3) := dk_167 6 78 (dk_at dksL_law_17 12 rfl rfl)
theorem dL_law_567 : decode cL_law 567 = .ok (.aload_n 1, 1) := dk_43 (dk_at dksL_law_17 15 rfl rfl)
theorem dL_law_568 : decode cL_law 568 = .ok (.aload_n 0, 1) := dk_42 (dk_at dksL_law_17 16 rfl rfl)
theorem dL_law_569 : decode cL_law 569 = .ok (.iload 5, 2) := dk_21 5 (dk_at dksL_law_17 17 rfl rfl)
theorem dL_law_571 : decode cL_law 571 = .ok (.iconst 1, 1) := dk_4 (dk_at dksL_law_17 19 rfl rfl)
theorem dL_law_572 : decode cL_law 572 = .ok (.iadd, 1) := dk_96 (dk_at dksL_law_17 20 rfl rfl)
theorem dL_law_573 : decode cL_law 573 = .ok (.iaload, 1) := dk_46 (dk_at dksL_law_17 21 rfl rfl)
theorem dL_law_574 : decode cL_law 574 = .ok (.aload_n 0, 1) := dk_42 (dk_at dksL_law_17 22 rfl rfl)
theorem dL_law_575 : decode cL_law 575 = .ok (.iload 5, 2) := dk_21 5 (dk_at dksL_law_18 0 rfl rfl)
theorem dL_law_577 : decode cL_law 577 = .ok (.iconst 2, 1) := dk_5 (dk_at dksL_law_18 2 rfl rfl)
theorem dL_law_578 : decode cL_law 578 = .ok (.iadd, 1) := dk_96 (dk_at dksL_law_18 3 rfl rfl)
theorem dL_law_579 : decode cL_law 579 = .ok (.iaload, 1) := dk_46 (dk_at dksL_law_18 4 rfl rfl)
theorem dL_law_580 : decode cL_law 580 = .ok (.aload_n 3, 1) := dk_45 (dk_at dksL_law_18 5 rfl rfl)
theorem dL_law_581 : decode cL_law 581 = .ok (.invokestatic 133, 3) := dk_184 0 133 (dk_at dksL_law_18 6 rfl rfl)
theorem dL_law_584 : decode cL_law 584 = .ok (.istore 6, 2) := dk_54 6 (dk_at dksL_law_18 9 rfl rfl)
theorem dL_law_586 : decode cL_law 586 = .ok (.aload_n 2, 1) := dk_44 (dk_at dksL_law_18 11 rfl rfl)
theorem dL_law_587 : decode cL_law 587 = .ok (.aload_n 0, 1) := dk_42 (dk_at dksL_law_18 12 rfl rfl)
theorem dL_law_588 : decode cL_law 588 = .ok (.iload 5, 2) := dk_21 5 (dk_at dksL_law_18 13 rfl rfl)
theorem dL_law_590 : decode cL_law 590 = .ok (.iconst 1, 1) := dk_4 (dk_at dksL_law_18 15 rfl rfl)
theorem dL_law_591 : decode cL_law 591 = .ok (.iadd, 1) := dk_96 (dk_at dksL_law_18 16 rfl rfl)
theorem dL_law_592 : decode cL_law 592 = .ok (.iaload, 1) := dk_46 (dk_at dksL_law_18 17 rfl rfl)
theorem dL_law_593 : decode cL_law 593 = .ok (.aload_n 0, 1) := dk_42 (dk_at dksL_law_18 18 rfl rfl)
theorem dL_law_594 : decode cL_law 594 = .ok (.iload 5, 2) := dk_21 5 (dk_at dksL_law_18 19 rfl rfl)
theorem dL_law_596 : decode cL_law 596 = .ok (.iconst 2, 1) := dk_5 (dk_at dksL_law_18 21 rfl rfl)
theorem dL_law_597 : decode cL_law 597 = .ok (.iadd, 1) := dk_96 (dk_at dksL_law_18 22 rfl rfl)
theorem dL_law_598 : decode cL_law 598 = .ok (.iaload, 1) := dk_46 (dk_at dksL_law_18 23 rfl rfl)
theorem dL_law_599 : decode cL_law 599 = .ok (.invokevirtual 135, 3) := dk_182 0 135 (dk_at dksL_law_19 0 rfl rfl)
theorem dL_law_602 : decode cL_law 602 = .ok (.istore 7, 2) := dk_54 7 (dk_at dksL_law_19 3 rfl rfl)
theorem dL_law_604 : decode cL_law 604 = .ok (.aload_n 2, 1) := dk_44 (dk_at dksL_law_19 5 rfl rfl)
theorem dL_law_605 : decode cL_law 605 = .ok (.invokevirtual 111, 3) := dk_182 0 111 (dk_at dksL_law_19 6 rfl rfl)
theorem dL_law_608 : decode cL_law 608 = .ok (.iload 6, 2) := dk_21 6 (dk_at dksL_law_19 9 rfl rfl)
theorem dL_law_610 : decode cL_law 610 = .ok (.if_icmp .eq 5, 3) := dk_159 0 5 (dk_at dksL_law_19 11 rfl rfl)
theorem dL_law_613 : decode cL_law 613 = .ok (.iconst 0, 1) := dk_3 (dk_at dksL_law_19 14 rfl rfl)
theorem dL_law_614 : decode cL_law 614 = .ok (.ireturn, 1) := dk_172 (dk_at dksL_law_19 15 rfl rfl)
theorem dL_law_615 : decode cL_law 615 = .ok (.iload 6, 2) := dk_21 6 (dk_at dksL_law_19 16 rfl rfl)
theorem dL_law_617 : decode cL_law 617 = .ok (.ifCond .ne 15, 3) := dk_154 0 15 (dk_at dksL_law_19 18 rfl rfl)
theorem dL_law_620 : decode cL_law 620 = .ok (.aload_n 3, 1) := dk_45 (dk_at dksL_law_19 21 rfl rfl)
theorem dL_law_621 : decode cL_law 621 = .ok (.iconst 0, 1) := dk_3 (dk_at dksL_law_19 22 rfl rfl)
theorem dL_law_622 : decode cL_law 622 = .ok (.laload, 1) := dk_47 (dk_at dksL_law_19 23 rfl rfl)
theorem dL_law_623 : decode cL_law 623 = .ok (.iload 7, 2) := dk_21 7 (dk_at dksL_law_20 0 rfl rfl)
theorem dL_law_625 : decode cL_law 625 = .ok (.i2l, 1) := dk_133 (dk_at dksL_law_20 2 rfl rfl)
theorem dL_law_626 : decode cL_law 626 = .ok (.lcmp, 1) := dk_148 (dk_at dksL_law_20 3 rfl rfl)
theorem dL_law_627 : decode cL_law 627 = .ok (.ifCond .eq 5, 3) := dk_153 0 5 (dk_at dksL_law_20 4 rfl rfl)
theorem dL_law_630 : decode cL_law 630 = .ok (.iconst 0, 1) := dk_3 (dk_at dksL_law_20 7 rfl rfl)
theorem dL_law_631 : decode cL_law 631 = .ok (.ireturn, 1) := dk_172 (dk_at dksL_law_20 8 rfl rfl)
theorem dL_law_632 : decode cL_law 632 = .ok (.goto 1546, 3) := dk_167 6 10 (dk_at dksL_law_20 9 rfl rfl)
theorem dL_law_635 : decode cL_law 635 = .ok (.aload_n 1, 1) := dk_43 (dk_at dksL_law_20 12 rfl rfl)
theorem dL_law_636 : decode cL_law 636 = .ok (.aload_n 0, 1) := dk_42 (dk_at dksL_law_20 13 rfl rfl)
theorem dL_law_637 : decode cL_law 637 = .ok (.iload 5, 2) := dk_21 5 (dk_at dksL_law_20 14 rfl rfl)
theorem dL_law_639 : decode cL_law 639 = .ok (.iconst 1, 1) := dk_4 (dk_at dksL_law_20 16 rfl rfl)
theorem dL_law_640 : decode cL_law 640 = .ok (.iadd, 1) := dk_96 (dk_at dksL_law_20 17 rfl rfl)
theorem dL_law_641 : decode cL_law 641 = .ok (.iaload, 1) := dk_46 (dk_at dksL_law_20 18 rfl rfl)
theorem dL_law_642 : decode cL_law 642 = .ok (.aload_n 0, 1) := dk_42 (dk_at dksL_law_20 19 rfl rfl)
theorem dL_law_643 : decode cL_law 643 = .ok (.iload 5, 2) := dk_21 5 (dk_at dksL_law_20 20 rfl rfl)
theorem dL_law_645 : decode cL_law 645 = .ok (.iconst 2, 1) := dk_5 (dk_at dksL_law_20 22 rfl rfl)
theorem dL_law_646 : decode cL_law 646 = .ok (.iadd, 1) := dk_96 (dk_at dksL_law_20 23 rfl rfl)
theorem dL_law_647 : decode cL_law 647 = .ok (.iaload, 1) := dk_46 (dk_at dksL_law_21 0 rfl rfl)
theorem dL_law_648 : decode cL_law 648 = .ok (.aload_n 0, 1) := dk_42 (dk_at dksL_law_21 1 rfl rfl)
theorem dL_law_649 : decode cL_law 649 = .ok (.iload 5, 2) := dk_21 5 (dk_at dksL_law_21 2 rfl rfl)
theorem dL_law_651 : decode cL_law 651 = .ok (.iconst 3, 1) := dk_6 (dk_at dksL_law_21 4 rfl rfl)
theorem dL_law_652 : decode cL_law 652 = .ok (.iadd, 1) := dk_96 (dk_at dksL_law_21 5 rfl rfl)
theorem dL_law_653 : decode cL_law 653 = .ok (.iaload, 1) := dk_46 (dk_at dksL_law_21 6 rfl rfl)
theorem dL_law_654 : decode cL_law 654 = .ok (.ifCond .eq 7, 3) := dk_153 0 7 (dk_at dksL_law_21 7 rfl rfl)
theorem dL_law_657 : decode cL_law 657 = .ok (.iconst 1, 1) := dk_4 (dk_at dksL_law_21 10 rfl rfl)
theorem dL_law_658 : decode cL_law 658 = .ok (.goto 4, 3) := dk_167 0 4 (dk_at dksL_law_21 11 rfl rfl)
theorem dL_law_661 : decode cL_law 661 = .ok (.iconst 0, 1) := dk_3 (dk_at dksL_law_21 14 rfl rfl)
theorem dL_law_662 : decode cL_law 662 = .ok (.aload_n 0, 1) := dk_42 (dk_at dksL_law_21 15 rfl rfl)
theorem dL_law_663 : decode cL_law 663 = .ok (.iload 5, 2) := dk_21 5 (dk_at dksL_law_21 16 rfl rfl)
theorem dL_law_665 : decode cL_law 665 = .ok (.iconst 4, 1) := dk_7 (dk_at dksL_law_21 18 rfl rfl)
theorem dL_law_666 : decode cL_law 666 = .ok (.iadd, 1) := dk_96 (dk_at dksL_law_21 19 rfl rfl)
theorem dL_law_667 : decode cL_law 667 = .ok (.iaload, 1) := dk_46 (dk_at dksL_law_21 20 rfl rfl)
theorem dL_law_668 : decode cL_law 668 = .ok (.aload_n 3, 1) := dk_45 (dk_at dksL_law_21 21 rfl rfl)
theorem dL_law_669 : decode cL_law 669 = .ok (.invokestatic 136, 3) := dk_184 0 136 (dk_at dksL_law_22 0 rfl rfl)
theorem dL_law_672 : decode cL_law 672 = .ok (.istore 6, 2) := dk_54 6 (dk_at dksL_law_22 3 rfl rfl)
theorem dL_law_674 : decode cL_law 674 = .ok (.aload_n 2, 1) := dk_44 (dk_at dksL_law_22 5 rfl rfl)
theorem dL_law_675 : decode cL_law 675 = .ok (.aload_n 0, 1) := dk_42 (dk_at dksL_law_22 6 rfl rfl)
theorem dL_law_676 : decode cL_law 676 = .ok (.iload 5, 2) := dk_21 5 (dk_at dksL_law_22 7 rfl rfl)
theorem dL_law_678 : decode cL_law 678 = .ok (.iconst 1, 1) := dk_4 (dk_at dksL_law_22 9 rfl rfl)
theorem dL_law_679 : decode cL_law 679 = .ok (.iadd, 1) := dk_96 (dk_at dksL_law_22 10 rfl rfl)
theorem dL_law_680 : decode cL_law 680 = .ok (.iaload, 1) := dk_46 (dk_at dksL_law_22 11 rfl rfl)
theorem dL_law_681 : decode cL_law 681 = .ok (.aload_n 0, 1) := dk_42 (dk_at dksL_law_22 12 rfl rfl)
theorem dL_law_682 : decode cL_law 682 = .ok (.iload 5, 2) := dk_21 5 (dk_at dksL_law_22 13 rfl rfl)
theorem dL_law_684 : decode cL_law 684 = .ok (.iconst 2, 1) := dk_5 (dk_at dksL_law_22 15 rfl rfl)
theorem dL_law_685 : decode cL_law 685 = .ok (.iadd, 1) := dk_96 (dk_at dksL_law_22 16 rfl rfl)
theorem dL_law_686 : decode cL_law 686 = .ok (.iaload, 1) := dk_46 (dk_at dksL_law_22 17 rfl rfl)
theorem dL_law_687 : decode cL_law 687 = .ok (.aload_n 0, 1) := dk_42 (dk_at dksL_law_22 18 rfl rfl)
theorem dL_law_688 : decode cL_law 688 = .ok (.iload 5, 2) := dk_21 5 (dk_at dksL_law_22 19 rfl rfl)
theorem dL_law_690 : decode cL_law 690 = .ok (.iconst 3, 1) := dk_6 (dk_at dksL_law_22 21 rfl rfl)
theorem dL_law_691 : decode cL_law 691 = .ok (.iadd, 1) := dk_96 (dk_at dksL_law_22 22 rfl rfl)
theorem dL_law_692 : decode cL_law 692 = .ok (.iaload, 1) := dk_46 (dk_at dksL_law_22 23 rfl rfl)
theorem dL_law_693 : decode cL_law 693 = .ok (.ifCond .eq 7, 3) := dk_153 0 7 (dk_at dksL_law_23 0 rfl rfl)
theorem dL_law_696 : decode cL_law 696 = .ok (.iconst 1, 1) := dk_4 (dk_at dksL_law_23 3 rfl rfl)
theorem dL_law_697 : decode cL_law 697 = .ok (.goto 4, 3) := dk_167 0 4 (dk_at dksL_law_23 4 rfl rfl)
theorem dL_law_700 : decode cL_law 700 = .ok (.iconst 0, 1) := dk_3 (dk_at dksL_law_23 7 rfl rfl)
theorem dL_law_701 : decode cL_law 701 = .ok (.aload_n 0, 1) := dk_42 (dk_at dksL_law_23 8 rfl rfl)
theorem dL_law_702 : decode cL_law 702 = .ok (.iload 5, 2) := dk_21 5 (dk_at dksL_law_23 9 rfl rfl)
theorem dL_law_704 : decode cL_law 704 = .ok (.iconst 4, 1) := dk_7 (dk_at dksL_law_23 11 rfl rfl)
theorem dL_law_705 : decode cL_law 705 = .ok (.iadd, 1) := dk_96 (dk_at dksL_law_23 12 rfl rfl)
theorem dL_law_706 : decode cL_law 706 = .ok (.iaload, 1) := dk_46 (dk_at dksL_law_23 13 rfl rfl)
theorem dL_law_707 : decode cL_law 707 = .ok (.invokevirtual 139, 3) := dk_182 0 139 (dk_at dksL_law_23 14 rfl rfl)
theorem dL_law_710 : decode cL_law 710 = .ok (.istore 7, 2) := dk_54 7 (dk_at dksL_law_23 17 rfl rfl)
theorem dL_law_712 : decode cL_law 712 = .ok (.aload_n 2, 1) := dk_44 (dk_at dksL_law_23 19 rfl rfl)
theorem dL_law_713 : decode cL_law 713 = .ok (.invokevirtual 111, 3) := dk_182 0 111 (dk_at dksL_law_23 20 rfl rfl)
theorem dL_law_716 : decode cL_law 716 = .ok (.iload 6, 2) := dk_21 6 (dk_at dksL_law_24 0 rfl rfl)
theorem dL_law_718 : decode cL_law 718 = .ok (.if_icmp .eq 5, 3) := dk_159 0 5 (dk_at dksL_law_24 2 rfl rfl)
theorem dL_law_721 : decode cL_law 721 = .ok (.iconst 0, 1) := dk_3 (dk_at dksL_law_24 5 rfl rfl)
theorem dL_law_722 : decode cL_law 722 = .ok (.ireturn, 1) := dk_172 (dk_at dksL_law_24 6 rfl rfl)
theorem dL_law_723 : decode cL_law 723 = .ok (.iload 6, 2) := dk_21 6 (dk_at dksL_law_24 7 rfl rfl)
theorem dL_law_725 : decode cL_law 725 = .ok (.ifCond .ne 15, 3) := dk_154 0 15 (dk_at dksL_law_24 9 rfl rfl)
theorem dL_law_728 : decode cL_law 728 = .ok (.aload_n 3, 1) := dk_45 (dk_at dksL_law_24 12 rfl rfl)
theorem dL_law_729 : decode cL_law 729 = .ok (.iconst 0, 1) := dk_3 (dk_at dksL_law_24 13 rfl rfl)
theorem dL_law_730 : decode cL_law 730 = .ok (.laload, 1) := dk_47 (dk_at dksL_law_24 14 rfl rfl)
theorem dL_law_731 : decode cL_law 731 = .ok (.iload 7, 2) := dk_21 7 (dk_at dksL_law_24 15 rfl rfl)
theorem dL_law_733 : decode cL_law 733 = .ok (.i2l, 1) := dk_133 (dk_at dksL_law_24 17 rfl rfl)
theorem dL_law_734 : decode cL_law 734 = .ok (.lcmp, 1) := dk_148 (dk_at dksL_law_24 18 rfl rfl)
theorem dL_law_735 : decode cL_law 735 = .ok (.ifCond .eq 5, 3) := dk_153 0 5 (dk_at dksL_law_24 19 rfl rfl)
theorem dL_law_738 : decode cL_law 738 = .ok (.iconst 0, 1) := dk_3 (dk_at dksL_law_24 22 rfl rfl)
theorem dL_law_739 : decode cL_law 739 = .ok (.ireturn, 1) := dk_172 (dk_at dksL_law_24 23 rfl rfl)
theorem dL_law_740 : decode cL_law 740 = .ok (.goto 1438, 3) := dk_167 5 158 (dk_at dksL_law_25 0 rfl rfl)
theorem dL_law_743 : decode cL_law 743 = .ok (.aload_n 1, 1) := dk_43 (dk_at dksL_law_25 3 rfl rfl)
theorem dL_law_744 : decode cL_law 744 = .ok (.aload_n 0, 1) := dk_42 (dk_at dksL_law_25 4 rfl rfl)
theorem dL_law_745 : decode cL_law 745 = .ok (.iload 5, 2) := dk_21 5 (dk_at dksL_law_25 5 rfl rfl)
theorem dL_law_747 : decode cL_law 747 = .ok (.iconst 1, 1) := dk_4 (dk_at dksL_law_25 7 rfl rfl)
theorem dL_law_748 : decode cL_law 748 = .ok (.iadd, 1) := dk_96 (dk_at dksL_law_25 8 rfl rfl)
theorem dL_law_749 : decode cL_law 749 = .ok (.iaload, 1) := dk_46 (dk_at dksL_law_25 9 rfl rfl)
theorem dL_law_750 : decode cL_law 750 = .ok (.aload_n 0, 1) := dk_42 (dk_at dksL_law_25 10 rfl rfl)
theorem dL_law_751 : decode cL_law 751 = .ok (.iload 5, 2) := dk_21 5 (dk_at dksL_law_25 11 rfl rfl)
theorem dL_law_753 : decode cL_law 753 = .ok (.iconst 2, 1) := dk_5 (dk_at dksL_law_25 13 rfl rfl)
theorem dL_law_754 : decode cL_law 754 = .ok (.iadd, 1) := dk_96 (dk_at dksL_law_25 14 rfl rfl)
theorem dL_law_755 : decode cL_law 755 = .ok (.iaload, 1) := dk_46 (dk_at dksL_law_25 15 rfl rfl)
theorem dL_law_756 : decode cL_law 756 = .ok (.ifCond .eq 7, 3) := dk_153 0 7 (dk_at dksL_law_25 16 rfl rfl)
theorem dL_law_759 : decode cL_law 759 = .ok (.iconst 1, 1) := dk_4 (dk_at dksL_law_25 19 rfl rfl)
theorem dL_law_760 : decode cL_law 760 = .ok (.goto 4, 3) := dk_167 0 4 (dk_at dksL_law_25 20 rfl rfl)
theorem dL_law_763 : decode cL_law 763 = .ok (.iconst 0, 1) := dk_3 (dk_at dksL_law_25 23 rfl rfl)
theorem dL_law_764 : decode cL_law 764 = .ok (.aload_n 0, 1) := dk_42 (dk_at dksL_law_26 0 rfl rfl)
theorem dL_law_765 : decode cL_law 765 = .ok (.iload 5, 2) := dk_21 5 (dk_at dksL_law_26 1 rfl rfl)
theorem dL_law_767 : decode cL_law 767 = .ok (.iconst 3, 1) := dk_6 (dk_at dksL_law_26 3 rfl rfl)
theorem dL_law_768 : decode cL_law 768 = .ok (.iadd, 1) := dk_96 (dk_at dksL_law_26 4 rfl rfl)
theorem dL_law_769 : decode cL_law 769 = .ok (.iaload, 1) := dk_46 (dk_at dksL_law_26 5 rfl rfl)
theorem dL_law_770 : decode cL_law 770 = .ok (.aload_n 3, 1) := dk_45 (dk_at dksL_law_26 6 rfl rfl)
theorem dL_law_771 : decode cL_law 771 = .ok (.invokestatic 140, 3) := dk_184 0 140 (dk_at dksL_law_26 7 rfl rfl)
theorem dL_law_774 : decode cL_law 774 = .ok (.istore 6, 2) := dk_54 6 (dk_at dksL_law_26 10 rfl rfl)
theorem dL_law_776 : decode cL_law 776 = .ok (.aload_n 2, 1) := dk_44 (dk_at dksL_law_26 12 rfl rfl)
theorem dL_law_777 : decode cL_law 777 = .ok (.aload_n 0, 1) := dk_42 (dk_at dksL_law_26 13 rfl rfl)
theorem dL_law_778 : decode cL_law 778 = .ok (.iload 5, 2) := dk_21 5 (dk_at dksL_law_26 14 rfl rfl)
theorem dL_law_780 : decode cL_law 780 = .ok (.iconst 1, 1) := dk_4 (dk_at dksL_law_26 16 rfl rfl)
theorem dL_law_781 : decode cL_law 781 = .ok (.iadd, 1) := dk_96 (dk_at dksL_law_26 17 rfl rfl)
theorem dL_law_782 : decode cL_law 782 = .ok (.iaload, 1) := dk_46 (dk_at dksL_law_26 18 rfl rfl)
theorem dL_law_783 : decode cL_law 783 = .ok (.aload_n 0, 1) := dk_42 (dk_at dksL_law_26 19 rfl rfl)
theorem dL_law_784 : decode cL_law 784 = .ok (.iload 5, 2) := dk_21 5 (dk_at dksL_law_26 20 rfl rfl)
theorem dL_law_786 : decode cL_law 786 = .ok (.iconst 2, 1) := dk_5 (dk_at dksL_law_26 22 rfl rfl)
theorem dL_law_787 : decode cL_law 787 = .ok (.iadd, 1) := dk_96 (dk_at dksL_law_26 23 rfl rfl)
theorem dL_law_788 : decode cL_law 788 = .ok (.iaload, 1) := dk_46 (dk_at dksL_law_27 0 rfl rfl)
theorem dL_law_789 : decode cL_law 789 = .ok (.ifCond .eq 7, 3) := dk_153 0 7 (dk_at dksL_law_27 1 rfl rfl)
theorem dL_law_792 : decode cL_law 792 = .ok (.iconst 1, 1) := dk_4 (dk_at dksL_law_27 4 rfl rfl)
theorem dL_law_793 : decode cL_law 793 = .ok (.goto 4, 3) := dk_167 0 4 (dk_at dksL_law_27 5 rfl rfl)
theorem dL_law_796 : decode cL_law 796 = .ok (.iconst 0, 1) := dk_3 (dk_at dksL_law_27 8 rfl rfl)
theorem dL_law_797 : decode cL_law 797 = .ok (.aload_n 0, 1) := dk_42 (dk_at dksL_law_27 9 rfl rfl)
theorem dL_law_798 : decode cL_law 798 = .ok (.iload 5, 2) := dk_21 5 (dk_at dksL_law_27 10 rfl rfl)
theorem dL_law_800 : decode cL_law 800 = .ok (.iconst 3, 1) := dk_6 (dk_at dksL_law_27 12 rfl rfl)
theorem dL_law_801 : decode cL_law 801 = .ok (.iadd, 1) := dk_96 (dk_at dksL_law_27 13 rfl rfl)
theorem dL_law_802 : decode cL_law 802 = .ok (.iaload, 1) := dk_46 (dk_at dksL_law_27 14 rfl rfl)
theorem dL_law_803 : decode cL_law 803 = .ok (.invokevirtual 143, 3) := dk_182 0 143 (dk_at dksL_law_27 15 rfl rfl)
theorem dL_law_806 : decode cL_law 806 = .ok (.istore 7, 2) := dk_54 7 (dk_at dksL_law_27 18 rfl rfl)
theorem dL_law_808 : decode cL_law 808 = .ok (.aload_n 2, 1) := dk_44 (dk_at dksL_law_27 20 rfl rfl)
theorem dL_law_809 : decode cL_law 809 = .ok (.invokevirtual 111, 3) := dk_182 0 111 (dk_at dksL_law_27 21 rfl rfl)
theorem dL_law_812 : decode cL_law 812 = .ok (.iload 6, 2) := dk_21 6 (dk_at dksL_law_28 0 rfl rfl)
theorem dL_law_814 : decode cL_law 814 = .ok (.if_icmp .eq 5, 3) := dk_159 0 5 (dk_at dksL_law_28 2 rfl rfl)
theorem dL_law_817 : decode cL_law 817 = .ok (.iconst 0, 1) := dk_3 (dk_at dksL_law_28 5 rfl rfl)
theorem dL_law_818 : decode cL_law 818 = .ok (.ireturn, 1) := dk_172 (dk_at dksL_law_28 6 rfl rfl)
theorem dL_law_819 : decode cL_law 819 = .ok (.iload 6, 2) := dk_21 6 (dk_at dksL_law_28 7 rfl rfl)
theorem dL_law_821 : decode cL_law 821 = .ok (.ifCond .ne 15, 3) := dk_154 0 15 (dk_at dksL_law_28 9 rfl rfl)
theorem dL_law_824 : decode cL_law 824 = .ok (.aload_n 3, 1) := dk_45 (dk_at dksL_law_28 12 rfl rfl)
theorem dL_law_825 : decode cL_law 825 = .ok (.iconst 0, 1) := dk_3 (dk_at dksL_law_28 13 rfl rfl)
theorem dL_law_826 : decode cL_law 826 = .ok (.laload, 1) := dk_47 (dk_at dksL_law_28 14 rfl rfl)
theorem dL_law_827 : decode cL_law 827 = .ok (.iload 7, 2) := dk_21 7 (dk_at dksL_law_28 15 rfl rfl)
theorem dL_law_829 : decode cL_law 829 = .ok (.i2l, 1) := dk_133 (dk_at dksL_law_28 17 rfl rfl)
theorem dL_law_830 : decode cL_law 830 = .ok (.lcmp, 1) := dk_148 (dk_at dksL_law_28 18 rfl rfl)
theorem dL_law_831 : decode cL_law 831 = .ok (.ifCond .eq 5, 3) := dk_153 0 5 (dk_at dksL_law_28 19 rfl rfl)
theorem dL_law_834 : decode cL_law 834 = .ok (.iconst 0, 1) := dk_3 (dk_at dksL_law_28 22 rfl rfl)
theorem dL_law_835 : decode cL_law 835 = .ok (.ireturn, 1) := dk_172 (dk_at dksL_law_28 23 rfl rfl)
theorem dL_law_836 : decode cL_law 836 = .ok (.goto 1342, 3) := dk_167 5 62 (dk_at dksL_law_29 0 rfl rfl)
theorem dL_law_839 : decode cL_law 839 = .ok (.aload_n 1, 1) := dk_43 (dk_at dksL_law_29 3 rfl rfl)
theorem dL_law_840 : decode cL_law 840 = .ok (.aload_n 0, 1) := dk_42 (dk_at dksL_law_29 4 rfl rfl)
theorem dL_law_841 : decode cL_law 841 = .ok (.iload 5, 2) := dk_21 5 (dk_at dksL_law_29 5 rfl rfl)
theorem dL_law_843 : decode cL_law 843 = .ok (.iconst 1, 1) := dk_4 (dk_at dksL_law_29 7 rfl rfl)
theorem dL_law_844 : decode cL_law 844 = .ok (.iadd, 1) := dk_96 (dk_at dksL_law_29 8 rfl rfl)
theorem dL_law_845 : decode cL_law 845 = .ok (.iaload, 1) := dk_46 (dk_at dksL_law_29 9 rfl rfl)
theorem dL_law_846 : decode cL_law 846 = .ok (.aload_n 0, 1) := dk_42 (dk_at dksL_law_29 10 rfl rfl)
theorem dL_law_847 : decode cL_law 847 = .ok (.iload 5, 2) := dk_21 5 (dk_at dksL_law_29 11 rfl rfl)
theorem dL_law_849 : decode cL_law 849 = .ok (.iconst 2, 1) := dk_5 (dk_at dksL_law_29 13 rfl rfl)
theorem dL_law_850 : decode cL_law 850 = .ok (.iadd, 1) := dk_96 (dk_at dksL_law_29 14 rfl rfl)
theorem dL_law_851 : decode cL_law 851 = .ok (.iaload, 1) := dk_46 (dk_at dksL_law_29 15 rfl rfl)
theorem dL_law_852 : decode cL_law 852 = .ok (.aload_n 3, 1) := dk_45 (dk_at dksL_law_29 16 rfl rfl)
theorem dL_law_853 : decode cL_law 853 = .ok (.invokestatic 144, 3) := dk_184 0 144 (dk_at dksL_law_29 17 rfl rfl)
theorem dL_law_856 : decode cL_law 856 = .ok (.istore 6, 2) := dk_54 6 (dk_at dksL_law_29 20 rfl rfl)
theorem dL_law_858 : decode cL_law 858 = .ok (.aload_n 2, 1) := dk_44 (dk_at dksL_law_29 22 rfl rfl)
theorem dL_law_859 : decode cL_law 859 = .ok (.aload_n 0, 1) := dk_42 (dk_at dksL_law_29 23 rfl rfl)
theorem dL_law_860 : decode cL_law 860 = .ok (.iload 5, 2) := dk_21 5 (dk_at dksL_law_30 0 rfl rfl)
theorem dL_law_862 : decode cL_law 862 = .ok (.iconst 1, 1) := dk_4 (dk_at dksL_law_30 2 rfl rfl)
theorem dL_law_863 : decode cL_law 863 = .ok (.iadd, 1) := dk_96 (dk_at dksL_law_30 3 rfl rfl)
theorem dL_law_864 : decode cL_law 864 = .ok (.iaload, 1) := dk_46 (dk_at dksL_law_30 4 rfl rfl)
theorem dL_law_865 : decode cL_law 865 = .ok (.aload_n 0, 1) := dk_42 (dk_at dksL_law_30 5 rfl rfl)
theorem dL_law_866 : decode cL_law 866 = .ok (.iload 5, 2) := dk_21 5 (dk_at dksL_law_30 6 rfl rfl)
theorem dL_law_868 : decode cL_law 868 = .ok (.iconst 2, 1) := dk_5 (dk_at dksL_law_30 8 rfl rfl)
theorem dL_law_869 : decode cL_law 869 = .ok (.iadd, 1) := dk_96 (dk_at dksL_law_30 9 rfl rfl)
theorem dL_law_870 : decode cL_law 870 = .ok (.iaload, 1) := dk_46 (dk_at dksL_law_30 10 rfl rfl)
theorem dL_law_871 : decode cL_law 871 = .ok (.invokevirtual 146, 3) := dk_182 0 146 (dk_at dksL_law_30 11 rfl rfl)
theorem dL_law_874 : decode cL_law 874 = .ok (.istore 7, 2) := dk_54 7 (dk_at dksL_law_30 14 rfl rfl)
theorem dL_law_876 : decode cL_law 876 = .ok (.aload_n 2, 1) := dk_44 (dk_at dksL_law_30 16 rfl rfl)
theorem dL_law_877 : decode cL_law 877 = .ok (.invokevirtual 111, 3) := dk_182 0 111 (dk_at dksL_law_30 17 rfl rfl)
theorem dL_law_880 : decode cL_law 880 = .ok (.iload 6, 2) := dk_21 6 (dk_at dksL_law_30 20 rfl rfl)
theorem dL_law_882 : decode cL_law 882 = .ok (.if_icmp .eq 5, 3) := dk_159 0 5 (dk_at dksL_law_31 0 rfl rfl)
theorem dL_law_885 : decode cL_law 885 = .ok (.iconst 0, 1) := dk_3 (dk_at dksL_law_31 3 rfl rfl)
theorem dL_law_886 : decode cL_law 886 = .ok (.ireturn, 1) := dk_172 (dk_at dksL_law_31 4 rfl rfl)
theorem dL_law_887 : decode cL_law 887 = .ok (.iload 6, 2) := dk_21 6 (dk_at dksL_law_31 5 rfl rfl)
theorem dL_law_889 : decode cL_law 889 = .ok (.ifCond .ne 15, 3) := dk_154 0 15 (dk_at dksL_law_31 7 rfl rfl)
theorem dL_law_892 : decode cL_law 892 = .ok (.aload_n 3, 1) := dk_45 (dk_at dksL_law_31 10 rfl rfl)
theorem dL_law_893 : decode cL_law 893 = .ok (.iconst 0, 1) := dk_3 (dk_at dksL_law_31 11 rfl rfl)
theorem dL_law_894 : decode cL_law 894 = .ok (.laload, 1) := dk_47 (dk_at dksL_law_31 12 rfl rfl)
theorem dL_law_895 : decode cL_law 895 = .ok (.iload 7, 2) := dk_21 7 (dk_at dksL_law_31 13 rfl rfl)
theorem dL_law_897 : decode cL_law 897 = .ok (.i2l, 1) := dk_133 (dk_at dksL_law_31 15 rfl rfl)
theorem dL_law_898 : decode cL_law 898 = .ok (.lcmp, 1) := dk_148 (dk_at dksL_law_31 16 rfl rfl)
theorem dL_law_899 : decode cL_law 899 = .ok (.ifCond .eq 5, 3) := dk_153 0 5 (dk_at dksL_law_31 17 rfl rfl)
theorem dL_law_902 : decode cL_law 902 = .ok (.iconst 0, 1) := dk_3 (dk_at dksL_law_31 20 rfl rfl)
theorem dL_law_903 : decode cL_law 903 = .ok (.ireturn, 1) := dk_172 (dk_at dksL_law_31 21 rfl rfl)
theorem dL_law_904 : decode cL_law 904 = .ok (.goto 1274, 3) := dk_167 4 250 (dk_at dksL_law_32 0 rfl rfl)
theorem dL_law_907 : decode cL_law 907 = .ok (.aload_n 1, 1) := dk_43 (dk_at dksL_law_32 3 rfl rfl)
theorem dL_law_908 : decode cL_law 908 = .ok (.invokevirtual 147, 3) := dk_182 0 147 (dk_at dksL_law_32 4 rfl rfl)
theorem dL_law_911 : decode cL_law 911 = .ok (.aload_n 2, 1) := dk_44 (dk_at dksL_law_32 7 rfl rfl)
theorem dL_law_912 : decode cL_law 912 = .ok (.invokevirtual 150, 3) := dk_182 0 150 (dk_at dksL_law_32 8 rfl rfl)
theorem dL_law_915 : decode cL_law 915 = .ok (.if_icmp .eq 1263, 3) := dk_159 4 239 (dk_at dksL_law_32 11 rfl rfl)
theorem dL_law_918 : decode cL_law 918 = .ok (.iconst 0, 1) := dk_3 (dk_at dksL_law_32 14 rfl rfl)
theorem dL_law_919 : decode cL_law 919 = .ok (.ireturn, 1) := dk_172 (dk_at dksL_law_32 15 rfl rfl)
theorem dL_law_920 : decode cL_law 920 = .ok (.aload_n 1, 1) := dk_43 (dk_at dksL_law_32 16 rfl rfl)
theorem dL_law_921 : decode cL_law 921 = .ok (.aload_n 0, 1) := dk_42 (dk_at dksL_law_32 17 rfl rfl)
theorem dL_law_922 : decode cL_law 922 = .ok (.iload 5, 2) := dk_21 5 (dk_at dksL_law_32 18 rfl rfl)
theorem dL_law_924 : decode cL_law 924 = .ok (.iconst 1, 1) := dk_4 (dk_at dksL_law_32 20 rfl rfl)
theorem dL_law_925 : decode cL_law 925 = .ok (.iadd, 1) := dk_96 (dk_at dksL_law_32 21 rfl rfl)
theorem dL_law_926 : decode cL_law 926 = .ok (.iaload, 1) := dk_46 (dk_at dksL_law_32 22 rfl rfl)
theorem dL_law_927 : decode cL_law 927 = .ok (.aload_n 0, 1) := dk_42 (dk_at dksL_law_32 23 rfl rfl)
theorem dL_law_928 : decode cL_law 928 = .ok (.iload 5, 2) := dk_21 5 (dk_at dksL_law_33 0 rfl rfl)
theorem dL_law_930 : decode cL_law 930 = .ok (.iconst 2, 1) := dk_5 (dk_at dksL_law_33 2 rfl rfl)
theorem dL_law_931 : decode cL_law 931 = .ok (.iadd, 1) := dk_96 (dk_at dksL_law_33 3 rfl rfl)
theorem dL_law_932 : decode cL_law 932 = .ok (.iaload, 1) := dk_46 (dk_at dksL_law_33 4 rfl rfl)
theorem dL_law_933 : decode cL_law 933 = .ok (.aload_n 3, 1) := dk_45 (dk_at dksL_law_33 5 rfl rfl)
theorem dL_law_934 : decode cL_law 934 = .ok (.invokestatic 151, 3) := dk_184 0 151 (dk_at dksL_law_33 6 rfl rfl)
theorem dL_law_937 : decode cL_law 937 = .ok (.istore 6, 2) := dk_54 6 (dk_at dksL_law_33 9 rfl rfl)
theorem dL_law_939 : decode cL_law 939 = .ok (.aload_n 2, 1) := dk_44 (dk_at dksL_law_33 11 rfl rfl)
theorem dL_law_940 : decode cL_law 940 = .ok (.aload_n 0, 1) := dk_42 (dk_at dksL_law_33 12 rfl rfl)
theorem dL_law_941 : decode cL_law 941 = .ok (.iload 5, 2) := dk_21 5 (dk_at dksL_law_33 13 rfl rfl)
theorem dL_law_943 : decode cL_law 943 = .ok (.iconst 1, 1) := dk_4 (dk_at dksL_law_33 15 rfl rfl)
theorem dL_law_944 : decode cL_law 944 = .ok (.iadd, 1) := dk_96 (dk_at dksL_law_33 16 rfl rfl)
theorem dL_law_945 : decode cL_law 945 = .ok (.iaload, 1) := dk_46 (dk_at dksL_law_33 17 rfl rfl)
theorem dL_law_946 : decode cL_law 946 = .ok (.aload_n 0, 1) := dk_42 (dk_at dksL_law_33 18 rfl rfl)
theorem dL_law_947 : decode cL_law 947 = .ok (.iload 5, 2) := dk_21 5 (dk_at dksL_law_33 19 rfl rfl)
theorem dL_law_949 : decode cL_law 949 = .ok (.iconst 2, 1) := dk_5 (dk_at dksL_law_33 21 rfl rfl)
theorem dL_law_950 : decode cL_law 950 = .ok (.iadd, 1) := dk_96 (dk_at dksL_law_33 22 rfl rfl)
theorem dL_law_951 : decode cL_law 951 = .ok (.iaload, 1) := dk_46 (dk_at dksL_law_33 23 rfl rfl)
theorem dL_law_952 : decode cL_law 952 = .ok (.invokevirtual 153, 3) := dk_182 0 153 (dk_at dksL_law_34 0 rfl rfl)
theorem dL_law_955 : decode cL_law 955 = .ok (.istore 7, 2) := dk_54 7 (dk_at dksL_law_34 3 rfl rfl)
theorem dL_law_957 : decode cL_law 957 = .ok (.aload_n 2, 1) := dk_44 (dk_at dksL_law_34 5 rfl rfl)
theorem dL_law_958 : decode cL_law 958 = .ok (.invokevirtual 111, 3) := dk_182 0 111 (dk_at dksL_law_34 6 rfl rfl)
theorem dL_law_961 : decode cL_law 961 = .ok (.iload 6, 2) := dk_21 6 (dk_at dksL_law_34 9 rfl rfl)
theorem dL_law_963 : decode cL_law 963 = .ok (.if_icmp .eq 5, 3) := dk_159 0 5 (dk_at dksL_law_34 11 rfl rfl)
theorem dL_law_966 : decode cL_law 966 = .ok (.iconst 0, 1) := dk_3 (dk_at dksL_law_34 14 rfl rfl)
theorem dL_law_967 : decode cL_law 967 = .ok (.ireturn, 1) := dk_172 (dk_at dksL_law_34 15 rfl rfl)
theorem dL_law_968 : decode cL_law 968 = .ok (.iload 6, 2) := dk_21 6 (dk_at dksL_law_34 16 rfl rfl)
theorem dL_law_970 : decode cL_law 970 = .ok (.ifCond .ne 15, 3) := dk_154 0 15 (dk_at dksL_law_34 18 rfl rfl)
theorem dL_law_973 : decode cL_law 973 = .ok (.aload_n 3, 1) := dk_45 (dk_at dksL_law_34 21 rfl rfl)
theorem dL_law_974 : decode cL_law 974 = .ok (.iconst 0, 1) := dk_3 (dk_at dksL_law_34 22 rfl rfl)
theorem dL_law_975 : decode cL_law 975 = .ok (.laload, 1) := dk_47 (dk_at dksL_law_34 23 rfl rfl)
theorem dL_law_976 : decode cL_law 976 = .ok (.iload 7, 2) := dk_21 7 (dk_at dksL_law_35 0 rfl rfl)
theorem dL_law_978 : decode cL_law 978 = .ok (.i2l, 1) := dk_133 (dk_at dksL_law_35 2 rfl rfl)
theorem dL_law_979 : decode cL_law 979 = .ok (.lcmp, 1) := dk_148 (dk_at dksL_law_35 3 rfl rfl)
theorem dL_law_980 : decode cL_law 980 = .ok (.ifCond .eq 5, 3) := dk_153 0 5 (dk_at dksL_law_35 4 rfl rfl)
theorem dL_law_983 : decode cL_law 983 = .ok (.iconst 0, 1) := dk_3 (dk_at dksL_law_35 7 rfl rfl)
theorem dL_law_984 : decode cL_law 984 = .ok (.ireturn, 1) := dk_172 (dk_at dksL_law_35 8 rfl rfl)
theorem dL_law_985 : decode cL_law 985 = .ok (.goto 1193, 3) := dk_167 4 169 (dk_at dksL_law_35 9 rfl rfl)
theorem dL_law_988 : decode cL_law 988 = .ok (.aload_n 1, 1) := dk_43 (dk_at dksL_law_35 12 rfl rfl)
theorem dL_law_989 : decode cL_law 989 = .ok (.aload_n 0, 1) := dk_42 (dk_at dksL_law_35 13 rfl rfl)
theorem dL_law_990 : decode cL_law 990 = .ok (.iload 5, 2) := dk_21 5 (dk_at dksL_law_35 14 rfl rfl)
theorem dL_law_992 : decode cL_law 992 = .ok (.iconst 1, 1) := dk_4 (dk_at dksL_law_35 16 rfl rfl)
theorem dL_law_993 : decode cL_law 993 = .ok (.iadd, 1) := dk_96 (dk_at dksL_law_35 17 rfl rfl)
theorem dL_law_994 : decode cL_law 994 = .ok (.iaload, 1) := dk_46 (dk_at dksL_law_35 18 rfl rfl)
theorem dL_law_995 : decode cL_law 995 = .ok (.aload_n 0, 1) := dk_42 (dk_at dksL_law_35 19 rfl rfl)
theorem dL_law_996 : decode cL_law 996 = .ok (.iload 5, 2) := dk_21 5 (dk_at dksL_law_35 20 rfl rfl)
theorem dL_law_998 : decode cL_law 998 = .ok (.iconst 2, 1) := dk_5 (dk_at dksL_law_35 22 rfl rfl)
theorem dL_law_999 : decode cL_law 999 = .ok (.iadd, 1) := dk_96 (dk_at dksL_law_35 23 rfl rfl)
theorem dL_law_1000 : decode cL_law 1000 = .ok (.iaload, 1) := dk_46 (dk_at dksL_law_36 0 rfl rfl)
theorem dL_law_1001 : decode cL_law 1001 = .ok (.aload_n 3, 1) := dk_45 (dk_at dksL_law_36 1 rfl rfl)
theorem dL_law_1002 : decode cL_law 1002 = .ok (.invokestatic 154, 3) := dk_184 0 154 (dk_at dksL_law_36 2 rfl rfl)
theorem dL_law_1005 : decode cL_law 1005 = .ok (.istore 6, 2) := dk_54 6 (dk_at dksL_law_36 5 rfl rfl)
theorem dL_law_1007 : decode cL_law 1007 = .ok (.aload_n 2, 1) := dk_44 (dk_at dksL_law_36 7 rfl rfl)
theorem dL_law_1008 : decode cL_law 1008 = .ok (.aload_n 0, 1) := dk_42 (dk_at dksL_law_36 8 rfl rfl)
theorem dL_law_1009 : decode cL_law 1009 = .ok (.iload 5, 2) := dk_21 5 (dk_at dksL_law_36 9 rfl rfl)
theorem dL_law_1011 : decode cL_law 1011 = .ok (.iconst 1, 1) := dk_4 (dk_at dksL_law_36 11 rfl rfl)
theorem dL_law_1012 : decode cL_law 1012 = .ok (.iadd, 1) := dk_96 (dk_at dksL_law_36 12 rfl rfl)
theorem dL_law_1013 : decode cL_law 1013 = .ok (.iaload, 1) := dk_46 (dk_at dksL_law_36 13 rfl rfl)
theorem dL_law_1014 : decode cL_law 1014 = .ok (.aload_n 0, 1) := dk_42 (dk_at dksL_law_36 14 rfl rfl)
theorem dL_law_1015 : decode cL_law 1015 = .ok (.iload 5, 2) := dk_21 5 (dk_at dksL_law_36 15 rfl rfl)
theorem dL_law_1017 : decode cL_law 1017 = .ok (.iconst 2, 1) := dk_5 (dk_at dksL_law_36 17 rfl rfl)
theorem dL_law_1018 : decode cL_law 1018 = .ok (.iadd, 1) := dk_96 (dk_at dksL_law_36 18 rfl rfl)
theorem dL_law_1019 : decode cL_law 1019 = .ok (.iaload, 1) := dk_46 (dk_at dksL_law_36 19 rfl rfl)
theorem dL_law_1020 : decode cL_law 1020 = .ok (.invokevirtual 156, 3) := dk_182 0 156 (dk_at dksL_law_36 20 rfl rfl)
theorem dL_law_1023 : decode cL_law 1023 = .ok (.istore 7, 2) := dk_54 7 (dk_at dksL_law_37 0 rfl rfl)
theorem dL_law_1025 : decode cL_law 1025 = .ok (.aload_n 2, 1) := dk_44 (dk_at dksL_law_37 2 rfl rfl)
theorem dL_law_1026 : decode cL_law 1026 = .ok (.invokevirtual 111, 3) := dk_182 0 111 (dk_at dksL_law_37 3 rfl rfl)
theorem dL_law_1029 : decode cL_law 1029 = .ok (.iload 6, 2) := dk_21 6 (dk_at dksL_law_37 6 rfl rfl)
theorem dL_law_1031 : decode cL_law 1031 = .ok (.if_icmp .eq 5, 3) := dk_159 0 5 (dk_at dksL_law_37 8 rfl rfl)
theorem dL_law_1034 : decode cL_law 1034 = .ok (.iconst 0, 1) := dk_3 (dk_at dksL_law_37 11 rfl rfl)
theorem dL_law_1035 : decode cL_law 1035 = .ok (.ireturn, 1) := dk_172 (dk_at dksL_law_37 12 rfl rfl)
theorem dL_law_1036 : decode cL_law 1036 = .ok (.iload 6, 2) := dk_21 6 (dk_at dksL_law_37 13 rfl rfl)
theorem dL_law_1038 : decode cL_law 1038 = .ok (.ifCond .ne 15, 3) := dk_154 0 15 (dk_at dksL_law_37 15 rfl rfl)
theorem dL_law_1041 : decode cL_law 1041 = .ok (.aload_n 3, 1) := dk_45 (dk_at dksL_law_37 18 rfl rfl)
theorem dL_law_1042 : decode cL_law 1042 = .ok (.iconst 0, 1) := dk_3 (dk_at dksL_law_37 19 rfl rfl)
theorem dL_law_1043 : decode cL_law 1043 = .ok (.laload, 1) := dk_47 (dk_at dksL_law_37 20 rfl rfl)
theorem dL_law_1044 : decode cL_law 1044 = .ok (.iload 7, 2) := dk_21 7 (dk_at dksL_law_37 21 rfl rfl)
theorem dL_law_1046 : decode cL_law 1046 = .ok (.i2l, 1) := dk_133 (dk_at dksL_law_37 23 rfl rfl)
theorem dL_law_1047 : decode cL_law 1047 = .ok (.lcmp, 1) := dk_148 (dk_at dksL_law_38 0 rfl rfl)
theorem dL_law_1048 : decode cL_law 1048 = .ok (.ifCond .eq 5, 3) := dk_153 0 5 (dk_at dksL_law_38 1 rfl rfl)
theorem dL_law_1051 : decode cL_law 1051 = .ok (.iconst 0, 1) := dk_3 (dk_at dksL_law_38 4 rfl rfl)
theorem dL_law_1052 : decode cL_law 1052 = .ok (.ireturn, 1) := dk_172 (dk_at dksL_law_38 5 rfl rfl)
theorem dL_law_1053 : decode cL_law 1053 = .ok (.goto 1125, 3) := dk_167 4 101 (dk_at dksL_law_38 6 rfl rfl)
theorem dL_law_1056 : decode cL_law 1056 = .ok (.aload_n 1, 1) := dk_43 (dk_at dksL_law_38 9 rfl rfl)
theorem dL_law_1057 : decode cL_law 1057 = .ok (.invokevirtual 157, 3) := dk_182 0 157 (dk_at dksL_law_38 10 rfl rfl)
theorem dL_law_1060 : decode cL_law 1060 = .ok (.aload_n 2, 1) := dk_44 (dk_at dksL_law_38 13 rfl rfl)
theorem dL_law_1061 : decode cL_law 1061 = .ok (.invokevirtual 160, 3) := dk_182 0 160 (dk_at dksL_law_38 14 rfl rfl)
theorem dL_law_1064 : decode cL_law 1064 = .ok (.if_icmp .eq 1114, 3) := dk_159 4 90 (dk_at dksL_law_38 17 rfl rfl)
theorem dL_law_1067 : decode cL_law 1067 = .ok (.iconst 0, 1) := dk_3 (dk_at dksL_law_38 20 rfl rfl)
theorem dL_law_1068 : decode cL_law 1068 = .ok (.ireturn, 1) := dk_172 (dk_at dksL_law_38 21 rfl rfl)
theorem dL_law_1069 : decode cL_law 1069 = .ok (.aload_n 1, 1) := dk_43 (dk_at dksL_law_38 22 rfl rfl)
theorem dL_law_1070 : decode cL_law 1070 = .ok (.aload_n 0, 1) := dk_42 (dk_at dksL_law_38 23 rfl rfl)
theorem dL_law_1071 : decode cL_law 1071 = .ok (.iload 5, 2) := dk_21 5 (dk_at dksL_law_39 0 rfl rfl)
theorem dL_law_1073 : decode cL_law 1073 = .ok (.iconst 1, 1) := dk_4 (dk_at dksL_law_39 2 rfl rfl)
theorem dL_law_1074 : decode cL_law 1074 = .ok (.iadd, 1) := dk_96 (dk_at dksL_law_39 3 rfl rfl)
theorem dL_law_1075 : decode cL_law 1075 = .ok (.iaload, 1) := dk_46 (dk_at dksL_law_39 4 rfl rfl)
theorem dL_law_1076 : decode cL_law 1076 = .ok (.aload_n 3, 1) := dk_45 (dk_at dksL_law_39 5 rfl rfl)
theorem dL_law_1077 : decode cL_law 1077 = .ok (.invokestatic 161, 3) := dk_184 0 161 (dk_at dksL_law_39 6 rfl rfl)
theorem dL_law_1080 : decode cL_law 1080 = .ok (.istore 6, 2) := dk_54 6 (dk_at dksL_law_39 9 rfl rfl)
theorem dL_law_1082 : decode cL_law 1082 = .ok (.aload_n 2, 1) := dk_44 (dk_at dksL_law_39 11 rfl rfl)
theorem dL_law_1083 : decode cL_law 1083 = .ok (.aload_n 0, 1) := dk_42 (dk_at dksL_law_39 12 rfl rfl)
theorem dL_law_1084 : decode cL_law 1084 = .ok (.iload 5, 2) := dk_21 5 (dk_at dksL_law_39 13 rfl rfl)
theorem dL_law_1086 : decode cL_law 1086 = .ok (.iconst 1, 1) := dk_4 (dk_at dksL_law_39 15 rfl rfl)
theorem dL_law_1087 : decode cL_law 1087 = .ok (.iadd, 1) := dk_96 (dk_at dksL_law_39 16 rfl rfl)
theorem dL_law_1088 : decode cL_law 1088 = .ok (.iaload, 1) := dk_46 (dk_at dksL_law_39 17 rfl rfl)
theorem dL_law_1089 : decode cL_law 1089 = .ok (.invokevirtual 163, 3) := dk_182 0 163 (dk_at dksL_law_39 18 rfl rfl)
theorem dL_law_1092 : decode cL_law 1092 = .ok (.istore 7, 2) := dk_54 7 (dk_at dksL_law_39 21 rfl rfl)
theorem dL_law_1094 : decode cL_law 1094 = .ok (.aload_n 2, 1) := dk_44 (dk_at dksL_law_39 23 rfl rfl)
theorem dL_law_1095 : decode cL_law 1095 = .ok (.invokevirtual 111, 3) := dk_182 0 111 (dk_at dksL_law_40 0 rfl rfl)
theorem dL_law_1098 : decode cL_law 1098 = .ok (.iload 6, 2) := dk_21 6 (dk_at dksL_law_40 3 rfl rfl)
theorem dL_law_1100 : decode cL_law 1100 = .ok (.if_icmp .eq 5, 3) := dk_159 0 5 (dk_at dksL_law_40 5 rfl rfl)
theorem dL_law_1103 : decode cL_law 1103 = .ok (.iconst 0, 1) := dk_3 (dk_at dksL_law_40 8 rfl rfl)
theorem dL_law_1104 : decode cL_law 1104 = .ok (.ireturn, 1) := dk_172 (dk_at dksL_law_40 9 rfl rfl)
theorem dL_law_1105 : decode cL_law 1105 = .ok (.iload 6, 2) := dk_21 6 (dk_at dksL_law_40 10 rfl rfl)
theorem dL_law_1107 : decode cL_law 1107 = .ok (.ifCond .ne 15, 3) := dk_154 0 15 (dk_at dksL_law_40 12 rfl rfl)
theorem dL_law_1110 : decode cL_law 1110 = .ok (.aload_n 3, 1) := dk_45 (dk_at dksL_law_40 15 rfl rfl)
theorem dL_law_1111 : decode cL_law 1111 = .ok (.iconst 0, 1) := dk_3 (dk_at dksL_law_40 16 rfl rfl)
theorem dL_law_1112 : decode cL_law 1112 = .ok (.laload, 1) := dk_47 (dk_at dksL_law_40 17 rfl rfl)
theorem dL_law_1113 : decode cL_law 1113 = .ok (.iload 7, 2) := dk_21 7 (dk_at dksL_law_40 18 rfl rfl)
theorem dL_law_1115 : decode cL_law 1115 = .ok (.i2l, 1) := dk_133 (dk_at dksL_law_40 20 rfl rfl)
theorem dL_law_1116 : decode cL_law 1116 = .ok (.lcmp, 1) := dk_148 (dk_at dksL_law_40 21 rfl rfl)
theorem dL_law_1117 : decode cL_law 1117 = .ok (.ifCond .eq 5, 3) := dk_153 0 5 (dk_at dksL_law_41 0 rfl rfl)
theorem dL_law_1120 : decode cL_law 1120 = .ok (.iconst 0, 1) := dk_3 (dk_at dksL_law_41 3 rfl rfl)
theorem dL_law_1121 : decode cL_law 1121 = .ok (.ireturn, 1) := dk_172 (dk_at dksL_law_41 4 rfl rfl)
theorem dL_law_1122 : decode cL_law 1122 = .ok (.goto 1056, 3) := dk_167 4 32 (dk_at dksL_law_41 5 rfl rfl)
theorem dL_law_1125 : decode cL_law 1125 = .ok (.aload_n 1, 1) := dk_43 (dk_at dksL_law_41 8 rfl rfl)
theorem dL_law_1126 : decode cL_law 1126 = .ok (.aload_n 0, 1) := dk_42 (dk_at dksL_law_41 9 rfl rfl)
theorem dL_law_1127 : decode cL_law 1127 = .ok (.iload 5, 2) := dk_21 5 (dk_at dksL_law_41 10 rfl rfl)
theorem dL_law_1129 : decode cL_law 1129 = .ok (.iconst 1, 1) := dk_4 (dk_at dksL_law_41 12 rfl rfl)
theorem dL_law_1130 : decode cL_law 1130 = .ok (.iadd, 1) := dk_96 (dk_at dksL_law_41 13 rfl rfl)
theorem dL_law_1131 : decode cL_law 1131 = .ok (.iaload, 1) := dk_46 (dk_at dksL_law_41 14 rfl rfl)
theorem dL_law_1132 : decode cL_law 1132 = .ok (.aload_n 3, 1) := dk_45 (dk_at dksL_law_41 15 rfl rfl)
theorem dL_law_1133 : decode cL_law 1133 = .ok (.invokestatic 164, 3) := dk_184 0 164 (dk_at dksL_law_41 16 rfl rfl)
theorem dL_law_1136 : decode cL_law 1136 = .ok (.istore 6, 2) := dk_54 6 (dk_at dksL_law_41 19 rfl rfl)
theorem dL_law_1138 : decode cL_law 1138 = .ok (.aload_n 2, 1) := dk_44 (dk_at dksL_law_41 21 rfl rfl)
theorem dL_law_1139 : decode cL_law 1139 = .ok (.aload_n 0, 1) := dk_42 (dk_at dksL_law_41 22 rfl rfl)
theorem dL_law_1140 : decode cL_law 1140 = .ok (.iload 5, 2) := dk_21 5 (dk_at dksL_law_42 0 rfl rfl)
theorem dL_law_1142 : decode cL_law 1142 = .ok (.iconst 1, 1) := dk_4 (dk_at dksL_law_42 2 rfl rfl)
theorem dL_law_1143 : decode cL_law 1143 = .ok (.iadd, 1) := dk_96 (dk_at dksL_law_42 3 rfl rfl)
theorem dL_law_1144 : decode cL_law 1144 = .ok (.iaload, 1) := dk_46 (dk_at dksL_law_42 4 rfl rfl)
theorem dL_law_1145 : decode cL_law 1145 = .ok (.invokevirtual 166, 3) := dk_182 0 166 (dk_at dksL_law_42 5 rfl rfl)
theorem dL_law_1148 : decode cL_law 1148 = .ok (.istore 7, 2) := dk_54 7 (dk_at dksL_law_42 8 rfl rfl)
theorem dL_law_1150 : decode cL_law 1150 = .ok (.aload_n 2, 1) := dk_44 (dk_at dksL_law_42 10 rfl rfl)
theorem dL_law_1151 : decode cL_law 1151 = .ok (.invokevirtual 111, 3) := dk_182 0 111 (dk_at dksL_law_42 11 rfl rfl)
theorem dL_law_1154 : decode cL_law 1154 = .ok (.iload 6, 2) := dk_21 6 (dk_at dksL_law_42 14 rfl rfl)
theorem dL_law_1156 : decode cL_law 1156 = .ok (.if_icmp .eq 5, 3) := dk_159 0 5 (dk_at dksL_law_42 16 rfl rfl)
theorem dL_law_1159 : decode cL_law 1159 = .ok (.iconst 0, 1) := dk_3 (dk_at dksL_law_42 19 rfl rfl)
theorem dL_law_1160 : decode cL_law 1160 = .ok (.ireturn, 1) := dk_172 (dk_at dksL_law_42 20 rfl rfl)
theorem dL_law_1161 : decode cL_law 1161 = .ok (.iload 6, 2) := dk_21 6 (dk_at dksL_law_42 21 rfl rfl)
theorem dL_law_1163 : decode cL_law 1163 = .ok (.ifCond .ne 15, 3) := dk_154 0 15 (dk_at dksL_law_43 0 rfl rfl)
theorem dL_law_1166 : decode cL_law 1166 = .ok (.aload_n 3, 1) := dk_45 (dk_at dksL_law_43 3 rfl rfl)
theorem dL_law_1167 : decode cL_law 1167 = .ok (.iconst 0, 1) := dk_3 (dk_at dksL_law_43 4 rfl rfl)
theorem dL_law_1168 : decode cL_law 1168 = .ok (.laload, 1) := dk_47 (dk_at dksL_law_43 5 rfl rfl)
theorem dL_law_1169 : decode cL_law 1169 = .ok (.iload 7, 2) := dk_21 7 (dk_at dksL_law_43 6 rfl rfl)
theorem dL_law_1171 : decode cL_law 1171 = .ok (.i2l, 1) := dk_133 (dk_at dksL_law_43 8 rfl rfl)
theorem dL_law_1172 : decode cL_law 1172 = .ok (.lcmp, 1) := dk_148 (dk_at dksL_law_43 9 rfl rfl)
theorem dL_law_1173 : decode cL_law 1173 = .ok (.ifCond .eq 5, 3) := dk_153 0 5 (dk_at dksL_law_43 10 rfl rfl)
theorem dL_law_1176 : decode cL_law 1176 = .ok (.iconst 0, 1) := dk_3 (dk_at dksL_law_43 13 rfl rfl)
theorem dL_law_1177 : decode cL_law 1177 = .ok (.ireturn, 1) := dk_172 (dk_at dksL_law_43 14 rfl rfl)
theorem dL_law_1178 : decode cL_law 1178 = .ok (.goto 1000, 3) := dk_167 3 232 (dk_at dksL_law_43 15 rfl rfl)
theorem dL_law_1181 : decode cL_law 1181 = .ok (.aload_n 1, 1) := dk_43 (dk_at dksL_law_43 18 rfl rfl)
theorem dL_law_1182 : decode cL_law 1182 = .ok (.aload_n 0, 1) := dk_42 (dk_at dksL_law_43 19 rfl rfl)
theorem dL_law_1183 : decode cL_law 1183 = .ok (.iload 5, 2) := dk_21 5 (dk_at dksL_law_43 20 rfl rfl)
theorem dL_law_1185 : decode cL_law 1185 = .ok (.iconst 1, 1) := dk_4 (dk_at dksL_law_43 22 rfl rfl)
theorem dL_law_1186 : decode cL_law 1186 = .ok (.iadd, 1) := dk_96 (dk_at dksL_law_43 23 rfl rfl)
theorem dL_law_1187 : decode cL_law 1187 = .ok (.iaload, 1) := dk_46 (dk_at dksL_law_44 0 rfl rfl)
theorem dL_law_1188 : decode cL_law 1188 = .ok (.aload_n 3, 1) := dk_45 (dk_at dksL_law_44 1 rfl rfl)
theorem dL_law_1189 : decode cL_law 1189 = .ok (.invokestatic 167, 3) := dk_184 0 167 (dk_at dksL_law_44 2 rfl rfl)
theorem dL_law_1192 : decode cL_law 1192 = .ok (.istore 6, 2) := dk_54 6 (dk_at dksL_law_44 5 rfl rfl)
theorem dL_law_1194 : decode cL_law 1194 = .ok (.aload_n 2, 1) := dk_44 (dk_at dksL_law_44 7 rfl rfl)
theorem dL_law_1195 : decode cL_law 1195 = .ok (.aload_n 0, 1) := dk_42 (dk_at dksL_law_44 8 rfl rfl)
theorem dL_law_1196 : decode cL_law 1196 = .ok (.iload 5, 2) := dk_21 5 (dk_at dksL_law_44 9 rfl rfl)
theorem dL_law_1198 : decode cL_law 1198 = .ok (.iconst 1, 1) := dk_4 (dk_at dksL_law_44 11 rfl rfl)
theorem dL_law_1199 : decode cL_law 1199 = .ok (.iadd, 1) := dk_96 (dk_at dksL_law_44 12 rfl rfl)
theorem dL_law_1200 : decode cL_law 1200 = .ok (.iaload, 1) := dk_46 (dk_at dksL_law_44 13 rfl rfl)
theorem dL_law_1201 : decode cL_law 1201 = .ok (.invokevirtual 169, 3) := dk_182 0 169 (dk_at dksL_law_44 14 rfl rfl)
theorem dL_law_1204 : decode cL_law 1204 = .ok (.istore 7, 2) := dk_54 7 (dk_at dksL_law_44 17 rfl rfl)
theorem dL_law_1206 : decode cL_law 1206 = .ok (.aload_n 2, 1) := dk_44 (dk_at dksL_law_44 19 rfl rfl)
theorem dL_law_1207 : decode cL_law 1207 = .ok (.invokevirtual 111, 3) := dk_182 0 111 (dk_at dksL_law_44 20 rfl rfl)
theorem dL_law_1210 : decode cL_law 1210 = .ok (.iload 6, 2) := dk_21 6 (dk_at dksL_law_45 0 rfl rfl)
theorem dL_law_1212 : decode cL_law 1212 = .ok (.if_icmp .eq 5, 3) := dk_159 0 5 (dk_at dksL_law_45 2 rfl rfl)
theorem dL_law_1215 : decode cL_law 1215 = .ok (.iconst 0, 1) := dk_3 (dk_at dksL_law_45 5 rfl rfl)
theorem dL_law_1216 : decode cL_law 1216 = .ok (.ireturn, 1) := dk_172 (dk_at dksL_law_45 6 rfl rfl)
theorem dL_law_1217 : decode cL_law 1217 = .ok (.iload 6, 2) := dk_21 6 (dk_at dksL_law_45 7 rfl rfl)
theorem dL_law_1219 : decode cL_law 1219 = .ok (.ifCond .ne 15, 3) := dk_154 0 15 (dk_at dksL_law_45 9 rfl rfl)
theorem dL_law_1222 : decode cL_law 1222 = .ok (.aload_n 3, 1) := dk_45 (dk_at dksL_law_45 12 rfl rfl)
theorem dL_law_1223 : decode cL_law 1223 = .ok (.iconst 0, 1) := dk_3 (dk_at dksL_law_45 13 rfl rfl)
theorem dL_law_1224 : decode cL_law 1224 = .ok (.laload, 1) := dk_47 (dk_at dksL_law_45 14 rfl rfl)
theorem dL_law_1225 : decode cL_law 1225 = .ok (.iload 7, 2) := dk_21 7 (dk_at dksL_law_45 15 rfl rfl)
theorem dL_law_1227 : decode cL_law 1227 = .ok (.i2l, 1) := dk_133 (dk_at dksL_law_45 17 rfl rfl)
theorem dL_law_1228 : decode cL_law 1228 = .ok (.lcmp, 1) := dk_148 (dk_at dksL_law_45 18 rfl rfl)
theorem dL_law_1229 : decode cL_law 1229 = .ok (.ifCond .eq 5, 3) := dk_153 0 5 (dk_at dksL_law_45 19 rfl rfl)
theorem dL_law_1232 : decode cL_law 1232 = .ok (.iconst 0, 1) := dk_3 (dk_at dksL_law_45 22 rfl rfl)
theorem dL_law_1233 : decode cL_law 1233 = .ok (.ireturn, 1) := dk_172 (dk_at dksL_law_45 23 rfl rfl)
theorem dL_law_1234 : decode cL_law 1234 = .ok (.goto 944, 3) := dk_167 3 176 (dk_at dksL_law_46 0 rfl rfl)
theorem dL_law_1237 : decode cL_law 1237 = .ok (.aload_n 1, 1) := dk_43 (dk_at dksL_law_46 3 rfl rfl)
theorem dL_law_1238 : decode cL_law 1238 = .ok (.aload_n 0, 1) := dk_42 (dk_at dksL_law_46 4 rfl rfl)
theorem dL_law_1239 : decode cL_law 1239 = .ok (.iload 5, 2) := dk_21 5 (dk_at dksL_law_46 5 rfl rfl)
theorem dL_law_1241 : decode cL_law 1241 = .ok (.iconst 1, 1) := dk_4 (dk_at dksL_law_46 7 rfl rfl)
theorem dL_law_1242 : decode cL_law 1242 = .ok (.iadd, 1) := dk_96 (dk_at dksL_law_46 8 rfl rfl)
theorem dL_law_1243 : decode cL_law 1243 = .ok (.iaload, 1) := dk_46 (dk_at dksL_law_46 9 rfl rfl)
theorem dL_law_1244 : decode cL_law 1244 = .ok (.aload_n 3, 1) := dk_45 (dk_at dksL_law_46 10 rfl rfl)
theorem dL_law_1245 : decode cL_law 1245 = .ok (.invokestatic 170, 3) := dk_184 0 170 (dk_at dksL_law_46 11 rfl rfl)
theorem dL_law_1248 : decode cL_law 1248 = .ok (.istore 6, 2) := dk_54 6 (dk_at dksL_law_46 14 rfl rfl)
theorem dL_law_1250 : decode cL_law 1250 = .ok (.aload_n 2, 1) := dk_44 (dk_at dksL_law_46 16 rfl rfl)
theorem dL_law_1251 : decode cL_law 1251 = .ok (.aload_n 0, 1) := dk_42 (dk_at dksL_law_46 17 rfl rfl)
theorem dL_law_1252 : decode cL_law 1252 = .ok (.iload 5, 2) := dk_21 5 (dk_at dksL_law_46 18 rfl rfl)
theorem dL_law_1254 : decode cL_law 1254 = .ok (.iconst 1, 1) := dk_4 (dk_at dksL_law_46 20 rfl rfl)
theorem dL_law_1255 : decode cL_law 1255 = .ok (.iadd, 1) := dk_96 (dk_at dksL_law_46 21 rfl rfl)
theorem dL_law_1256 : decode cL_law 1256 = .ok (.iaload, 1) := dk_46 (dk_at dksL_law_46 22 rfl rfl)
theorem dL_law_1257 : decode cL_law 1257 = .ok (.invokevirtual 172, 3) := dk_182 0 172 (dk_at dksL_law_47 0 rfl rfl)
theorem dL_law_1260 : decode cL_law 1260 = .ok (.istore 7, 2) := dk_54 7 (dk_at dksL_law_47 3 rfl rfl)
theorem dL_law_1262 : decode cL_law 1262 = .ok (.aload_n 2, 1) := dk_44 (dk_at dksL_law_47 5 rfl rfl)
theorem dL_law_1263 : decode cL_law 1263 = .ok (.invokevirtual 111, 3) := dk_182 0 111 (dk_at dksL_law_47 6 rfl rfl)
theorem dL_law_1266 : decode cL_law 1266 = .ok (.iload 6, 2) := dk_21 6 (dk_at dksL_law_47 9 rfl rfl)
theorem dL_law_1268 : decode cL_law 1268 = .ok (.if_icmp .eq 5, 3) := dk_159 0 5 (dk_at dksL_law_47 11 rfl rfl)
theorem dL_law_1271 : decode cL_law 1271 = .ok (.iconst 0, 1) := dk_3 (dk_at dksL_law_47 14 rfl rfl)
theorem dL_law_1272 : decode cL_law 1272 = .ok (.ireturn, 1) := dk_172 (dk_at dksL_law_47 15 rfl rfl)
theorem dL_law_1273 : decode cL_law 1273 = .ok (.iload 6, 2) := dk_21 6 (dk_at dksL_law_47 16 rfl rfl)
theorem dL_law_1275 : decode cL_law 1275 = .ok (.ifCond .ne 15, 3) := dk_154 0 15 (dk_at dksL_law_47 18 rfl rfl)
theorem dL_law_1278 : decode cL_law 1278 = .ok (.aload_n 3, 1) := dk_45 (dk_at dksL_law_47 21 rfl rfl)
theorem dL_law_1279 : decode cL_law 1279 = .ok (.iconst 0, 1) := dk_3 (dk_at dksL_law_47 22 rfl rfl)
theorem dL_law_1280 : decode cL_law 1280 = .ok (.laload, 1) := dk_47 (dk_at dksL_law_47 23 rfl rfl)
theorem dL_law_1281 : decode cL_law 1281 = .ok (.iload 7, 2) := dk_21 7 (dk_at dksL_law_48 0 rfl rfl)
theorem dL_law_1283 : decode cL_law 1283 = .ok (.i2l, 1) := dk_133 (dk_at dksL_law_48 2 rfl rfl)
theorem dL_law_1284 : decode cL_law 1284 = .ok (.lcmp, 1) := dk_148 (dk_at dksL_law_48 3 rfl rfl)
theorem dL_law_1285 : decode cL_law 1285 = .ok (.ifCond .eq 5, 3) := dk_153 0 5 (dk_at dksL_law_48 4 rfl rfl)
theorem dL_law_1288 : decode cL_law 1288 = .ok (.iconst 0, 1) := dk_3 (dk_at dksL_law_48 7 rfl rfl)
theorem dL_law_1289 : decode cL_law 1289 = .ok (.ireturn, 1) := dk_172 (dk_at dksL_law_48 8 rfl rfl)
theorem dL_law_1290 : decode cL_law 1290 = .ok (.goto 888, 3) := dk_167 3 120 (dk_at dksL_law_48 9 rfl rfl)
theorem dL_law_1293 : decode cL_law 1293 = .ok (.aload_n 1, 1) := dk_43 (dk_at dksL_law_48 12 rfl rfl)
theorem dL_law_1294 : decode cL_law 1294 = .ok (.aload_n 0, 1) := dk_42 (dk_at dksL_law_48 13 rfl rfl)
theorem dL_law_1295 : decode cL_law 1295 = .ok (.iload 5, 2) := dk_21 5 (dk_at dksL_law_48 14 rfl rfl)
theorem dL_law_1297 : decode cL_law 1297 = .ok (.iconst 1, 1) := dk_4 (dk_at dksL_law_48 16 rfl rfl)
theorem dL_law_1298 : decode cL_law 1298 = .ok (.iadd, 1) := dk_96 (dk_at dksL_law_48 17 rfl rfl)
theorem dL_law_1299 : decode cL_law 1299 = .ok (.iaload, 1) := dk_46 (dk_at dksL_law_48 18 rfl rfl)
theorem dL_law_1300 : decode cL_law 1300 = .ok (.aload_n 3, 1) := dk_45 (dk_at dksL_law_48 19 rfl rfl)
theorem dL_law_1301 : decode cL_law 1301 = .ok (.invokestatic 173, 3) := dk_184 0 173 (dk_at dksL_law_48 20 rfl rfl)
theorem dL_law_1304 : decode cL_law 1304 = .ok (.istore 6, 2) := dk_54 6 (dk_at dksL_law_49 0 rfl rfl)
theorem dL_law_1306 : decode cL_law 1306 = .ok (.aload_n 2, 1) := dk_44 (dk_at dksL_law_49 2 rfl rfl)
theorem dL_law_1307 : decode cL_law 1307 = .ok (.aload_n 0, 1) := dk_42 (dk_at dksL_law_49 3 rfl rfl)
theorem dL_law_1308 : decode cL_law 1308 = .ok (.iload 5, 2) := dk_21 5 (dk_at dksL_law_49 4 rfl rfl)
theorem dL_law_1310 : decode cL_law 1310 = .ok (.iconst 1, 1) := dk_4 (dk_at dksL_law_49 6 rfl rfl)
theorem dL_law_1311 : decode cL_law 1311 = .ok (.iadd, 1) := dk_96 (dk_at dksL_law_49 7 rfl rfl)
theorem dL_law_1312 : decode cL_law 1312 = .ok (.iaload, 1) := dk_46 (dk_at dksL_law_49 8 rfl rfl)
theorem dL_law_1313 : decode cL_law 1313 = .ok (.invokevirtual 175, 3) := dk_182 0 175 (dk_at dksL_law_49 9 rfl rfl)
theorem dL_law_1316 : decode cL_law 1316 = .ok (.istore 7, 2) := dk_54 7 (dk_at dksL_law_49 12 rfl rfl)
theorem dL_law_1318 : decode cL_law 1318 = .ok (.aload_n 2, 1) := dk_44 (dk_at dksL_law_49 14 rfl rfl)
theorem dL_law_1319 : decode cL_law 1319 = .ok (.invokevirtual 111, 3) := dk_182 0 111 (dk_at dksL_law_49 15 rfl rfl)
theorem dL_law_1322 : decode cL_law 1322 = .ok (.iload 6, 2) := dk_21 6 (dk_at dksL_law_49 18 rfl rfl)
theorem dL_law_1324 : decode cL_law 1324 = .ok (.if_icmp .eq 5, 3) := dk_159 0 5 (dk_at dksL_law_49 20 rfl rfl)
theorem dL_law_1327 : decode cL_law 1327 = .ok (.iconst 0, 1) := dk_3 (dk_at dksL_law_49 23 rfl rfl)
theorem dL_law_1328 : decode cL_law 1328 = .ok (.ireturn, 1) := dk_172 (dk_at dksL_law_50 0 rfl rfl)
theorem dL_law_1329 : decode cL_law 1329 = .ok (.iload 6, 2) := dk_21 6 (dk_at dksL_law_50 1 rfl rfl)
theorem dL_law_1331 : decode cL_law 1331 = .ok (.ifCond .ne 15, 3) := dk_154 0 15 (dk_at dksL_law_50 3 rfl rfl)
theorem dL_law_1334 : decode cL_law 1334 = .ok (.aload_n 3, 1) := dk_45 (dk_at dksL_law_50 6 rfl rfl)
theorem dL_law_1335 : decode cL_law 1335 = .ok (.iconst 0, 1) := dk_3 (dk_at dksL_law_50 7 rfl rfl)
theorem dL_law_1336 : decode cL_law 1336 = .ok (.laload, 1) := dk_47 (dk_at dksL_law_50 8 rfl rfl)
theorem dL_law_1337 : decode cL_law 1337 = .ok (.iload 7, 2) := dk_21 7 (dk_at dksL_law_50 9 rfl rfl)
theorem dL_law_1339 : decode cL_law 1339 = .ok (.i2l, 1) := dk_133 (dk_at dksL_law_50 11 rfl rfl)
theorem dL_law_1340 : decode cL_law 1340 = .ok (.lcmp, 1) := dk_148 (dk_at dksL_law_50 12 rfl rfl)
theorem dL_law_1341 : decode cL_law 1341 = .ok (.ifCond .eq 5, 3) := dk_153 0 5 (dk_at dksL_law_50 13 rfl rfl)
theorem dL_law_1344 : decode cL_law 1344 = .ok (.iconst 0, 1) := dk_3 (dk_at dksL_law_50 16 rfl rfl)
theorem dL_law_1345 : decode cL_law 1345 = .ok (.ireturn, 1) := dk_172 (dk_at dksL_law_50 17 rfl rfl)
theorem dL_law_1346 : decode cL_law 1346 = .ok (.goto 832, 3) := dk_167 3 64 (dk_at dksL_law_50 18 rfl rfl)
theorem dL_law_1349 : decode cL_law 1349 = .ok (.aload_n 1, 1) := dk_43 (dk_at dksL_law_50 21 rfl rfl)
theorem dL_law_1350 : decode cL_law 1350 = .ok (.aload_n 0, 1) := dk_42 (dk_at dksL_law_50 22 rfl rfl)
theorem dL_law_1351 : decode cL_law 1351 = .ok (.iload 5, 2) := dk_21 5 (dk_at dksL_law_51 0 rfl rfl)
theorem dL_law_1353 : decode cL_law 1353 = .ok (.iconst 1, 1) := dk_4 (dk_at dksL_law_51 2 rfl rfl)
theorem dL_law_1354 : decode cL_law 1354 = .ok (.iadd, 1) := dk_96 (dk_at dksL_law_51 3 rfl rfl)
theorem dL_law_1355 : decode cL_law 1355 = .ok (.iaload, 1) := dk_46 (dk_at dksL_law_51 4 rfl rfl)
theorem dL_law_1356 : decode cL_law 1356 = .ok (.aload_n 3, 1) := dk_45 (dk_at dksL_law_51 5 rfl rfl)
theorem dL_law_1357 : decode cL_law 1357 = .ok (.invokestatic 176, 3) := dk_184 0 176 (dk_at dksL_law_51 6 rfl rfl)
theorem dL_law_1360 : decode cL_law 1360 = .ok (.istore 6, 2) := dk_54 6 (dk_at dksL_law_51 9 rfl rfl)
theorem dL_law_1362 : decode cL_law 1362 = .ok (.aload_n 2, 1) := dk_44 (dk_at dksL_law_51 11 rfl rfl)
theorem dL_law_1363 : decode cL_law 1363 = .ok (.aload_n 0, 1) := dk_42 (dk_at dksL_law_51 12 rfl rfl)
theorem dL_law_1364 : decode cL_law 1364 = .ok (.iload 5, 2) := dk_21 5 (dk_at dksL_law_51 13 rfl rfl)
theorem dL_law_1366 : decode cL_law 1366 = .ok (.iconst 1, 1) := dk_4 (dk_at dksL_law_51 15 rfl rfl)
theorem dL_law_1367 : decode cL_law 1367 = .ok (.iadd, 1) := dk_96 (dk_at dksL_law_51 16 rfl rfl)
theorem dL_law_1368 : decode cL_law 1368 = .ok (.iaload, 1) := dk_46 (dk_at dksL_law_51 17 rfl rfl)
theorem dL_law_1369 : decode cL_law 1369 = .ok (.invokevirtual 178, 3) := dk_182 0 178 (dk_at dksL_law_51 18 rfl rfl)
theorem dL_law_1372 : decode cL_law 1372 = .ok (.istore 7, 2) := dk_54 7 (dk_at dksL_law_51 21 rfl rfl)
theorem dL_law_1374 : decode cL_law 1374 = .ok (.aload_n 2, 1) := dk_44 (dk_at dksL_law_51 23 rfl rfl)
theorem dL_law_1375 : decode cL_law 1375 = .ok (.invokevirtual 111, 3) := dk_182 0 111 (dk_at dksL_law_52 0 rfl rfl)
theorem dL_law_1378 : decode cL_law 1378 = .ok (.iload 6, 2) := dk_21 6 (dk_at dksL_law_52 3 rfl rfl)
theorem dL_law_1380 : decode cL_law 1380 = .ok (.if_icmp .eq 5, 3) := dk_159 0 5 (dk_at dksL_law_52 5 rfl rfl)
theorem dL_law_1383 : decode cL_law 1383 = .ok (.iconst 0, 1) := dk_3 (dk_at dksL_law_52 8 rfl rfl)
theorem dL_law_1384 : decode cL_law 1384 = .ok (.ireturn, 1) := dk_172 (dk_at dksL_law_52 9 rfl rfl)
theorem dL_law_1385 : decode cL_law 1385 = .ok (.iload 6, 2) := dk_21 6 (dk_at dksL_law_52 10 rfl rfl)
theorem dL_law_1387 : decode cL_law 1387 = .ok (.ifCond .ne 15, 3) := dk_154 0 15 (dk_at dksL_law_52 12 rfl rfl)
theorem dL_law_1390 : decode cL_law 1390 = .ok (.aload_n 3, 1) := dk_45 (dk_at dksL_law_52 15 rfl rfl)
theorem dL_law_1391 : decode cL_law 1391 = .ok (.iconst 0, 1) := dk_3 (dk_at dksL_law_52 16 rfl rfl)
theorem dL_law_1392 : decode cL_law 1392 = .ok (.laload, 1) := dk_47 (dk_at dksL_law_52 17 rfl rfl)
theorem dL_law_1393 : decode cL_law 1393 = .ok (.iload 7, 2) := dk_21 7 (dk_at dksL_law_52 18 rfl rfl)
theorem dL_law_1395 : decode cL_law 1395 = .ok (.i2l, 1) := dk_133 (dk_at dksL_law_52 20 rfl rfl)
theorem dL_law_1396 : decode cL_law 1396 = .ok (.lcmp, 1) := dk_148 (dk_at dksL_law_52 21 rfl rfl)
theorem dL_law_1397 : decode cL_law 1397 = .ok (.ifCond .eq 5, 3) := dk_153 0 5 (dk_at dksL_law_53 0 rfl rfl)
theorem dL_law_1400 : decode cL_law 1400 = .ok (.iconst 0, 1) := dk_3 (dk_at dksL_law_53 3 rfl rfl)
theorem dL_law_1401 : decode cL_law 1401 = .ok (.ireturn, 1) := dk_172 (dk_at dksL_law_53 4 rfl rfl)
theorem dL_law_1402 : decode cL_law 1402 = .ok (.goto 776, 3) := dk_167 3 8 (dk_at dksL_law_53 5 rfl rfl)
theorem dL_law_1405 : decode cL_law 1405 = .ok (.aload_n 1, 1) := dk_43 (dk_at dksL_law_53 8 rfl rfl)
theorem dL_law_1406 : decode cL_law 1406 = .ok (.aload_n 0, 1) := dk_42 (dk_at dksL_law_53 9 rfl rfl)
theorem dL_law_1407 : decode cL_law 1407 = .ok (.iload 5, 2) := dk_21 5 (dk_at dksL_law_53 10 rfl rfl)
theorem dL_law_1409 : decode cL_law 1409 = .ok (.iconst 1, 1) := dk_4 (dk_at dksL_law_53 12 rfl rfl)
theorem dL_law_1410 : decode cL_law 1410 = .ok (.iadd, 1) := dk_96 (dk_at dksL_law_53 13 rfl rfl)
theorem dL_law_1411 : decode cL_law 1411 = .ok (.iaload, 1) := dk_46 (dk_at dksL_law_53 14 rfl rfl)
theorem dL_law_1412 : decode cL_law 1412 = .ok (.aload_n 3, 1) := dk_45 (dk_at dksL_law_53 15 rfl rfl)
theorem dL_law_1413 : decode cL_law 1413 = .ok (.invokestatic 179, 3) := dk_184 0 179 (dk_at dksL_law_53 16 rfl rfl)
theorem dL_law_1416 : decode cL_law 1416 = .ok (.istore 6, 2) := dk_54 6 (dk_at dksL_law_53 19 rfl rfl)
theorem dL_law_1418 : decode cL_law 1418 = .ok (.aload_n 2, 1) := dk_44 (dk_at dksL_law_53 21 rfl rfl)
theorem dL_law_1419 : decode cL_law 1419 = .ok (.aload_n 0, 1) := dk_42 (dk_at dksL_law_53 22 rfl rfl)
theorem dL_law_1420 : decode cL_law 1420 = .ok (.iload 5, 2) := dk_21 5 (dk_at dksL_law_54 0 rfl rfl)
theorem dL_law_1422 : decode cL_law 1422 = .ok (.iconst 1, 1) := dk_4 (dk_at dksL_law_54 2 rfl rfl)
theorem dL_law_1423 : decode cL_law 1423 = .ok (.iadd, 1) := dk_96 (dk_at dksL_law_54 3 rfl rfl)
theorem dL_law_1424 : decode cL_law 1424 = .ok (.iaload, 1) := dk_46 (dk_at dksL_law_54 4 rfl rfl)
theorem dL_law_1425 : decode cL_law 1425 = .ok (.invokevirtual 181, 3) := dk_182 0 181 (dk_at dksL_law_54 5 rfl rfl)
theorem dL_law_1428 : decode cL_law 1428 = .ok (.istore 7, 2) := dk_54 7 (dk_at dksL_law_54 8 rfl rfl)
theorem dL_law_1430 : decode cL_law 1430 = .ok (.aload_n 2, 1) := dk_44 (dk_at dksL_law_54 10 rfl rfl)
theorem dL_law_1431 : decode cL_law 1431 = .ok (.invokevirtual 111, 3) := dk_182 0 111 (dk_at dksL_law_54 11 rfl rfl)
theorem dL_law_1434 : decode cL_law 1434 = .ok (.iload 6, 2) := dk_21 6 (dk_at dksL_law_54 14 rfl rfl)
theorem dL_law_1436 : decode cL_law 1436 = .ok (.if_icmp .eq 5, 3) := dk_159 0 5 (dk_at dksL_law_54 16 rfl rfl)
theorem dL_law_1439 : decode cL_law 1439 = .ok (.iconst 0, 1) := dk_3 (dk_at dksL_law_54 19 rfl rfl)
theorem dL_law_1440 : decode cL_law 1440 = .ok (.ireturn, 1) := dk_172 (dk_at dksL_law_54 20 rfl rfl)
theorem dL_law_1441 : decode cL_law 1441 = .ok (.iload 6, 2) := dk_21 6 (dk_at dksL_law_54 21 rfl rfl)
theorem dL_law_1443 : decode cL_law 1443 = .ok (.ifCond .ne 15, 3) := dk_154 0 15 (dk_at dksL_law_55 0 rfl rfl)
theorem dL_law_1446 : decode cL_law 1446 = .ok (.aload_n 3, 1) := dk_45 (dk_at dksL_law_55 3 rfl rfl)
theorem dL_law_1447 : decode cL_law 1447 = .ok (.iconst 0, 1) := dk_3 (dk_at dksL_law_55 4 rfl rfl)
theorem dL_law_1448 : decode cL_law 1448 = .ok (.laload, 1) := dk_47 (dk_at dksL_law_55 5 rfl rfl)
theorem dL_law_1449 : decode cL_law 1449 = .ok (.iload 7, 2) := dk_21 7 (dk_at dksL_law_55 6 rfl rfl)
theorem dL_law_1451 : decode cL_law 1451 = .ok (.i2l, 1) := dk_133 (dk_at dksL_law_55 8 rfl rfl)
theorem dL_law_1452 : decode cL_law 1452 = .ok (.lcmp, 1) := dk_148 (dk_at dksL_law_55 9 rfl rfl)
theorem dL_law_1453 : decode cL_law 1453 = .ok (.ifCond .eq 5, 3) := dk_153 0 5 (dk_at dksL_law_55 10 rfl rfl)
theorem dL_law_1456 : decode cL_law 1456 = .ok (.iconst 0, 1) := dk_3 (dk_at dksL_law_55 13 rfl rfl)
theorem dL_law_1457 : decode cL_law 1457 = .ok (.ireturn, 1) := dk_172 (dk_at dksL_law_55 14 rfl rfl)
theorem dL_law_1458 : decode cL_law 1458 = .ok (.goto 720, 3) := dk_167 2 208 (dk_at dksL_law_55 15 rfl rfl)
theorem dL_law_1461 : decode cL_law 1461 = .ok (.aload_n 1, 1) := dk_43 (dk_at dksL_law_55 18 rfl rfl)
theorem dL_law_1462 : decode cL_law 1462 = .ok (.invokevirtual 182, 3) := dk_182 0 182 (dk_at dksL_law_55 19 rfl rfl)
theorem dL_law_1465 : decode cL_law 1465 = .ok (.aload_n 2, 1) := dk_44 (dk_at dksL_law_55 22 rfl rfl)
theorem dL_law_1466 : decode cL_law 1466 = .ok (.invokevirtual 185, 3) := dk_182 0 185 (dk_at dksL_law_56 0 rfl rfl)
theorem dL_law_1469 : decode cL_law 1469 = .ok (.if_icmp .eq 709, 3) := dk_159 2 197 (dk_at dksL_law_56 3 rfl rfl)
theorem dL_law_1472 : decode cL_law 1472 = .ok (.iconst 0, 1) := dk_3 (dk_at dksL_law_56 6 rfl rfl)
theorem dL_law_1473 : decode cL_law 1473 = .ok (.ireturn, 1) := dk_172 (dk_at dksL_law_56 7 rfl rfl)
theorem dL_law_1474 : decode cL_law 1474 = .ok (.aload_n 1, 1) := dk_43 (dk_at dksL_law_56 8 rfl rfl)
theorem dL_law_1475 : decode cL_law 1475 = .ok (.aload_n 0, 1) := dk_42 (dk_at dksL_law_56 9 rfl rfl)
theorem dL_law_1476 : decode cL_law 1476 = .ok (.iload 5, 2) := dk_21 5 (dk_at dksL_law_56 10 rfl rfl)
theorem dL_law_1478 : decode cL_law 1478 = .ok (.iconst 1, 1) := dk_4 (dk_at dksL_law_56 12 rfl rfl)
theorem dL_law_1479 : decode cL_law 1479 = .ok (.iadd, 1) := dk_96 (dk_at dksL_law_56 13 rfl rfl)
theorem dL_law_1480 : decode cL_law 1480 = .ok (.iaload, 1) := dk_46 (dk_at dksL_law_56 14 rfl rfl)
theorem dL_law_1481 : decode cL_law 1481 = .ok (.aload 4, 2) := dk_25 4 (dk_at dksL_law_56 15 rfl rfl)
theorem dL_law_1483 : decode cL_law 1483 = .ok (.invokestatic 186, 3) := dk_184 0 186 (dk_at dksL_law_56 17 rfl rfl)
theorem dL_law_1486 : decode cL_law 1486 = .ok (.istore 6, 2) := dk_54 6 (dk_at dksL_law_56 20 rfl rfl)
theorem dL_law_1488 : decode cL_law 1488 = .ok (.aload_n 2, 1) := dk_44 (dk_at dksL_law_56 22 rfl rfl)
theorem dL_law_1489 : decode cL_law 1489 = .ok (.aload_n 0, 1) := dk_42 (dk_at dksL_law_56 23 rfl rfl)
theorem dL_law_1490 : decode cL_law 1490 = .ok (.iload 5, 2) := dk_21 5 (dk_at dksL_law_57 0 rfl rfl)
theorem dL_law_1492 : decode cL_law 1492 = .ok (.iconst 1, 1) := dk_4 (dk_at dksL_law_57 2 rfl rfl)
theorem dL_law_1493 : decode cL_law 1493 = .ok (.iadd, 1) := dk_96 (dk_at dksL_law_57 3 rfl rfl)
theorem dL_law_1494 : decode cL_law 1494 = .ok (.iaload, 1) := dk_46 (dk_at dksL_law_57 4 rfl rfl)
theorem dL_law_1495 : decode cL_law 1495 = .ok (.invokevirtual 189, 3) := dk_182 0 189 (dk_at dksL_law_57 5 rfl rfl)
theorem dL_law_1498 : decode cL_law 1498 = .ok (.fstore 7, 2) := dk_56 7 (dk_at dksL_law_57 8 rfl rfl)
theorem dL_law_1500 : decode cL_law 1500 = .ok (.aload_n 2, 1) := dk_44 (dk_at dksL_law_57 10 rfl rfl)
theorem dL_law_1501 : decode cL_law 1501 = .ok (.invokevirtual 111, 3) := dk_182 0 111 (dk_at dksL_law_57 11 rfl rfl)
theorem dL_law_1504 : decode cL_law 1504 = .ok (.iload 6, 2) := dk_21 6 (dk_at dksL_law_57 14 rfl rfl)
theorem dL_law_1506 : decode cL_law 1506 = .ok (.if_icmp .eq 5, 3) := dk_159 0 5 (dk_at dksL_law_57 16 rfl rfl)
theorem dL_law_1509 : decode cL_law 1509 = .ok (.iconst 0, 1) := dk_3 (dk_at dksL_law_57 19 rfl rfl)
theorem dL_law_1510 : decode cL_law 1510 = .ok (.ireturn, 1) := dk_172 (dk_at dksL_law_57 20 rfl rfl)
theorem dL_law_1511 : decode cL_law 1511 = .ok (.iload 6, 2) := dk_21 6 (dk_at dksL_law_57 21 rfl rfl)
theorem dL_law_1513 : decode cL_law 1513 = .ok (.ifCond .ne 36, 3) := dk_154 0 36 (dk_at dksL_law_58 0 rfl rfl)
theorem dL_law_1516 : decode cL_law 1516 = .ok (.aload 4, 2) := dk_25 4 (dk_at dksL_law_58 3 rfl rfl)
theorem dL_law_1518 : decode cL_law 1518 = .ok (.iconst 0, 1) := dk_3 (dk_at dksL_law_58 5 rfl rfl)
theorem dL_law_1519 : decode cL_law 1519 = .ok (.daload, 1) := dk_49 (dk_at dksL_law_58 6 rfl rfl)
theorem dL_law_1520 : decode cL_law 1520 = .ok (.fload 7, 2) := dk_23 7 (dk_at dksL_law_58 7 rfl rfl)
theorem dL_law_1522 : decode cL_law 1522 = .ok (.f2d, 1) := dk_141 (dk_at dksL_law_58 9 rfl rfl)
theorem dL_law_1523 : decode cL_law 1523 = .ok (.dcmp .l, 1) := dk_151 (dk_at dksL_law_58 10 rfl rfl)
theorem dL_law_1524 : decode cL_law 1524 = .ok (.ifCond .eq 25, 3) := dk_153 0 25 (dk_at dksL_law_58 11 rfl rfl)
theorem dL_law_1527 : decode cL_law 1527 = .ok (.aload 4, 2) := dk_25 4 (dk_at dksL_law_58 14 rfl rfl)
theorem dL_law_1529 : decode cL_law 1529 = .ok (.iconst 0, 1) := dk_3 (dk_at dksL_law_58 16 rfl rfl)
theorem dL_law_1530 : decode cL_law 1530 = .ok (.daload, 1) := dk_49 (dk_at dksL_law_58 17 rfl rfl)
theorem dL_law_1531 : decode cL_law 1531 = .ok (.aload 4, 2) := dk_25 4 (dk_at dksL_law_58 18 rfl rfl)
theorem dL_law_1533 : decode cL_law 1533 = .ok (.iconst 0, 1) := dk_3 (dk_at dksL_law_58 20 rfl rfl)
theorem dL_law_1534 : decode cL_law 1534 = .ok (.daload, 1) := dk_49 (dk_at dksL_law_58 21 rfl rfl)
theorem dL_law_1535 : decode cL_law 1535 = .ok (.dcmp .l, 1) := dk_151 (dk_at dksL_law_58 22 rfl rfl)
theorem dL_law_1536 : decode cL_law 1536 = .ok (.ifCond .eq 11, 3) := dk_153 0 11 (dk_at dksL_law_59 0 rfl rfl)
theorem dL_law_1539 : decode cL_law 1539 = .ok (.fload 7, 2) := dk_23 7 (dk_at dksL_law_59 3 rfl rfl)
theorem dL_law_1541 : decode cL_law 1541 = .ok (.fload 7, 2) := dk_23 7 (dk_at dksL_law_59 5 rfl rfl)
theorem dL_law_1543 : decode cL_law 1543 = .ok (.fcmp .l, 1) := dk_149 (dk_at dksL_law_59 7 rfl rfl)
theorem dL_law_1544 : decode cL_law 1544 = .ok (.ifCond .ne 5, 3) := dk_154 0 5 (dk_at dksL_law_59 8 rfl rfl)
theorem dL_law_1547 : decode cL_law 1547 = .ok (.iconst 0, 1) := dk_3 (dk_at dksL_law_59 11 rfl rfl)
theorem dL_law_1548 : decode cL_law 1548 = .ok (.ireturn, 1) := dk_172 (dk_at dksL_law_59 12 rfl rfl)
theorem dL_law_1549 : decode cL_law 1549 = .ok (.goto 629, 3) := dk_167 2 117 (dk_at dksL_law_59 13 rfl rfl)
theorem dL_law_1552 : decode cL_law 1552 = .ok (.aload_n 1, 1) := dk_43 (dk_at dksL_law_59 16 rfl rfl)
theorem dL_law_1553 : decode cL_law 1553 = .ok (.invokevirtual 190, 3) := dk_182 0 190 (dk_at dksL_law_59 17 rfl rfl)
theorem dL_law_1556 : decode cL_law 1556 = .ok (.dstore 6, 2) := dk_57 6 (dk_at dksL_law_59 20 rfl rfl)
theorem dL_law_1558 : decode cL_law 1558 = .ok (.aload_n 2, 1) := dk_44 (dk_at dksL_law_59 22 rfl rfl)
theorem dL_law_1559 : decode cL_law 1559 = .ok (.invokevirtual 194, 3) := dk_182 0 194 (dk_at dksL_law_60 0 rfl rfl)
theorem dL_law_1562 : decode cL_law 1562 = .ok (.dstore 8, 2) := dk_57 8 (dk_at dksL_law_60 3 rfl rfl)
theorem dL_law_1564 : decode cL_law 1564 = .ok (.dload 6, 2) := dk_24 6 (dk_at dksL_law_60 5 rfl rfl)
theorem dL_law_1566 : decode cL_law 1566 = .ok (.dload 8, 2) := dk_24 8 (dk_at dksL_law_60 7 rfl rfl)
theorem dL_law_1568 : decode cL_law 1568 = .ok (.dcmp .l, 1) := dk_151 (dk_at dksL_law_60 9 rfl rfl)
theorem dL_law_1569 : decode cL_law 1569 = .ok (.ifCond .eq 21, 3) := dk_153 0 21 (dk_at dksL_law_60 10 rfl rfl)
theorem dL_law_1572 : decode cL_law 1572 = .ok (.dload 6, 2) := dk_24 6 (dk_at dksL_law_60 13 rfl rfl)
theorem dL_law_1574 : decode cL_law 1574 = .ok (.dload 6, 2) := dk_24 6 (dk_at dksL_law_60 15 rfl rfl)
theorem dL_law_1576 : decode cL_law 1576 = .ok (.dcmp .l, 1) := dk_151 (dk_at dksL_law_60 17 rfl rfl)
theorem dL_law_1577 : decode cL_law 1577 = .ok (.ifCond .eq 11, 3) := dk_153 0 11 (dk_at dksL_law_60 18 rfl rfl)
theorem dL_law_1580 : decode cL_law 1580 = .ok (.dload 8, 2) := dk_24 8 (dk_at dksL_law_60 21 rfl rfl)
theorem dL_law_1582 : decode cL_law 1582 = .ok (.dload 8, 2) := dk_24 8 (dk_at dksL_law_61 0 rfl rfl)
theorem dL_law_1584 : decode cL_law 1584 = .ok (.dcmp .l, 1) := dk_151 (dk_at dksL_law_61 2 rfl rfl)
theorem dL_law_1585 : decode cL_law 1585 = .ok (.ifCond .ne 5, 3) := dk_154 0 5 (dk_at dksL_law_61 3 rfl rfl)
theorem dL_law_1588 : decode cL_law 1588 = .ok (.iconst 0, 1) := dk_3 (dk_at dksL_law_61 6 rfl rfl)
theorem dL_law_1589 : decode cL_law 1589 = .ok (.ireturn, 1) := dk_172 (dk_at dksL_law_61 7 rfl rfl)
theorem dL_law_1590 : decode cL_law 1590 = .ok (.goto 588, 3) := dk_167 2 76 (dk_at dksL_law_61 8 rfl rfl)
theorem dL_law_1593 : decode cL_law 1593 = .ok (.aload_n 1, 1) := dk_43 (dk_at dksL_law_61 11 rfl rfl)
theorem dL_law_1594 : decode cL_law 1594 = .ok (.aload_n 0, 1) := dk_42 (dk_at dksL_law_61 12 rfl rfl)
theorem dL_law_1595 : decode cL_law 1595 = .ok (.iload 5, 2) := dk_21 5 (dk_at dksL_law_61 13 rfl rfl)
theorem dL_law_1597 : decode cL_law 1597 = .ok (.iconst 1, 1) := dk_4 (dk_at dksL_law_61 15 rfl rfl)
theorem dL_law_1598 : decode cL_law 1598 = .ok (.iadd, 1) := dk_96 (dk_at dksL_law_61 16 rfl rfl)
theorem dL_law_1599 : decode cL_law 1599 = .ok (.iaload, 1) := dk_46 (dk_at dksL_law_61 17 rfl rfl)
theorem dL_law_1600 : decode cL_law 1600 = .ok (.aload_n 0, 1) := dk_42 (dk_at dksL_law_61 18 rfl rfl)
theorem dL_law_1601 : decode cL_law 1601 = .ok (.iload 5, 2) := dk_21 5 (dk_at dksL_law_61 19 rfl rfl)
theorem dL_law_1603 : decode cL_law 1603 = .ok (.iconst 2, 1) := dk_5 (dk_at dksL_law_61 21 rfl rfl)
theorem dL_law_1604 : decode cL_law 1604 = .ok (.iadd, 1) := dk_96 (dk_at dksL_law_61 22 rfl rfl)
theorem dL_law_1605 : decode cL_law 1605 = .ok (.iaload, 1) := dk_46 (dk_at dksL_law_61 23 rfl rfl)
theorem dL_law_1606 : decode cL_law 1606 = .ok (.aload_n 3, 1) := dk_45 (dk_at dksL_law_62 0 rfl rfl)
theorem dL_law_1607 : decode cL_law 1607 = .ok (.invokestatic 195, 3) := dk_184 0 195 (dk_at dksL_law_62 1 rfl rfl)
theorem dL_law_1610 : decode cL_law 1610 = .ok (.istore 6, 2) := dk_54 6 (dk_at dksL_law_62 4 rfl rfl)
theorem dL_law_1612 : decode cL_law 1612 = .ok (.aload_n 2, 1) := dk_44 (dk_at dksL_law_62 6 rfl rfl)
theorem dL_law_1613 : decode cL_law 1613 = .ok (.aload_n 0, 1) := dk_42 (dk_at dksL_law_62 7 rfl rfl)
theorem dL_law_1614 : decode cL_law 1614 = .ok (.iload 5, 2) := dk_21 5 (dk_at dksL_law_62 8 rfl rfl)
theorem dL_law_1616 : decode cL_law 1616 = .ok (.iconst 1, 1) := dk_4 (dk_at dksL_law_62 10 rfl rfl)
theorem dL_law_1617 : decode cL_law 1617 = .ok (.iadd, 1) := dk_96 (dk_at dksL_law_62 11 rfl rfl)
theorem dL_law_1618 : decode cL_law 1618 = .ok (.iaload, 1) := dk_46 (dk_at dksL_law_62 12 rfl rfl)
theorem dL_law_1619 : decode cL_law 1619 = .ok (.aload_n 0, 1) := dk_42 (dk_at dksL_law_62 13 rfl rfl)
theorem dL_law_1620 : decode cL_law 1620 = .ok (.iload 5, 2) := dk_21 5 (dk_at dksL_law_62 14 rfl rfl)
theorem dL_law_1622 : decode cL_law 1622 = .ok (.iconst 2, 1) := dk_5 (dk_at dksL_law_62 16 rfl rfl)
theorem dL_law_1623 : decode cL_law 1623 = .ok (.iadd, 1) := dk_96 (dk_at dksL_law_62 17 rfl rfl)
theorem dL_law_1624 : decode cL_law 1624 = .ok (.iaload, 1) := dk_46 (dk_at dksL_law_62 18 rfl rfl)
theorem dL_law_1625 : decode cL_law 1625 = .ok (.invokevirtual 197, 3) := dk_182 0 197 (dk_at dksL_law_62 19 rfl rfl)
theorem dL_law_1628 : decode cL_law 1628 = .ok (.istore 7, 2) := dk_54 7 (dk_at dksL_law_62 22 rfl rfl)
theorem dL_law_1630 : decode cL_law 1630 = .ok (.aload_n 2, 1) := dk_44 (dk_at dksL_law_63 0 rfl rfl)
theorem dL_law_1631 : decode cL_law 1631 = .ok (.invokevirtual 111, 3) := dk_182 0 111 (dk_at dksL_law_63 1 rfl rfl)
theorem dL_law_1634 : decode cL_law 1634 = .ok (.iload 6, 2) := dk_21 6 (dk_at dksL_law_63 4 rfl rfl)
theorem dL_law_1636 : decode cL_law 1636 = .ok (.if_icmp .eq 5, 3) := dk_159 0 5 (dk_at dksL_law_63 6 rfl rfl)
theorem dL_law_1639 : decode cL_law 1639 = .ok (.iconst 0, 1) := dk_3 (dk_at dksL_law_63 9 rfl rfl)
theorem dL_law_1640 : decode cL_law 1640 = .ok (.ireturn, 1) := dk_172 (dk_at dksL_law_63 10 rfl rfl)
theorem dL_law_1641 : decode cL_law 1641 = .ok (.iload 6, 2) := dk_21 6 (dk_at dksL_law_63 11 rfl rfl)
theorem dL_law_1643 : decode cL_law 1643 = .ok (.ifCond .ne 15, 3) := dk_154 0 15 (dk_at dksL_law_63 13 rfl rfl)
theorem dL_law_1646 : decode cL_law 1646 = .ok (.aload_n 3, 1) := dk_45 (dk_at dksL_law_63 16 rfl rfl)
theorem dL_law_1647 : decode cL_law 1647 = .ok (.iconst 0, 1) := dk_3 (dk_at dksL_law_63 17 rfl rfl)
theorem dL_law_1648 : decode cL_law 1648 = .ok (.laload, 1) := dk_47 (dk_at dksL_law_63 18 rfl rfl)
theorem dL_law_1649 : decode cL_law 1649 = .ok (.iload 7, 2) := dk_21 7 (dk_at dksL_law_63 19 rfl rfl)
theorem dL_law_1651 : decode cL_law 1651 = .ok (.i2l, 1) := dk_133 (dk_at dksL_law_63 21 rfl rfl)
theorem dL_law_1652 : decode cL_law 1652 = .ok (.lcmp, 1) := dk_148 (dk_at dksL_law_63 22 rfl rfl)
theorem dL_law_1653 : decode cL_law 1653 = .ok (.ifCond .eq 5, 3) := dk_153 0 5 (dk_at dksL_law_64 0 rfl rfl)
theorem dL_law_1656 : decode cL_law 1656 = .ok (.iconst 0, 1) := dk_3 (dk_at dksL_law_64 3 rfl rfl)
theorem dL_law_1657 : decode cL_law 1657 = .ok (.ireturn, 1) := dk_172 (dk_at dksL_law_64 4 rfl rfl)
theorem dL_law_1658 : decode cL_law 1658 = .ok (.goto 520, 3) := dk_167 2 8 (dk_at dksL_law_64 5 rfl rfl)
theorem dL_law_1661 : decode cL_law 1661 = .ok (.aload_n 1, 1) := dk_43 (dk_at dksL_law_64 8 rfl rfl)
theorem dL_law_1662 : decode cL_law 1662 = .ok (.aload_n 0, 1) := dk_42 (dk_at dksL_law_64 9 rfl rfl)
theorem dL_law_1663 : decode cL_law 1663 = .ok (.iload 5, 2) := dk_21 5 (dk_at dksL_law_64 10 rfl rfl)
theorem dL_law_1665 : decode cL_law 1665 = .ok (.iconst 1, 1) := dk_4 (dk_at dksL_law_64 12 rfl rfl)
theorem dL_law_1666 : decode cL_law 1666 = .ok (.iadd, 1) := dk_96 (dk_at dksL_law_64 13 rfl rfl)
theorem dL_law_1667 : decode cL_law 1667 = .ok (.iaload, 1) := dk_46 (dk_at dksL_law_64 14 rfl rfl)
theorem dL_law_1668 : decode cL_law 1668 = .ok (.aload_n 3, 1) := dk_45 (dk_at dksL_law_64 15 rfl rfl)
theorem dL_law_1669 : decode cL_law 1669 = .ok (.invokestatic 198, 3) := dk_184 0 198 (dk_at dksL_law_64 16 rfl rfl)
theorem dL_law_1672 : decode cL_law 1672 = .ok (.istore 6, 2) := dk_54 6 (dk_at dksL_law_64 19 rfl rfl)
theorem dL_law_1674 : decode cL_law 1674 = .ok (.aload_n 2, 1) := dk_44 (dk_at dksL_law_64 21 rfl rfl)
theorem dL_law_1675 : decode cL_law 1675 = .ok (.aload_n 0, 1) := dk_42 (dk_at dksL_law_64 22 rfl rfl)
theorem dL_law_1676 : decode cL_law 1676 = .ok (.iload 5, 2) := dk_21 5 (dk_at dksL_law_65 0 rfl rfl)
theorem dL_law_1678 : decode cL_law 1678 = .ok (.iconst 1, 1) := dk_4 (dk_at dksL_law_65 2 rfl rfl)
theorem dL_law_1679 : decode cL_law 1679 = .ok (.iadd, 1) := dk_96 (dk_at dksL_law_65 3 rfl rfl)
theorem dL_law_1680 : decode cL_law 1680 = .ok (.iaload, 1) := dk_46 (dk_at dksL_law_65 4 rfl rfl)
theorem dL_law_1681 : decode cL_law 1681 = .ok (.invokevirtual 200, 3) := dk_182 0 200 (dk_at dksL_law_65 5 rfl rfl)
theorem dL_law_1684 : decode cL_law 1684 = .ok (.istore 7, 2) := dk_54 7 (dk_at dksL_law_65 8 rfl rfl)
theorem dL_law_1686 : decode cL_law 1686 = .ok (.aload_n 2, 1) := dk_44 (dk_at dksL_law_65 10 rfl rfl)
theorem dL_law_1687 : decode cL_law 1687 = .ok (.invokevirtual 111, 3) := dk_182 0 111 (dk_at dksL_law_65 11 rfl rfl)
theorem dL_law_1690 : decode cL_law 1690 = .ok (.iload 6, 2) := dk_21 6 (dk_at dksL_law_65 14 rfl rfl)
theorem dL_law_1692 : decode cL_law 1692 = .ok (.if_icmp .eq 5, 3) := dk_159 0 5 (dk_at dksL_law_65 16 rfl rfl)
theorem dL_law_1695 : decode cL_law 1695 = .ok (.iconst 0, 1) := dk_3 (dk_at dksL_law_65 19 rfl rfl)
theorem dL_law_1696 : decode cL_law 1696 = .ok (.ireturn, 1) := dk_172 (dk_at dksL_law_65 20 rfl rfl)
theorem dL_law_1697 : decode cL_law 1697 = .ok (.iload 6, 2) := dk_21 6 (dk_at dksL_law_65 21 rfl rfl)
theorem dL_law_1699 : decode cL_law 1699 = .ok (.ifCond .ne 15, 3) := dk_154 0 15 (dk_at dksL_law_66 0 rfl rfl)
theorem dL_law_1702 : decode cL_law 1702 = .ok (.aload_n 3, 1) := dk_45 (dk_at dksL_law_66 3 rfl rfl)
theorem dL_law_1703 : decode cL_law 1703 = .ok (.iconst 0, 1) := dk_3 (dk_at dksL_law_66 4 rfl rfl)
theorem dL_law_1704 : decode cL_law 1704 = .ok (.laload, 1) := dk_47 (dk_at dksL_law_66 5 rfl rfl)
theorem dL_law_1705 : decode cL_law 1705 = .ok (.iload 7, 2) := dk_21 7 (dk_at dksL_law_66 6 rfl rfl)
theorem dL_law_1707 : decode cL_law 1707 = .ok (.i2l, 1) := dk_133 (dk_at dksL_law_66 8 rfl rfl)
theorem dL_law_1708 : decode cL_law 1708 = .ok (.lcmp, 1) := dk_148 (dk_at dksL_law_66 9 rfl rfl)
theorem dL_law_1709 : decode cL_law 1709 = .ok (.ifCond .eq 5, 3) := dk_153 0 5 (dk_at dksL_law_66 10 rfl rfl)
theorem dL_law_1712 : decode cL_law 1712 = .ok (.iconst 0, 1) := dk_3 (dk_at dksL_law_66 13 rfl rfl)
theorem dL_law_1713 : decode cL_law 1713 = .ok (.ireturn, 1) := dk_172 (dk_at dksL_law_66 14 rfl rfl)
theorem dL_law_1714 : decode cL_law 1714 = .ok (.goto 464, 3) := dk_167 1 208 (dk_at dksL_law_66 15 rfl rfl)
theorem dL_law_1717 : decode cL_law 1717 = .ok (.aload_n 1, 1) := dk_43 (dk_at dksL_law_66 18 rfl rfl)
theorem dL_law_1718 : decode cL_law 1718 = .ok (.aload_n 0, 1) := dk_42 (dk_at dksL_law_66 19 rfl rfl)
theorem dL_law_1719 : decode cL_law 1719 = .ok (.iload 5, 2) := dk_21 5 (dk_at dksL_law_66 20 rfl rfl)
theorem dL_law_1721 : decode cL_law 1721 = .ok (.iconst 1, 1) := dk_4 (dk_at dksL_law_66 22 rfl rfl)
theorem dL_law_1722 : decode cL_law 1722 = .ok (.iadd, 1) := dk_96 (dk_at dksL_law_66 23 rfl rfl)
theorem dL_law_1723 : decode cL_law 1723 = .ok (.iaload, 1) := dk_46 (dk_at dksL_law_67 0 rfl rfl)
theorem dL_law_1724 : decode cL_law 1724 = .ok (.aload_n 3, 1) := dk_45 (dk_at dksL_law_67 1 rfl rfl)
theorem dL_law_1725 : decode cL_law 1725 = .ok (.invokestatic 201, 3) := dk_184 0 201 (dk_at dksL_law_67 2 rfl rfl)
theorem dL_law_1728 : decode cL_law 1728 = .ok (.istore 6, 2) := dk_54 6 (dk_at dksL_law_67 5 rfl rfl)
theorem dL_law_1730 : decode cL_law 1730 = .ok (.aload_n 2, 1) := dk_44 (dk_at dksL_law_67 7 rfl rfl)
theorem dL_law_1731 : decode cL_law 1731 = .ok (.aload_n 0, 1) := dk_42 (dk_at dksL_law_67 8 rfl rfl)
theorem dL_law_1732 : decode cL_law 1732 = .ok (.iload 5, 2) := dk_21 5 (dk_at dksL_law_67 9 rfl rfl)
theorem dL_law_1734 : decode cL_law 1734 = .ok (.iconst 1, 1) := dk_4 (dk_at dksL_law_67 11 rfl rfl)
theorem dL_law_1735 : decode cL_law 1735 = .ok (.iadd, 1) := dk_96 (dk_at dksL_law_67 12 rfl rfl)
theorem dL_law_1736 : decode cL_law 1736 = .ok (.iaload, 1) := dk_46 (dk_at dksL_law_67 13 rfl rfl)
theorem dL_law_1737 : decode cL_law 1737 = .ok (.invokevirtual 203, 3) := dk_182 0 203 (dk_at dksL_law_67 14 rfl rfl)
theorem dL_law_1740 : decode cL_law 1740 = .ok (.istore 7, 2) := dk_54 7 (dk_at dksL_law_67 17 rfl rfl)
theorem dL_law_1742 : decode cL_law 1742 = .ok (.aload_n 2, 1) := dk_44 (dk_at dksL_law_67 19 rfl rfl)
theorem dL_law_1743 : decode cL_law 1743 = .ok (.invokevirtual 111, 3) := dk_182 0 111 (dk_at dksL_law_67 20 rfl rfl)
theorem dL_law_1746 : decode cL_law 1746 = .ok (.iload 6, 2) := dk_21 6 (dk_at dksL_law_68 0 rfl rfl)
theorem dL_law_1748 : decode cL_law 1748 = .ok (.if_icmp .eq 5, 3) := dk_159 0 5 (dk_at dksL_law_68 2 rfl rfl)
theorem dL_law_1751 : decode cL_law 1751 = .ok (.iconst 0, 1) := dk_3 (dk_at dksL_law_68 5 rfl rfl)
theorem dL_law_1752 : decode cL_law 1752 = .ok (.ireturn, 1) := dk_172 (dk_at dksL_law_68 6 rfl rfl)
theorem dL_law_1753 : decode cL_law 1753 = .ok (.iload 6, 2) := dk_21 6 (dk_at dksL_law_68 7 rfl rfl)
theorem dL_law_1755 : decode cL_law 1755 = .ok (.ifCond .ne 15, 3) := dk_154 0 15 (dk_at dksL_law_68 9 rfl rfl)
theorem dL_law_1758 : decode cL_law 1758 = .ok (.aload_n 3, 1) := dk_45 (dk_at dksL_law_68 12 rfl rfl)
theorem dL_law_1759 : decode cL_law 1759 = .ok (.iconst 0, 1) := dk_3 (dk_at dksL_law_68 13 rfl rfl)
theorem dL_law_1760 : decode cL_law 1760 = .ok (.laload, 1) := dk_47 (dk_at dksL_law_68 14 rfl rfl)
theorem dL_law_1761 : decode cL_law 1761 = .ok (.iload 7, 2) := dk_21 7 (dk_at dksL_law_68 15 rfl rfl)
theorem dL_law_1763 : decode cL_law 1763 = .ok (.i2l, 1) := dk_133 (dk_at dksL_law_68 17 rfl rfl)
theorem dL_law_1764 : decode cL_law 1764 = .ok (.lcmp, 1) := dk_148 (dk_at dksL_law_68 18 rfl rfl)
theorem dL_law_1765 : decode cL_law 1765 = .ok (.ifCond .eq 5, 3) := dk_153 0 5 (dk_at dksL_law_68 19 rfl rfl)
theorem dL_law_1768 : decode cL_law 1768 = .ok (.iconst 0, 1) := dk_3 (dk_at dksL_law_68 22 rfl rfl)
theorem dL_law_1769 : decode cL_law 1769 = .ok (.ireturn, 1) := dk_172 (dk_at dksL_law_68 23 rfl rfl)
theorem dL_law_1770 : decode cL_law 1770 = .ok (.goto 408, 3) := dk_167 1 152 (dk_at dksL_law_69 0 rfl rfl)
theorem dL_law_1773 : decode cL_law 1773 = .ok (.aload_n 1, 1) := dk_43 (dk_at dksL_law_69 3 rfl rfl)
theorem dL_law_1774 : decode cL_law 1774 = .ok (.aload_n 0, 1) := dk_42 (dk_at dksL_law_69 4 rfl rfl)
theorem dL_law_1775 : decode cL_law 1775 = .ok (.iload 5, 2) := dk_21 5 (dk_at dksL_law_69 5 rfl rfl)
theorem dL_law_1777 : decode cL_law 1777 = .ok (.iconst 1, 1) := dk_4 (dk_at dksL_law_69 7 rfl rfl)
theorem dL_law_1778 : decode cL_law 1778 = .ok (.iadd, 1) := dk_96 (dk_at dksL_law_69 8 rfl rfl)
theorem dL_law_1779 : decode cL_law 1779 = .ok (.iaload, 1) := dk_46 (dk_at dksL_law_69 9 rfl rfl)
theorem dL_law_1780 : decode cL_law 1780 = .ok (.aload_n 3, 1) := dk_45 (dk_at dksL_law_69 10 rfl rfl)
theorem dL_law_1781 : decode cL_law 1781 = .ok (.invokestatic 204, 3) := dk_184 0 204 (dk_at dksL_law_69 11 rfl rfl)
theorem dL_law_1784 : decode cL_law 1784 = .ok (.istore 6, 2) := dk_54 6 (dk_at dksL_law_69 14 rfl rfl)
theorem dL_law_1786 : decode cL_law 1786 = .ok (.aload_n 2, 1) := dk_44 (dk_at dksL_law_69 16 rfl rfl)
theorem dL_law_1787 : decode cL_law 1787 = .ok (.aload_n 0, 1) := dk_42 (dk_at dksL_law_69 17 rfl rfl)
theorem dL_law_1788 : decode cL_law 1788 = .ok (.iload 5, 2) := dk_21 5 (dk_at dksL_law_69 18 rfl rfl)
theorem dL_law_1790 : decode cL_law 1790 = .ok (.iconst 1, 1) := dk_4 (dk_at dksL_law_69 20 rfl rfl)
theorem dL_law_1791 : decode cL_law 1791 = .ok (.iadd, 1) := dk_96 (dk_at dksL_law_69 21 rfl rfl)
theorem dL_law_1792 : decode cL_law 1792 = .ok (.iaload, 1) := dk_46 (dk_at dksL_law_69 22 rfl rfl)
theorem dL_law_1793 : decode cL_law 1793 = .ok (.invokevirtual 206, 3) := dk_182 0 206 (dk_at dksL_law_70 0 rfl rfl)
theorem dL_law_1796 : decode cL_law 1796 = .ok (.istore 7, 2) := dk_54 7 (dk_at dksL_law_70 3 rfl rfl)
theorem dL_law_1798 : decode cL_law 1798 = .ok (.aload_n 2, 1) := dk_44 (dk_at dksL_law_70 5 rfl rfl)
theorem dL_law_1799 : decode cL_law 1799 = .ok (.invokevirtual 111, 3) := dk_182 0 111 (dk_at dksL_law_70 6 rfl rfl)
theorem dL_law_1802 : decode cL_law 1802 = .ok (.iload 6, 2) := dk_21 6 (dk_at dksL_law_70 9 rfl rfl)
theorem dL_law_1804 : decode cL_law 1804 = .ok (.if_icmp .eq 5, 3) := dk_159 0 5 (dk_at dksL_law_70 11 rfl rfl)
theorem dL_law_1807 : decode cL_law 1807 = .ok (.iconst 0, 1) := dk_3 (dk_at dksL_law_70 14 rfl rfl)
theorem dL_law_1808 : decode cL_law 1808 = .ok (.ireturn, 1) := dk_172 (dk_at dksL_law_70 15 rfl rfl)
theorem dL_law_1809 : decode cL_law 1809 = .ok (.iload 6, 2) := dk_21 6 (dk_at dksL_law_70 16 rfl rfl)
theorem dL_law_1811 : decode cL_law 1811 = .ok (.ifCond .ne 15, 3) := dk_154 0 15 (dk_at dksL_law_70 18 rfl rfl)
theorem dL_law_1814 : decode cL_law 1814 = .ok (.aload_n 3, 1) := dk_45 (dk_at dksL_law_70 21 rfl rfl)
theorem dL_law_1815 : decode cL_law 1815 = .ok (.iconst 0, 1) := dk_3 (dk_at dksL_law_70 22 rfl rfl)
theorem dL_law_1816 : decode cL_law 1816 = .ok (.laload, 1) := dk_47 (dk_at dksL_law_70 23 rfl rfl)
theorem dL_law_1817 : decode cL_law 1817 = .ok (.iload 7, 2) := dk_21 7 (dk_at dksL_law_71 0 rfl rfl)
theorem dL_law_1819 : decode cL_law 1819 = .ok (.i2l, 1) := dk_133 (dk_at dksL_law_71 2 rfl rfl)
theorem dL_law_1820 : decode cL_law 1820 = .ok (.lcmp, 1) := dk_148 (dk_at dksL_law_71 3 rfl rfl)
theorem dL_law_1821 : decode cL_law 1821 = .ok (.ifCond .eq 5, 3) := dk_153 0 5 (dk_at dksL_law_71 4 rfl rfl)
theorem dL_law_1824 : decode cL_law 1824 = .ok (.iconst 0, 1) := dk_3 (dk_at dksL_law_71 7 rfl rfl)
theorem dL_law_1825 : decode cL_law 1825 = .ok (.ireturn, 1) := dk_172 (dk_at dksL_law_71 8 rfl rfl)
theorem dL_law_1826 : decode cL_law 1826 = .ok (.goto 352, 3) := dk_167 1 96 (dk_at dksL_law_71 9 rfl rfl)
theorem dL_law_1829 : decode cL_law 1829 = .ok (.aload_n 1, 1) := dk_43 (dk_at dksL_law_71 12 rfl rfl)
theorem dL_law_1830 : decode cL_law 1830 = .ok (.aload_n 0, 1) := dk_42 (dk_at dksL_law_71 13 rfl rfl)
theorem dL_law_1831 : decode cL_law 1831 = .ok (.iload 5, 2) := dk_21 5 (dk_at dksL_law_71 14 rfl rfl)
theorem dL_law_1833 : decode cL_law 1833 = .ok (.iconst 1, 1) := dk_4 (dk_at dksL_law_71 16 rfl rfl)
theorem dL_law_1834 : decode cL_law 1834 = .ok (.iadd, 1) := dk_96 (dk_at dksL_law_71 17 rfl rfl)
theorem dL_law_1835 : decode cL_law 1835 = .ok (.iaload, 1) := dk_46 (dk_at dksL_law_71 18 rfl rfl)
theorem dL_law_1836 : decode cL_law 1836 = .ok (.aload_n 0, 1) := dk_42 (dk_at dksL_law_71 19 rfl rfl)
theorem dL_law_1837 : decode cL_law 1837 = .ok (.iload 5, 2) := dk_21 5 (dk_at dksL_law_71 20 rfl rfl)
theorem dL_law_1839 : decode cL_law 1839 = .ok (.iconst 2, 1) := dk_5 (dk_at dksL_law_71 22 rfl rfl)
theorem dL_law_1840 : decode cL_law 1840 = .ok (.iadd, 1) := dk_96 (dk_at dksL_law_71 23 rfl rfl)
theorem dL_law_1841 : decode cL_law 1841 = .ok (.iaload, 1) := dk_46 (dk_at dksL_law_72 0 rfl rfl)
theorem dL_law_1842 : decode cL_law 1842 = .ok (.aload_n 3, 1) := dk_45 (dk_at dksL_law_72 1 rfl rfl)
theorem dL_law_1843 : decode cL_law 1843 = .ok (.invokestatic 207, 3) := dk_184 0 207 (dk_at dksL_law_72 2 rfl rfl)
theorem dL_law_1846 : decode cL_law 1846 = .ok (.istore 6, 2) := dk_54 6 (dk_at dksL_law_72 5 rfl rfl)
theorem dL_law_1848 : decode cL_law 1848 = .ok (.aload_n 2, 1) := dk_44 (dk_at dksL_law_72 7 rfl rfl)
theorem dL_law_1849 : decode cL_law 1849 = .ok (.aload_n 0, 1) := dk_42 (dk_at dksL_law_72 8 rfl rfl)
theorem dL_law_1850 : decode cL_law 1850 = .ok (.iload 5, 2) := dk_21 5 (dk_at dksL_law_72 9 rfl rfl)
theorem dL_law_1852 : decode cL_law 1852 = .ok (.iconst 1, 1) := dk_4 (dk_at dksL_law_72 11 rfl rfl)
theorem dL_law_1853 : decode cL_law 1853 = .ok (.iadd, 1) := dk_96 (dk_at dksL_law_72 12 rfl rfl)
theorem dL_law_1854 : decode cL_law 1854 = .ok (.iaload, 1) := dk_46 (dk_at dksL_law_72 13 rfl rfl)
theorem dL_law_1855 : decode cL_law 1855 = .ok (.aload_n 0, 1) := dk_42 (dk_at dksL_law_72 14 rfl rfl)
theorem dL_law_1856 : decode cL_law 1856 = .ok (.iload 5, 2) := dk_21 5 (dk_at dksL_law_72 15 rfl rfl)
theorem dL_law_1858 : decode cL_law 1858 = .ok (.iconst 2, 1) := dk_5 (dk_at dksL_law_72 17 rfl rfl)
theorem dL_law_1859 : decode cL_law 1859 = .ok (.iadd, 1) := dk_96 (dk_at dksL_law_72 18 rfl rfl)
theorem dL_law_1860 : decode cL_law 1860 = .ok (.iaload, 1) := dk_46 (dk_at dksL_law_72 19 rfl rfl)
theorem dL_law_1861 : decode cL_law 1861 = .ok (.invokevirtual 209, 3) := dk_182 0 209 (dk_at dksL_law_72 20 rfl rfl)
theorem dL_law_1864 : decode cL_law 1864 = .ok (.istore 7, 2) := dk_54 7 (dk_at dksL_law_73 0 rfl rfl)
theorem dL_law_1866 : decode cL_law 1866 = .ok (.aload_n 2, 1) := dk_44 (dk_at dksL_law_73 2 rfl rfl)
theorem dL_law_1867 : decode cL_law 1867 = .ok (.invokevirtual 111, 3) := dk_182 0 111 (dk_at dksL_law_73 3 rfl rfl)
theorem dL_law_1870 : decode cL_law 1870 = .ok (.iload 6, 2) := dk_21 6 (dk_at dksL_law_73 6 rfl rfl)
theorem dL_law_1872 : decode cL_law 1872 = .ok (.if_icmp .eq 5, 3) := dk_159 0 5 (dk_at dksL_law_73 8 rfl rfl)
theorem dL_law_1875 : decode cL_law 1875 = .ok (.iconst 0, 1) := dk_3 (dk_at dksL_law_73 11 rfl rfl)
theorem dL_law_1876 : decode cL_law 1876 = .ok (.ireturn, 1) := dk_172 (dk_at dksL_law_73 12 rfl rfl)
theorem dL_law_1877 : decode cL_law 1877 = .ok (.iload 6, 2) := dk_21 6 (dk_at dksL_law_73 13 rfl rfl)
theorem dL_law_1879 : decode cL_law 1879 = .ok (.ifCond .ne 15, 3) := dk_154 0 15 (dk_at dksL_law_73 15 rfl rfl)
theorem dL_law_1882 : decode cL_law 1882 = .ok (.aload_n 3, 1) := dk_45 (dk_at dksL_law_73 18 rfl rfl)
theorem dL_law_1883 : decode cL_law 1883 = .ok (.iconst 0, 1) := dk_3 (dk_at dksL_law_73 19 rfl rfl)
theorem dL_law_1884 : decode cL_law 1884 = .ok (.laload, 1) := dk_47 (dk_at dksL_law_73 20 rfl rfl)
theorem dL_law_1885 : decode cL_law 1885 = .ok (.iload 7, 2) := dk_21 7 (dk_at dksL_law_73 21 rfl rfl)
theorem dL_law_1887 : decode cL_law 1887 = .ok (.i2l, 1) := dk_133 (dk_at dksL_law_73 23 rfl rfl)
theorem dL_law_1888 : decode cL_law 1888 = .ok (.lcmp, 1) := dk_148 (dk_at dksL_law_74 0 rfl rfl)
theorem dL_law_1889 : decode cL_law 1889 = .ok (.ifCond .eq 5, 3) := dk_153 0 5 (dk_at dksL_law_74 1 rfl rfl)
theorem dL_law_1892 : decode cL_law 1892 = .ok (.iconst 0, 1) := dk_3 (dk_at dksL_law_74 4 rfl rfl)
theorem dL_law_1893 : decode cL_law 1893 = .ok (.ireturn, 1) := dk_172 (dk_at dksL_law_74 5 rfl rfl)
theorem dL_law_1894 : decode cL_law 1894 = .ok (.goto 284, 3) := dk_167 1 28 (dk_at dksL_law_74 6 rfl rfl)
theorem dL_law_1897 : decode cL_law 1897 = .ok (.aload_n 1, 1) := dk_43 (dk_at dksL_law_74 9 rfl rfl)
theorem dL_law_1898 : decode cL_law 1898 = .ok (.aload_n 0, 1) := dk_42 (dk_at dksL_law_74 10 rfl rfl)
theorem dL_law_1899 : decode cL_law 1899 = .ok (.iload 5, 2) := dk_21 5 (dk_at dksL_law_74 11 rfl rfl)
theorem dL_law_1901 : decode cL_law 1901 = .ok (.iconst 1, 1) := dk_4 (dk_at dksL_law_74 13 rfl rfl)
theorem dL_law_1902 : decode cL_law 1902 = .ok (.iadd, 1) := dk_96 (dk_at dksL_law_74 14 rfl rfl)
theorem dL_law_1903 : decode cL_law 1903 = .ok (.iaload, 1) := dk_46 (dk_at dksL_law_74 15 rfl rfl)
theorem dL_law_1904 : decode cL_law 1904 = .ok (.aload_n 0, 1) := dk_42 (dk_at dksL_law_74 16 rfl rfl)
theorem dL_law_1905 : decode cL_law 1905 = .ok (.iload 5, 2) := dk_21 5 (dk_at dksL_law_74 17 rfl rfl)
theorem dL_law_1907 : decode cL_law 1907 = .ok (.iconst 2, 1) := dk_5 (dk_at dksL_law_74 19 rfl rfl)
theorem dL_law_1908 : decode cL_law 1908 = .ok (.iadd, 1) := dk_96 (dk_at dksL_law_74 20 rfl rfl)
theorem dL_law_1909 : decode cL_law 1909 = .ok (.iaload, 1) := dk_46 (dk_at dksL_law_74 21 rfl rfl)
theorem dL_law_1910 : decode cL_law 1910 = .ok (.aload_n 3, 1) := dk_45 (dk_at dksL_law_74 22 rfl rfl)
theorem dL_law_1911 : decode cL_law 1911 = .ok (.invokestatic 210, 3) := dk_184 0 210 (dk_at dksL_law_75 0 rfl rfl)
theorem dL_law_1914 : decode cL_law 1914 = .ok (.istore 6, 2) := dk_54 6 (dk_at dksL_law_75 3 rfl rfl)
theorem dL_law_1916 : decode cL_law 1916 = .ok (.aload_n 2, 1) := dk_44 (dk_at dksL_law_75 5 rfl rfl)
theorem dL_law_1917 : decode cL_law 1917 = .ok (.aload_n 0, 1) := dk_42 (dk_at dksL_law_75 6 rfl rfl)
theorem dL_law_1918 : decode cL_law 1918 = .ok (.iload 5, 2) := dk_21 5 (dk_at dksL_law_75 7 rfl rfl)
theorem dL_law_1920 : decode cL_law 1920 = .ok (.iconst 1, 1) := dk_4 (dk_at dksL_law_75 9 rfl rfl)
theorem dL_law_1921 : decode cL_law 1921 = .ok (.iadd, 1) := dk_96 (dk_at dksL_law_75 10 rfl rfl)
theorem dL_law_1922 : decode cL_law 1922 = .ok (.iaload, 1) := dk_46 (dk_at dksL_law_75 11 rfl rfl)
theorem dL_law_1923 : decode cL_law 1923 = .ok (.aload_n 0, 1) := dk_42 (dk_at dksL_law_75 12 rfl rfl)
theorem dL_law_1924 : decode cL_law 1924 = .ok (.iload 5, 2) := dk_21 5 (dk_at dksL_law_75 13 rfl rfl)
theorem dL_law_1926 : decode cL_law 1926 = .ok (.iconst 2, 1) := dk_5 (dk_at dksL_law_75 15 rfl rfl)
theorem dL_law_1927 : decode cL_law 1927 = .ok (.iadd, 1) := dk_96 (dk_at dksL_law_75 16 rfl rfl)
theorem dL_law_1928 : decode cL_law 1928 = .ok (.iaload, 1) := dk_46 (dk_at dksL_law_75 17 rfl rfl)
theorem dL_law_1929 : decode cL_law 1929 = .ok (.invokevirtual 212, 3) := dk_182 0 212 (dk_at dksL_law_75 18 rfl rfl)
theorem dL_law_1932 : decode cL_law 1932 = .ok (.istore 7, 2) := dk_54 7 (dk_at dksL_law_75 21 rfl rfl)
theorem dL_law_1934 : decode cL_law 1934 = .ok (.aload_n 2, 1) := dk_44 (dk_at dksL_law_75 23 rfl rfl)
theorem dL_law_1935 : decode cL_law 1935 = .ok (.invokevirtual 111, 3) := dk_182 0 111 (dk_at dksL_law_76 0 rfl rfl)
theorem dL_law_1938 : decode cL_law 1938 = .ok (.iload 6, 2) := dk_21 6 (dk_at dksL_law_76 3 rfl rfl)
theorem dL_law_1940 : decode cL_law 1940 = .ok (.if_icmp .eq 5, 3) := dk_159 0 5 (dk_at dksL_law_76 5 rfl rfl)
theorem dL_law_1943 : decode cL_law 1943 = .ok (.iconst 0, 1) := dk_3 (dk_at dksL_law_76 8 rfl rfl)
theorem dL_law_1944 : decode cL_law 1944 = .ok (.ireturn, 1) := dk_172 (dk_at dksL_law_76 9 rfl rfl)
theorem dL_law_1945 : decode cL_law 1945 = .ok (.iload 6, 2) := dk_21 6 (dk_at dksL_law_76 10 rfl rfl)
theorem dL_law_1947 : decode cL_law 1947 = .ok (.ifCond .ne 15, 3) := dk_154 0 15 (dk_at dksL_law_76 12 rfl rfl)
theorem dL_law_1950 : decode cL_law 1950 = .ok (.aload_n 3, 1) := dk_45 (dk_at dksL_law_76 15 rfl rfl)
theorem dL_law_1951 : decode cL_law 1951 = .ok (.iconst 0, 1) := dk_3 (dk_at dksL_law_76 16 rfl rfl)
theorem dL_law_1952 : decode cL_law 1952 = .ok (.laload, 1) := dk_47 (dk_at dksL_law_76 17 rfl rfl)
theorem dL_law_1953 : decode cL_law 1953 = .ok (.iload 7, 2) := dk_21 7 (dk_at dksL_law_76 18 rfl rfl)
theorem dL_law_1955 : decode cL_law 1955 = .ok (.i2l, 1) := dk_133 (dk_at dksL_law_76 20 rfl rfl)
theorem dL_law_1956 : decode cL_law 1956 = .ok (.lcmp, 1) := dk_148 (dk_at dksL_law_76 21 rfl rfl)
theorem dL_law_1957 : decode cL_law 1957 = .ok (.ifCond .eq 5, 3) := dk_153 0 5 (dk_at dksL_law_77 0 rfl rfl)
theorem dL_law_1960 : decode cL_law 1960 = .ok (.iconst 0, 1) := dk_3 (dk_at dksL_law_77 3 rfl rfl)
theorem dL_law_1961 : decode cL_law 1961 = .ok (.ireturn, 1) := dk_172 (dk_at dksL_law_77 4 rfl rfl)
theorem dL_law_1962 : decode cL_law 1962 = .ok (.goto 216, 3) := dk_167 0 216 (dk_at dksL_law_77 5 rfl rfl)
theorem dL_law_1965 : decode cL_law 1965 = .ok (.aload_n 1, 1) := dk_43 (dk_at dksL_law_77 8 rfl rfl)
theorem dL_law_1966 : decode cL_law 1966 = .ok (.invokevirtual 213, 3) := dk_182 0 213 (dk_at dksL_law_77 9 rfl rfl)
theorem dL_law_1969 : decode cL_law 1969 = .ok (.aload_n 2, 1) := dk_44 (dk_at dksL_law_77 12 rfl rfl)
theorem dL_law_1970 : decode cL_law 1970 = .ok (.invokevirtual 216, 3) := dk_182 0 216 (dk_at dksL_law_77 13 rfl rfl)
theorem dL_law_1973 : decode cL_law 1973 = .ok (.if_icmp .eq 205, 3) := dk_159 0 205 (dk_at dksL_law_77 16 rfl rfl)
theorem dL_law_1976 : decode cL_law 1976 = .ok (.iconst 0, 1) := dk_3 (dk_at dksL_law_77 19 rfl rfl)
theorem dL_law_1977 : decode cL_law 1977 = .ok (.ireturn, 1) := dk_172 (dk_at dksL_law_77 20 rfl rfl)
theorem dL_law_1978 : decode cL_law 1978 = .ok (.aload_n 1, 1) := dk_43 (dk_at dksL_law_77 21 rfl rfl)
theorem dL_law_1979 : decode cL_law 1979 = .ok (.invokevirtual 217, 3) := dk_182 0 217 (dk_at dksL_law_78 0 rfl rfl)
theorem dL_law_1982 : decode cL_law 1982 = .ok (.aload_n 2, 1) := dk_44 (dk_at dksL_law_78 3 rfl rfl)
theorem dL_law_1983 : decode cL_law 1983 = .ok (.invokevirtual 220, 3) := dk_182 0 220 (dk_at dksL_law_78 4 rfl rfl)
theorem dL_law_1986 : decode cL_law 1986 = .ok (.if_icmp .eq 192, 3) := dk_159 0 192 (dk_at dksL_law_78 7 rfl rfl)
theorem dL_law_1989 : decode cL_law 1989 = .ok (.iconst 0, 1) := dk_3 (dk_at dksL_law_78 10 rfl rfl)
theorem dL_law_1990 : decode cL_law 1990 = .ok (.ireturn, 1) := dk_172 (dk_at dksL_law_78 11 rfl rfl)
theorem dL_law_1991 : decode cL_law 1991 = .ok (.aload_n 1, 1) := dk_43 (dk_at dksL_law_78 12 rfl rfl)
theorem dL_law_1992 : decode cL_law 1992 = .ok (.aload_n 0, 1) := dk_42 (dk_at dksL_law_78 13 rfl rfl)
theorem dL_law_1993 : decode cL_law 1993 = .ok (.iload 5, 2) := dk_21 5 (dk_at dksL_law_78 14 rfl rfl)
theorem dL_law_1995 : decode cL_law 1995 = .ok (.iconst 1, 1) := dk_4 (dk_at dksL_law_78 16 rfl rfl)
theorem dL_law_1996 : decode cL_law 1996 = .ok (.iadd, 1) := dk_96 (dk_at dksL_law_78 17 rfl rfl)
theorem dL_law_1997 : decode cL_law 1997 = .ok (.iaload, 1) := dk_46 (dk_at dksL_law_78 18 rfl rfl)
theorem dL_law_1998 : decode cL_law 1998 = .ok (.aload_n 3, 1) := dk_45 (dk_at dksL_law_78 19 rfl rfl)
theorem dL_law_1999 : decode cL_law 1999 = .ok (.invokestatic 221, 3) := dk_184 0 221 (dk_at dksL_law_78 20 rfl rfl)
theorem dL_law_2002 : decode cL_law 2002 = .ok (.istore 6, 2) := dk_54 6 (dk_at dksL_law_79 0 rfl rfl)
theorem dL_law_2004 : decode cL_law 2004 = .ok (.aload_n 2, 1) := dk_44 (dk_at dksL_law_79 2 rfl rfl)
theorem dL_law_2005 : decode cL_law 2005 = .ok (.aload_n 0, 1) := dk_42 (dk_at dksL_law_79 3 rfl rfl)
theorem dL_law_2006 : decode cL_law 2006 = .ok (.iload 5, 2) := dk_21 5 (dk_at dksL_law_79 4 rfl rfl)
theorem dL_law_2008 : decode cL_law 2008 = .ok (.iconst 1, 1) := dk_4 (dk_at dksL_law_79 6 rfl rfl)
theorem dL_law_2009 : decode cL_law 2009 = .ok (.iadd, 1) := dk_96 (dk_at dksL_law_79 7 rfl rfl)
theorem dL_law_2010 : decode cL_law 2010 = .ok (.iaload, 1) := dk_46 (dk_at dksL_law_79 8 rfl rfl)
theorem dL_law_2011 : decode cL_law 2011 = .ok (.invokevirtual 223, 3) := dk_182 0 223 (dk_at dksL_law_79 9 rfl rfl)
theorem dL_law_2014 : decode cL_law 2014 = .ok (.istore 7, 2) := dk_54 7 (dk_at dksL_law_79 12 rfl rfl)
theorem dL_law_2016 : decode cL_law 2016 = .ok (.aload_n 2, 1) := dk_44 (dk_at dksL_law_79 14 rfl rfl)
theorem dL_law_2017 : decode cL_law 2017 = .ok (.invokevirtual 111, 3) := dk_182 0 111 (dk_at dksL_law_79 15 rfl rfl)
theorem dL_law_2020 : decode cL_law 2020 = .ok (.iload 6, 2) := dk_21 6 (dk_at dksL_law_79 18 rfl rfl)
theorem dL_law_2022 : decode cL_law 2022 = .ok (.if_icmp .eq 5, 3) := dk_159 0 5 (dk_at dksL_law_79 20 rfl rfl)
theorem dL_law_2025 : decode cL_law 2025 = .ok (.iconst 0, 1) := dk_3 (dk_at dksL_law_79 23 rfl rfl)
theorem dL_law_2026 : decode cL_law 2026 = .ok (.ireturn, 1) := dk_172 (dk_at dksL_law_80 0 rfl rfl)
theorem dL_law_2027 : decode cL_law 2027 = .ok (.iload 6, 2) := dk_21 6 (dk_at dksL_law_80 1 rfl rfl)
theorem dL_law_2029 : decode cL_law 2029 = .ok (.ifCond .ne 15, 3) := dk_154 0 15 (dk_at dksL_law_80 3 rfl rfl)
theorem dL_law_2032 : decode cL_law 2032 = .ok (.aload_n 3, 1) := dk_45 (dk_at dksL_law_80 6 rfl rfl)
theorem dL_law_2033 : decode cL_law 2033 = .ok (.iconst 0, 1) := dk_3 (dk_at dksL_law_80 7 rfl rfl)
theorem dL_law_2034 : decode cL_law 2034 = .ok (.laload, 1) := dk_47 (dk_at dksL_law_80 8 rfl rfl)
theorem dL_law_2035 : decode cL_law 2035 = .ok (.iload 7, 2) := dk_21 7 (dk_at dksL_law_80 9 rfl rfl)
theorem dL_law_2037 : decode cL_law 2037 = .ok (.i2l, 1) := dk_133 (dk_at dksL_law_80 11 rfl rfl)
theorem dL_law_2038 : decode cL_law 2038 = .ok (.lcmp, 1) := dk_148 (dk_at dksL_law_80 12 rfl rfl)
theorem dL_law_2039 : decode cL_law 2039 = .ok (.ifCond .eq 5, 3) := dk_153 0 5 (dk_at dksL_law_80 13 rfl rfl)
theorem dL_law_2042 : decode cL_law 2042 = .ok (.iconst 0, 1) := dk_3 (dk_at dksL_law_80 16 rfl rfl)
theorem dL_law_2043 : decode cL_law 2043 = .ok (.ireturn, 1) := dk_172 (dk_at dksL_law_80 17 rfl rfl)
theorem dL_law_2044 : decode cL_law 2044 = .ok (.goto 134, 3) := dk_167 0 134 (dk_at dksL_law_80 18 rfl rfl)
theorem dL_law_2047 : decode cL_law 2047 = .ok (.aload_n 1, 1) := dk_43 (dk_at dksL_law_80 21 rfl rfl)
theorem dL_law_2048 : decode cL_law 2048 = .ok (.aload_n 0, 1) := dk_42 (dk_at dksL_law_80 22 rfl rfl)
theorem dL_law_2049 : decode cL_law 2049 = .ok (.iload 5, 2) := dk_21 5 (dk_at dksL_law_81 0 rfl rfl)
theorem dL_law_2051 : decode cL_law 2051 = .ok (.iconst 1, 1) := dk_4 (dk_at dksL_law_81 2 rfl rfl)
theorem dL_law_2052 : decode cL_law 2052 = .ok (.iadd, 1) := dk_96 (dk_at dksL_law_81 3 rfl rfl)
theorem dL_law_2053 : decode cL_law 2053 = .ok (.iaload, 1) := dk_46 (dk_at dksL_law_81 4 rfl rfl)
theorem dL_law_2054 : decode cL_law 2054 = .ok (.aload_n 3, 1) := dk_45 (dk_at dksL_law_81 5 rfl rfl)
theorem dL_law_2055 : decode cL_law 2055 = .ok (.invokestatic 224, 3) := dk_184 0 224 (dk_at dksL_law_81 6 rfl rfl)
theorem dL_law_2058 : decode cL_law 2058 = .ok (.istore 6, 2) := dk_54 6 (dk_at dksL_law_81 9 rfl rfl)
theorem dL_law_2060 : decode cL_law 2060 = .ok (.aload_n 2, 1) := dk_44 (dk_at dksL_law_81 11 rfl rfl)
theorem dL_law_2061 : decode cL_law 2061 = .ok (.aload_n 0, 1) := dk_42 (dk_at dksL_law_81 12 rfl rfl)
theorem dL_law_2062 : decode cL_law 2062 = .ok (.iload 5, 2) := dk_21 5 (dk_at dksL_law_81 13 rfl rfl)
theorem dL_law_2064 : decode cL_law 2064 = .ok (.iconst 1, 1) := dk_4 (dk_at dksL_law_81 15 rfl rfl)
theorem dL_law_2065 : decode cL_law 2065 = .ok (.iadd, 1) := dk_96 (dk_at dksL_law_81 16 rfl rfl)
theorem dL_law_2066 : decode cL_law 2066 = .ok (.iaload, 1) := dk_46 (dk_at dksL_law_81 17 rfl rfl)
theorem dL_law_2067 : decode cL_law 2067 = .ok (.invokevirtual 226, 3) := dk_182 0 226 (dk_at dksL_law_81 18 rfl rfl)
theorem dL_law_2070 : decode cL_law 2070 = .ok (.istore 7, 2) := dk_54 7 (dk_at dksL_law_81 21 rfl rfl)
theorem dL_law_2072 : decode cL_law 2072 = .ok (.aload_n 2, 1) := dk_44 (dk_at dksL_law_81 23 rfl rfl)
theorem dL_law_2073 : decode cL_law 2073 = .ok (.invokevirtual 111, 3) := dk_182 0 111 (dk_at dksL_law_82 0 rfl rfl)
theorem dL_law_2076 : decode cL_law 2076 = .ok (.iload 6, 2) := dk_21 6 (dk_at dksL_law_82 3 rfl rfl)
theorem dL_law_2078 : decode cL_law 2078 = .ok (.if_icmp .eq 5, 3) := dk_159 0 5 (dk_at dksL_law_82 5 rfl rfl)
theorem dL_law_2081 : decode cL_law 2081 = .ok (.iconst 0, 1) := dk_3 (dk_at dksL_law_82 8 rfl rfl)
theorem dL_law_2082 : decode cL_law 2082 = .ok (.ireturn, 1) := dk_172 (dk_at dksL_law_82 9 rfl rfl)
theorem dL_law_2083 : decode cL_law 2083 = .ok (.iload 6, 2) := dk_21 6 (dk_at dksL_law_82 10 rfl rfl)
theorem dL_law_2085 : decode cL_law 2085 = .ok (.ifCond .ne 15, 3) := dk_154 0 15 (dk_at dksL_law_82 12 rfl rfl)
theorem dL_law_2088 : decode cL_law 2088 = .ok (.aload_n 3, 1) := dk_45 (dk_at dksL_law_82 15 rfl rfl)
theorem dL_law_2089 : decode cL_law 2089 = .ok (.iconst 0, 1) := dk_3 (dk_at dksL_law_82 16 rfl rfl)
theorem dL_law_2090 : decode cL_law 2090 = .ok (.laload, 1) := dk_47 (dk_at dksL_law_82 17 rfl rfl)
theorem dL_law_2091 : decode cL_law 2091 = .ok (.iload 7, 2) := dk_21 7 (dk_at dksL_law_82 18 rfl rfl)
theorem dL_law_2093 : decode cL_law 2093 = .ok (.i2l, 1) := dk_133 (dk_at dksL_law_82 20 rfl rfl)
theorem dL_law_2094 : decode cL_law 2094 = .ok (.lcmp, 1) := dk_148 (dk_at dksL_law_82 21 rfl rfl)
theorem dL_law_2095 : decode cL_law 2095 = .ok (.ifCond .eq 5, 3) := dk_153 0 5 (dk_at dksL_law_83 0 rfl rfl)
theorem dL_law_2098 : decode cL_law 2098 = .ok (.iconst 0, 1) := dk_3 (dk_at dksL_law_83 3 rfl rfl)
theorem dL_law_2099 : decode cL_law 2099 = .ok (.ireturn, 1) := dk_172 (dk_at dksL_law_83 4 rfl rfl)
theorem dL_law_2100 : decode cL_law 2100 = .ok (.goto 78, 3) := dk_167 0 78 (dk_at dksL_law_83 5 rfl rfl)
theorem dL_law_2103 : decode cL_law 2103 = .ok (.aload_n 1, 1) := dk_43 (dk_at dksL_law_83 8 rfl rfl)
theorem dL_law_2104 : decode cL_law 2104 = .ok (.aload_n 0, 1) := dk_42 (dk_at dksL_law_83 9 rfl rfl)
theorem dL_law_2105 : decode cL_law 2105 = .ok (.iload 5, 2) := dk_21 5 (dk_at dksL_law_83 10 rfl rfl)
theorem dL_law_2107 : decode cL_law 2107 = .ok (.iconst 1, 1) := dk_4 (dk_at dksL_law_83 12 rfl rfl)
theorem dL_law_2108 : decode cL_law 2108 = .ok (.iadd, 1) := dk_96 (dk_at dksL_law_83 13 rfl rfl)
theorem dL_law_2109 : decode cL_law 2109 = .ok (.iaload, 1) := dk_46 (dk_at dksL_law_83 14 rfl rfl)
theorem dL_law_2110 : decode cL_law 2110 = .ok (.invokevirtual 227, 3) := dk_182 0 227 (dk_at dksL_law_83 15 rfl rfl)
theorem dL_law_2113 : decode cL_law 2113 = .ok (.aload_n 2, 1) := dk_44 (dk_at dksL_law_83 18 rfl rfl)
theorem dL_law_2114 : decode cL_law 2114 = .ok (.aload_n 0, 1) := dk_42 (dk_at dksL_law_83 19 rfl rfl)
theorem dL_law_2115 : decode cL_law 2115 = .ok (.iload 5, 2) := dk_21 5 (dk_at dksL_law_83 20 rfl rfl)
theorem dL_law_2117 : decode cL_law 2117 = .ok (.iconst 1, 1) := dk_4 (dk_at dksL_law_83 22 rfl rfl)
theorem dL_law_2118 : decode cL_law 2118 = .ok (.iadd, 1) := dk_96 (dk_at dksL_law_83 23 rfl rfl)
theorem dL_law_2119 : decode cL_law 2119 = .ok (.iaload, 1) := dk_46 (dk_at dksL_law_84 0 rfl rfl)
theorem dL_law_2120 : decode cL_law 2120 = .ok (.invokevirtual 230, 3) := dk_182 0 230 (dk_at dksL_law_84 1 rfl rfl)
theorem dL_law_2123 : decode cL_law 2123 = .ok (.if_icmp .eq 55, 3) := dk_159 0 55 (dk_at dksL_law_84 4 rfl rfl)
theorem dL_law_2126 : decode cL_law 2126 = .ok (.iconst 0, 1) := dk_3 (dk_at dksL_law_84 7 rfl rfl)
theorem dL_law_2127 : decode cL_law 2127 = .ok (.ireturn, 1) := dk_172 (dk_at dksL_law_84 8 rfl rfl)
theorem dL_law_2128 : decode cL_law 2128 = .ok (.aload_n 1, 1) := dk_43 (dk_at dksL_law_84 9 rfl rfl)
theorem dL_law_2129 : decode cL_law 2129 = .ok (.invokevirtual 231, 3) := dk_182 0 231 (dk_at dksL_law_84 10 rfl rfl)
theorem dL_law_2132 : decode cL_law 2132 = .ok (.aload_n 2, 1) := dk_44 (dk_at dksL_law_84 13 rfl rfl)
theorem dL_law_2133 : decode cL_law 2133 = .ok (.invokevirtual 234, 3) := dk_182 0 234 (dk_at dksL_law_84 14 rfl rfl)
theorem dL_law_2136 : decode cL_law 2136 = .ok (.if_icmp .eq 42, 3) := dk_159 0 42 (dk_at dksL_law_84 17 rfl rfl)
theorem dL_law_2139 : decode cL_law 2139 = .ok (.iconst 0, 1) := dk_3 (dk_at dksL_law_84 20 rfl rfl)
theorem dL_law_2140 : decode cL_law 2140 = .ok (.ireturn, 1) := dk_172 (dk_at dksL_law_84 21 rfl rfl)
theorem dL_law_2141 : decode cL_law 2141 = .ok (.aload_n 1, 1) := dk_43 (dk_at dksL_law_84 22 rfl rfl)
theorem dL_law_2142 : decode cL_law 2142 = .ok (.invokevirtual 235, 3) := dk_182 0 235 (dk_at dksL_law_85 0 rfl rfl)
theorem dL_law_2145 : decode cL_law 2145 = .ok (.aload_n 2, 1) := dk_44 (dk_at dksL_law_85 3 rfl rfl)
theorem dL_law_2146 : decode cL_law 2146 = .ok (.invokevirtual 238, 3) := dk_182 0 238 (dk_at dksL_law_85 4 rfl rfl)
theorem dL_law_2149 : decode cL_law 2149 = .ok (.if_icmp .eq 29, 3) := dk_159 0 29 (dk_at dksL_law_85 7 rfl rfl)
theorem dL_law_2152 : decode cL_law 2152 = .ok (.iconst 0, 1) := dk_3 (dk_at dksL_law_85 10 rfl rfl)
theorem dL_law_2153 : decode cL_law 2153 = .ok (.ireturn, 1) := dk_172 (dk_at dksL_law_85 11 rfl rfl)
theorem dL_law_2154 : decode cL_law 2154 = .ok (.aload_n 1, 1) := dk_43 (dk_at dksL_law_85 12 rfl rfl)
theorem dL_law_2155 : decode cL_law 2155 = .ok (.invokevirtual 239, 3) := dk_182 0 239 (dk_at dksL_law_85 13 rfl rfl)
theorem dL_law_2158 : decode cL_law 2158 = .ok (.aload_n 2, 1) := dk_44 (dk_at dksL_law_85 16 rfl rfl)
theorem dL_law_2159 : decode cL_law 2159 = .ok (.invokevirtual 242, 3) := dk_182 0 242 (dk_at dksL_law_85 17 rfl rfl)
theorem dL_law_2162 : decode cL_law 2162 = .ok (.goto 16, 3) := dk_167 0 16 (dk_at dksL_law_85 20 rfl rfl)
theorem dL_law_2165 : decode cL_law 2165 = .ok (.aload_n 1, 1) := dk_43 (dk_at dksL_law_85 23 rfl rfl)
theorem dL_law_2166 : decode cL_law 2166 = .ok (.invokevirtual 243, 3) := dk_182 0 243 (dk_at dksL_law_86 0 rfl rfl)
theorem dL_law_2169 : decode cL_law 2169 = .ok (.aload_n 2, 1) := dk_44 (dk_at dksL_law_86 3 rfl rfl)
theorem dL_law_2170 : decode cL_law 2170 = .ok (.invokevirtual 247, 3) := dk_182 0 247 (dk_at dksL_law_86 4 rfl rfl)
theorem dL_law_2173 : decode cL_law 2173 = .ok (.if_icmp .eq 5, 3) := dk_159 0 5 (dk_at dksL_law_86 7 rfl rfl)
theorem dL_law_2176 : decode cL_law 2176 = .ok (.iconst 0, 1) := dk_3 (dk_at dksL_law_86 10 rfl rfl)
theorem dL_law_2177 : decode cL_law 2177 = .ok (.ireturn, 1) := dk_172 (dk_at dksL_law_86 11 rfl rfl)
theorem dL_law_2178 : decode cL_law 2178 = .ok (.iinc 5 6, 3) := dk_132 5 6 (dk_at dksL_law_86 12 rfl rfl)
theorem dL_law_2181 : decode cL_law 2181 = .ok (.goto (-2153), 3) := dk_167 247 151 (dk_at dksL_law_86 15 rfl rfl)
theorem dL_law_2184 : decode cL_law 2184 = .ok (.iconst 1, 1) := dk_4 (dk_at dksL_law_86 18 rfl rfl)
theorem dL_law_2185 : decode cL_law 2185 = .ok (.ireturn, 1) := dk_172 (dk_at dksL_law_86 19 rfl rfl)
