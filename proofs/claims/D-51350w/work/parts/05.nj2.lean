/-! java/lang/StringUTF16 -/
set_option maxRecDepth 100000
def RJ11 : String := "java/lang/StringUTF16"
abbrev cJ11_newBytesFor : ByteArray := prog_47_method_2_code
def yJ11_newBytesFor : MethodName := ⟨RJ11, "newBytesFor", "(I)[B"⟩
def dkwJ11_newBytesFor_0 : List UInt8 := [26, 184, 0, 11, 188, 8, 176]
abbrev dktJ11_newBytesFor_0 : List UInt8 := dkwJ11_newBytesFor_0 ++ []
theorem dksJ11_newBytesFor_0 : cJ11_newBytesFor.data.toList.drop 0 = dktJ11_newBytesFor_0 := by decide +kernel
theorem dJ11_newBytesFor_0 : decode cJ11_newBytesFor 0 = .ok (.iload_n 0, 1) := dk_26 (dk_at dksJ11_newBytesFor_0 0 rfl rfl)
theorem dJ11_newBytesFor_1 : decode cJ11_newBytesFor 1 = .ok (.invokestatic 11, 3) := dk_184 0 11 (dk_at dksJ11_newBytesFor_0 1 rfl rfl)
theorem dJ11_newBytesFor_4 : decode cJ11_newBytesFor 4 = .ok (.newarray .byte, 2) := dk_188_8 (dk_at dksJ11_newBytesFor_0 4 rfl rfl)
theorem dJ11_newBytesFor_6 : decode cJ11_newBytesFor 6 = .ok (.areturn, 1) := dk_176 (dk_at dksJ11_newBytesFor_0 6 rfl rfl)
abbrev cJ11_newBytesLength : ByteArray := prog_47_method_3_code
def yJ11_newBytesLength : MethodName := ⟨RJ11, "newBytesLength", "(I)I"⟩
def dkwJ11_newBytesLength_2 : List UInt8 := [182, 0, 32, 182, 0, 37, 183, 0, 41, 191, 26, 4, 120, 172]
abbrev dktJ11_newBytesLength_2 : List UInt8 := dkwJ11_newBytesLength_2 ++ []
def dkwJ11_newBytesLength_1 : List UInt8 := [187, 0, 23, 89, 183, 0, 25, 18, 26, 182, 0, 28, 26, 182, 0, 32, 18, 35, 182, 0, 28, 18, 20]
abbrev dktJ11_newBytesLength_1 : List UInt8 := dkwJ11_newBytesLength_1 ++ dktJ11_newBytesLength_2
def dkwJ11_newBytesLength_0 : List UInt8 := [26, 156, 0, 11, 187, 0, 17, 89, 183, 0, 19, 191, 26, 18, 20, 161, 0, 40, 187, 0, 21, 89]
abbrev dktJ11_newBytesLength_0 : List UInt8 := dkwJ11_newBytesLength_0 ++ dktJ11_newBytesLength_1
theorem dksJ11_newBytesLength_0 : cJ11_newBytesLength.data.toList.drop 0 = dktJ11_newBytesLength_0 := by decide +kernel
theorem dksJ11_newBytesLength_1 : cJ11_newBytesLength.data.toList.drop 22 = dktJ11_newBytesLength_1 := dk_seg dksJ11_newBytesLength_0 22 rfl rfl
theorem dksJ11_newBytesLength_2 : cJ11_newBytesLength.data.toList.drop 45 = dktJ11_newBytesLength_2 := dk_seg dksJ11_newBytesLength_1 23 rfl rfl
theorem dJ11_newBytesLength_0 : decode cJ11_newBytesLength 0 = .ok (.iload_n 0, 1) := dk_26 (dk_at dksJ11_newBytesLength_0 0 rfl rfl)
theorem dJ11_newBytesLength_1 : decode cJ11_newBytesLength 1 = .ok (.ifCond .ge 11, 3) := dk_156 0 11 (dk_at dksJ11_newBytesLength_0 1 rfl rfl)
theorem dJ11_newBytesLength_4 : decode cJ11_newBytesLength 4 = .ok (.new 17, 3) := dk_187 0 17 (dk_at dksJ11_newBytesLength_0 4 rfl rfl)
theorem dJ11_newBytesLength_7 : decode cJ11_newBytesLength 7 = .ok (.dup, 1) := dk_89 (dk_at dksJ11_newBytesLength_0 7 rfl rfl)
theorem dJ11_newBytesLength_8 : decode cJ11_newBytesLength 8 = .ok (.invokespecial 19, 3) := dk_183 0 19 (dk_at dksJ11_newBytesLength_0 8 rfl rfl)
theorem dJ11_newBytesLength_11 : decode cJ11_newBytesLength 11 = .ok (.athrow, 1) := dk_191 (dk_at dksJ11_newBytesLength_0 11 rfl rfl)
theorem dJ11_newBytesLength_12 : decode cJ11_newBytesLength 12 = .ok (.iload_n 0, 1) := dk_26 (dk_at dksJ11_newBytesLength_0 12 rfl rfl)
theorem dJ11_newBytesLength_13 : decode cJ11_newBytesLength 13 = .ok (.ldc 20, 2) := dk_18 20 (dk_at dksJ11_newBytesLength_0 13 rfl rfl)
theorem dJ11_newBytesLength_15 : decode cJ11_newBytesLength 15 = .ok (.if_icmp .lt 40, 3) := dk_161 0 40 (dk_at dksJ11_newBytesLength_0 15 rfl rfl)
theorem dJ11_newBytesLength_18 : decode cJ11_newBytesLength 18 = .ok (.new 21, 3) := dk_187 0 21 (dk_at dksJ11_newBytesLength_0 18 rfl rfl)
theorem dJ11_newBytesLength_21 : decode cJ11_newBytesLength 21 = .ok (.dup, 1) := dk_89 (dk_at dksJ11_newBytesLength_0 21 rfl rfl)
theorem dJ11_newBytesLength_22 : decode cJ11_newBytesLength 22 = .ok (.new 23, 3) := dk_187 0 23 (dk_at dksJ11_newBytesLength_1 0 rfl rfl)
theorem dJ11_newBytesLength_25 : decode cJ11_newBytesLength 25 = .ok (.dup, 1) := dk_89 (dk_at dksJ11_newBytesLength_1 3 rfl rfl)
theorem dJ11_newBytesLength_26 : decode cJ11_newBytesLength 26 = .ok (.invokespecial 25, 3) := dk_183 0 25 (dk_at dksJ11_newBytesLength_1 4 rfl rfl)
theorem dJ11_newBytesLength_29 : decode cJ11_newBytesLength 29 = .ok (.ldc 26, 2) := dk_18 26 (dk_at dksJ11_newBytesLength_1 7 rfl rfl)
theorem dJ11_newBytesLength_31 : decode cJ11_newBytesLength 31 = .ok (.invokevirtual 28, 3) := dk_182 0 28 (dk_at dksJ11_newBytesLength_1 9 rfl rfl)
theorem dJ11_newBytesLength_34 : decode cJ11_newBytesLength 34 = .ok (.iload_n 0, 1) := dk_26 (dk_at dksJ11_newBytesLength_1 12 rfl rfl)
theorem dJ11_newBytesLength_35 : decode cJ11_newBytesLength 35 = .ok (.invokevirtual 32, 3) := dk_182 0 32 (dk_at dksJ11_newBytesLength_1 13 rfl rfl)
theorem dJ11_newBytesLength_38 : decode cJ11_newBytesLength 38 = .ok (.ldc 35, 2) := dk_18 35 (dk_at dksJ11_newBytesLength_1 16 rfl rfl)
theorem dJ11_newBytesLength_40 : decode cJ11_newBytesLength 40 = .ok (.invokevirtual 28, 3) := dk_182 0 28 (dk_at dksJ11_newBytesLength_1 18 rfl rfl)
theorem dJ11_newBytesLength_43 : decode cJ11_newBytesLength 43 = .ok (.ldc 20, 2) := dk_18 20 (dk_at dksJ11_newBytesLength_1 21 rfl rfl)
theorem dJ11_newBytesLength_45 : decode cJ11_newBytesLength 45 = .ok (.invokevirtual 32, 3) := dk_182 0 32 (dk_at dksJ11_newBytesLength_2 0 rfl rfl)
theorem dJ11_newBytesLength_48 : decode cJ11_newBytesLength 48 = .ok (.invokevirtual 37, 3) := dk_182 0 37 (dk_at dksJ11_newBytesLength_2 3 rfl rfl)
theorem dJ11_newBytesLength_51 : decode cJ11_newBytesLength 51 = .ok (.invokespecial 41, 3) := dk_183 0 41 (dk_at dksJ11_newBytesLength_2 6 rfl rfl)
theorem dJ11_newBytesLength_54 : decode cJ11_newBytesLength 54 = .ok (.athrow, 1) := dk_191 (dk_at dksJ11_newBytesLength_2 9 rfl rfl)
theorem dJ11_newBytesLength_55 : decode cJ11_newBytesLength 55 = .ok (.iload_n 0, 1) := dk_26 (dk_at dksJ11_newBytesLength_2 10 rfl rfl)
theorem dJ11_newBytesLength_56 : decode cJ11_newBytesLength 56 = .ok (.iconst 1, 1) := dk_4 (dk_at dksJ11_newBytesLength_2 11 rfl rfl)
theorem dJ11_newBytesLength_57 : decode cJ11_newBytesLength 57 = .ok (.ishl, 1) := dk_120 (dk_at dksJ11_newBytesLength_2 12 rfl rfl)
theorem dJ11_newBytesLength_58 : decode cJ11_newBytesLength 58 = .ok (.ireturn, 1) := dk_172 (dk_at dksJ11_newBytesLength_2 13 rfl rfl)
abbrev cJ11_putCharsAt : ByteArray := prog_47_method_81_code
def yJ11_putCharsAt : MethodName := ⟨RJ11, "putCharsAt", "([BICCCC)I"⟩
def dkwJ11_putCharsAt_3 : List UInt8 := [21, 6, 172]
abbrev dktJ11_putCharsAt_3 : List UInt8 := dkwJ11_putCharsAt_3 ++ []
def dkwJ11_putCharsAt_2 : List UInt8 := [184, 0, 111, 178, 0, 44, 154, 0, 17, 27, 21, 6, 159, 0, 11, 187, 0, 52, 89, 183, 0, 66, 191]
abbrev dktJ11_putCharsAt_2 : List UInt8 := dkwJ11_putCharsAt_2 ++ dktJ11_putCharsAt_3
def dkwJ11_putCharsAt_1 : List UInt8 := [132, 1, 1, 29, 184, 0, 111, 42, 27, 132, 1, 1, 21, 4, 184, 0, 111, 42, 27, 132, 1, 1, 21, 5]
abbrev dktJ11_putCharsAt_1 : List UInt8 := dkwJ11_putCharsAt_1 ++ dktJ11_putCharsAt_2
def dkwJ11_putCharsAt_0 : List UInt8 := [27, 7, 96, 54, 6, 27, 21, 6, 42, 184, 0, 96, 42, 27, 132, 1, 1, 28, 184, 0, 111, 42, 27]
abbrev dktJ11_putCharsAt_0 : List UInt8 := dkwJ11_putCharsAt_0 ++ dktJ11_putCharsAt_1
theorem dksJ11_putCharsAt_0 : cJ11_putCharsAt.data.toList.drop 0 = dktJ11_putCharsAt_0 := by decide +kernel
theorem dksJ11_putCharsAt_1 : cJ11_putCharsAt.data.toList.drop 23 = dktJ11_putCharsAt_1 := dk_seg dksJ11_putCharsAt_0 23 rfl rfl
theorem dksJ11_putCharsAt_2 : cJ11_putCharsAt.data.toList.drop 47 = dktJ11_putCharsAt_2 := dk_seg dksJ11_putCharsAt_1 24 rfl rfl
theorem dksJ11_putCharsAt_3 : cJ11_putCharsAt.data.toList.drop 70 = dktJ11_putCharsAt_3 := dk_seg dksJ11_putCharsAt_2 23 rfl rfl
theorem dJ11_putCharsAt_0 : decode cJ11_putCharsAt 0 = .ok (.iload_n 1, 1) := dk_27 (dk_at dksJ11_putCharsAt_0 0 rfl rfl)
theorem dJ11_putCharsAt_1 : decode cJ11_putCharsAt 1 = .ok (.iconst 4, 1) := dk_7 (dk_at dksJ11_putCharsAt_0 1 rfl rfl)
theorem dJ11_putCharsAt_2 : decode cJ11_putCharsAt 2 = .ok (.iadd, 1) := dk_96 (dk_at dksJ11_putCharsAt_0 2 rfl rfl)
theorem dJ11_putCharsAt_3 : decode cJ11_putCharsAt 3 = .ok (.istore 6, 2) := dk_54 6 (dk_at dksJ11_putCharsAt_0 3 rfl rfl)
theorem dJ11_putCharsAt_5 : decode cJ11_putCharsAt 5 = .ok (.iload_n 1, 1) := dk_27 (dk_at dksJ11_putCharsAt_0 5 rfl rfl)
theorem dJ11_putCharsAt_6 : decode cJ11_putCharsAt 6 = .ok (.iload 6, 2) := dk_21 6 (dk_at dksJ11_putCharsAt_0 6 rfl rfl)
theorem dJ11_putCharsAt_8 : decode cJ11_putCharsAt 8 = .ok (.aload_n 0, 1) := dk_42 (dk_at dksJ11_putCharsAt_0 8 rfl rfl)
theorem dJ11_putCharsAt_9 : decode cJ11_putCharsAt 9 = .ok (.invokestatic 96, 3) := dk_184 0 96 (dk_at dksJ11_putCharsAt_0 9 rfl rfl)
theorem dJ11_putCharsAt_12 : decode cJ11_putCharsAt 12 = .ok (.aload_n 0, 1) := dk_42 (dk_at dksJ11_putCharsAt_0 12 rfl rfl)
theorem dJ11_putCharsAt_13 : decode cJ11_putCharsAt 13 = .ok (.iload_n 1, 1) := dk_27 (dk_at dksJ11_putCharsAt_0 13 rfl rfl)
theorem dJ11_putCharsAt_14 : decode cJ11_putCharsAt 14 = .ok (.iinc 1 1, 3) := dk_132 1 1 (dk_at dksJ11_putCharsAt_0 14 rfl rfl)
theorem dJ11_putCharsAt_17 : decode cJ11_putCharsAt 17 = .ok (.iload_n 2, 1) := dk_28 (dk_at dksJ11_putCharsAt_0 17 rfl rfl)
theorem dJ11_putCharsAt_18 : decode cJ11_putCharsAt 18 = .ok (.invokestatic 111, 3) := dk_184 0 111 (dk_at dksJ11_putCharsAt_0 18 rfl rfl)
theorem dJ11_putCharsAt_21 : decode cJ11_putCharsAt 21 = .ok (.aload_n 0, 1) := dk_42 (dk_at dksJ11_putCharsAt_0 21 rfl rfl)
theorem dJ11_putCharsAt_22 : decode cJ11_putCharsAt 22 = .ok (.iload_n 1, 1) := dk_27 (dk_at dksJ11_putCharsAt_0 22 rfl rfl)
theorem dJ11_putCharsAt_23 : decode cJ11_putCharsAt 23 = .ok (.iinc 1 1, 3) := dk_132 1 1 (dk_at dksJ11_putCharsAt_1 0 rfl rfl)
theorem dJ11_putCharsAt_26 : decode cJ11_putCharsAt 26 = .ok (.iload_n 3, 1) := dk_29 (dk_at dksJ11_putCharsAt_1 3 rfl rfl)
theorem dJ11_putCharsAt_27 : decode cJ11_putCharsAt 27 = .ok (.invokestatic 111, 3) := dk_184 0 111 (dk_at dksJ11_putCharsAt_1 4 rfl rfl)
theorem dJ11_putCharsAt_30 : decode cJ11_putCharsAt 30 = .ok (.aload_n 0, 1) := dk_42 (dk_at dksJ11_putCharsAt_1 7 rfl rfl)
theorem dJ11_putCharsAt_31 : decode cJ11_putCharsAt 31 = .ok (.iload_n 1, 1) := dk_27 (dk_at dksJ11_putCharsAt_1 8 rfl rfl)
theorem dJ11_putCharsAt_32 : decode cJ11_putCharsAt 32 = .ok (.iinc 1 1, 3) := dk_132 1 1 (dk_at dksJ11_putCharsAt_1 9 rfl rfl)
theorem dJ11_putCharsAt_35 : decode cJ11_putCharsAt 35 = .ok (.iload 4, 2) := dk_21 4 (dk_at dksJ11_putCharsAt_1 12 rfl rfl)
theorem dJ11_putCharsAt_37 : decode cJ11_putCharsAt 37 = .ok (.invokestatic 111, 3) := dk_184 0 111 (dk_at dksJ11_putCharsAt_1 14 rfl rfl)
theorem dJ11_putCharsAt_40 : decode cJ11_putCharsAt 40 = .ok (.aload_n 0, 1) := dk_42 (dk_at dksJ11_putCharsAt_1 17 rfl rfl)
theorem dJ11_putCharsAt_41 : decode cJ11_putCharsAt 41 = .ok (.iload_n 1, 1) := dk_27 (dk_at dksJ11_putCharsAt_1 18 rfl rfl)
theorem dJ11_putCharsAt_42 : decode cJ11_putCharsAt 42 = .ok (.iinc 1 1, 3) := dk_132 1 1 (dk_at dksJ11_putCharsAt_1 19 rfl rfl)
theorem dJ11_putCharsAt_45 : decode cJ11_putCharsAt 45 = .ok (.iload 5, 2) := dk_21 5 (dk_at dksJ11_putCharsAt_1 22 rfl rfl)
theorem dJ11_putCharsAt_47 : decode cJ11_putCharsAt 47 = .ok (.invokestatic 111, 3) := dk_184 0 111 (dk_at dksJ11_putCharsAt_2 0 rfl rfl)
theorem dJ11_putCharsAt_50 : decode cJ11_putCharsAt 50 = .ok (.getstatic 44, 3) := dk_178 0 44 (dk_at dksJ11_putCharsAt_2 3 rfl rfl)
theorem dJ11_putCharsAt_53 : decode cJ11_putCharsAt 53 = .ok (.ifCond .ne 17, 3) := dk_154 0 17 (dk_at dksJ11_putCharsAt_2 6 rfl rfl)
theorem dJ11_putCharsAt_56 : decode cJ11_putCharsAt 56 = .ok (.iload_n 1, 1) := dk_27 (dk_at dksJ11_putCharsAt_2 9 rfl rfl)
theorem dJ11_putCharsAt_57 : decode cJ11_putCharsAt 57 = .ok (.iload 6, 2) := dk_21 6 (dk_at dksJ11_putCharsAt_2 10 rfl rfl)
theorem dJ11_putCharsAt_59 : decode cJ11_putCharsAt 59 = .ok (.if_icmp .eq 11, 3) := dk_159 0 11 (dk_at dksJ11_putCharsAt_2 12 rfl rfl)
theorem dJ11_putCharsAt_62 : decode cJ11_putCharsAt 62 = .ok (.new 52, 3) := dk_187 0 52 (dk_at dksJ11_putCharsAt_2 15 rfl rfl)
theorem dJ11_putCharsAt_65 : decode cJ11_putCharsAt 65 = .ok (.dup, 1) := dk_89 (dk_at dksJ11_putCharsAt_2 18 rfl rfl)
theorem dJ11_putCharsAt_66 : decode cJ11_putCharsAt 66 = .ok (.invokespecial 66, 3) := dk_183 0 66 (dk_at dksJ11_putCharsAt_2 19 rfl rfl)
theorem dJ11_putCharsAt_69 : decode cJ11_putCharsAt 69 = .ok (.athrow, 1) := dk_191 (dk_at dksJ11_putCharsAt_2 22 rfl rfl)
theorem dJ11_putCharsAt_70 : decode cJ11_putCharsAt 70 = .ok (.iload 6, 2) := dk_21 6 (dk_at dksJ11_putCharsAt_3 0 rfl rfl)
theorem dJ11_putCharsAt_72 : decode cJ11_putCharsAt 72 = .ok (.ireturn, 1) := dk_172 (dk_at dksJ11_putCharsAt_3 2 rfl rfl)
abbrev cJ11_checkBoundsBeginEnd : ByteArray := prog_47_method_93_code
def yJ11_checkBoundsBeginEnd : MethodName := ⟨RJ11, "checkBoundsBeginEnd", "(II[B)V"⟩
def dkwJ11_checkBoundsBeginEnd_0 : List UInt8 := [26, 27, 44, 184, 0, 48, 184, 0, 241, 177]
abbrev dktJ11_checkBoundsBeginEnd_0 : List UInt8 := dkwJ11_checkBoundsBeginEnd_0 ++ []
theorem dksJ11_checkBoundsBeginEnd_0 : cJ11_checkBoundsBeginEnd.data.toList.drop 0 = dktJ11_checkBoundsBeginEnd_0 := by decide +kernel
theorem dJ11_checkBoundsBeginEnd_0 : decode cJ11_checkBoundsBeginEnd 0 = .ok (.iload_n 0, 1) := dk_26 (dk_at dksJ11_checkBoundsBeginEnd_0 0 rfl rfl)
theorem dJ11_checkBoundsBeginEnd_1 : decode cJ11_checkBoundsBeginEnd 1 = .ok (.iload_n 1, 1) := dk_27 (dk_at dksJ11_checkBoundsBeginEnd_0 1 rfl rfl)
theorem dJ11_checkBoundsBeginEnd_2 : decode cJ11_checkBoundsBeginEnd 2 = .ok (.aload_n 2, 1) := dk_44 (dk_at dksJ11_checkBoundsBeginEnd_0 2 rfl rfl)
theorem dJ11_checkBoundsBeginEnd_3 : decode cJ11_checkBoundsBeginEnd 3 = .ok (.invokestatic 48, 3) := dk_184 0 48 (dk_at dksJ11_checkBoundsBeginEnd_0 3 rfl rfl)
theorem dJ11_checkBoundsBeginEnd_6 : decode cJ11_checkBoundsBeginEnd 6 = .ok (.invokestatic 241, 3) := dk_184 0 241 (dk_at dksJ11_checkBoundsBeginEnd_0 6 rfl rfl)
theorem dJ11_checkBoundsBeginEnd_9 : decode cJ11_checkBoundsBeginEnd 9 = .ok (.return_, 1) := dk_177 (dk_at dksJ11_checkBoundsBeginEnd_0 9 rfl rfl)
abbrev cJ11_length : ByteArray := prog_47_method_6_code
def yJ11_length : MethodName := ⟨RJ11, "length", "([B)I"⟩
def dkwJ11_length_0 : List UInt8 := [42, 190, 4, 122, 172]
abbrev dktJ11_length_0 : List UInt8 := dkwJ11_length_0 ++ []
theorem dksJ11_length_0 : cJ11_length.data.toList.drop 0 = dktJ11_length_0 := by decide +kernel
theorem dJ11_length_0 : decode cJ11_length 0 = .ok (.aload_n 0, 1) := dk_42 (dk_at dksJ11_length_0 0 rfl rfl)
theorem dJ11_length_1 : decode cJ11_length 1 = .ok (.arraylength, 1) := dk_190 (dk_at dksJ11_length_0 1 rfl rfl)
theorem dJ11_length_2 : decode cJ11_length 2 = .ok (.iconst 1, 1) := dk_4 (dk_at dksJ11_length_0 2 rfl rfl)
theorem dJ11_length_3 : decode cJ11_length 3 = .ok (.ishr, 1) := dk_122 (dk_at dksJ11_length_0 3 rfl rfl)
theorem dJ11_length_4 : decode cJ11_length 4 = .ok (.ireturn, 1) := dk_172 (dk_at dksJ11_length_0 4 rfl rfl)
abbrev cJ11_putChar : ByteArray := prog_47_method_4_code
def yJ11_putChar : MethodName := ⟨RJ11, "putChar", "([BII)V"⟩
def dkwJ11_putChar_2 : List UInt8 := [178, 0, 63, 122, 145, 84, 177]
abbrev dktJ11_putChar_2 : List UInt8 := dkwJ11_putChar_2 ++ []
def dkwJ11_putChar_1 : List UInt8 := [183, 0, 56, 191, 27, 4, 120, 60, 42, 27, 132, 1, 1, 28, 178, 0, 59, 122, 145, 84, 42, 27, 28]
abbrev dktJ11_putChar_1 : List UInt8 := dkwJ11_putChar_1 ++ dktJ11_putChar_2
def dkwJ11_putChar_0 : List UInt8 := [178, 0, 44, 154, 0, 25, 27, 155, 0, 11, 27, 42, 184, 0, 48, 161, 0, 13, 187, 0, 52, 89, 18, 54]
abbrev dktJ11_putChar_0 : List UInt8 := dkwJ11_putChar_0 ++ dktJ11_putChar_1
theorem dksJ11_putChar_0 : cJ11_putChar.data.toList.drop 0 = dktJ11_putChar_0 := by decide +kernel
theorem dksJ11_putChar_1 : cJ11_putChar.data.toList.drop 24 = dktJ11_putChar_1 := dk_seg dksJ11_putChar_0 24 rfl rfl
theorem dksJ11_putChar_2 : cJ11_putChar.data.toList.drop 47 = dktJ11_putChar_2 := dk_seg dksJ11_putChar_1 23 rfl rfl
theorem dJ11_putChar_0 : decode cJ11_putChar 0 = .ok (.getstatic 44, 3) := dk_178 0 44 (dk_at dksJ11_putChar_0 0 rfl rfl)
theorem dJ11_putChar_3 : decode cJ11_putChar 3 = .ok (.ifCond .ne 25, 3) := dk_154 0 25 (dk_at dksJ11_putChar_0 3 rfl rfl)
theorem dJ11_putChar_6 : decode cJ11_putChar 6 = .ok (.iload_n 1, 1) := dk_27 (dk_at dksJ11_putChar_0 6 rfl rfl)
theorem dJ11_putChar_7 : decode cJ11_putChar 7 = .ok (.ifCond .lt 11, 3) := dk_155 0 11 (dk_at dksJ11_putChar_0 7 rfl rfl)
theorem dJ11_putChar_10 : decode cJ11_putChar 10 = .ok (.iload_n 1, 1) := dk_27 (dk_at dksJ11_putChar_0 10 rfl rfl)
theorem dJ11_putChar_11 : decode cJ11_putChar 11 = .ok (.aload_n 0, 1) := dk_42 (dk_at dksJ11_putChar_0 11 rfl rfl)
theorem dJ11_putChar_12 : decode cJ11_putChar 12 = .ok (.invokestatic 48, 3) := dk_184 0 48 (dk_at dksJ11_putChar_0 12 rfl rfl)
theorem dJ11_putChar_15 : decode cJ11_putChar 15 = .ok (.if_icmp .lt 13, 3) := dk_161 0 13 (dk_at dksJ11_putChar_0 15 rfl rfl)
theorem dJ11_putChar_18 : decode cJ11_putChar 18 = .ok (.new 52, 3) := dk_187 0 52 (dk_at dksJ11_putChar_0 18 rfl rfl)
theorem dJ11_putChar_21 : decode cJ11_putChar 21 = .ok (.dup, 1) := dk_89 (dk_at dksJ11_putChar_0 21 rfl rfl)
theorem dJ11_putChar_22 : decode cJ11_putChar 22 = .ok (.ldc 54, 2) := dk_18 54 (dk_at dksJ11_putChar_0 22 rfl rfl)
theorem dJ11_putChar_24 : decode cJ11_putChar 24 = .ok (.invokespecial 56, 3) := dk_183 0 56 (dk_at dksJ11_putChar_1 0 rfl rfl)
theorem dJ11_putChar_27 : decode cJ11_putChar 27 = .ok (.athrow, 1) := dk_191 (dk_at dksJ11_putChar_1 3 rfl rfl)
theorem dJ11_putChar_28 : decode cJ11_putChar 28 = .ok (.iload_n 1, 1) := dk_27 (dk_at dksJ11_putChar_1 4 rfl rfl)
theorem dJ11_putChar_29 : decode cJ11_putChar 29 = .ok (.iconst 1, 1) := dk_4 (dk_at dksJ11_putChar_1 5 rfl rfl)
theorem dJ11_putChar_30 : decode cJ11_putChar 30 = .ok (.ishl, 1) := dk_120 (dk_at dksJ11_putChar_1 6 rfl rfl)
theorem dJ11_putChar_31 : decode cJ11_putChar 31 = .ok (.istore_n 1, 1) := dk_60 (dk_at dksJ11_putChar_1 7 rfl rfl)
theorem dJ11_putChar_32 : decode cJ11_putChar 32 = .ok (.aload_n 0, 1) := dk_42 (dk_at dksJ11_putChar_1 8 rfl rfl)
theorem dJ11_putChar_33 : decode cJ11_putChar 33 = .ok (.iload_n 1, 1) := dk_27 (dk_at dksJ11_putChar_1 9 rfl rfl)
theorem dJ11_putChar_34 : decode cJ11_putChar 34 = .ok (.iinc 1 1, 3) := dk_132 1 1 (dk_at dksJ11_putChar_1 10 rfl rfl)
theorem dJ11_putChar_37 : decode cJ11_putChar 37 = .ok (.iload_n 2, 1) := dk_28 (dk_at dksJ11_putChar_1 13 rfl rfl)
theorem dJ11_putChar_38 : decode cJ11_putChar 38 = .ok (.getstatic 59, 3) := dk_178 0 59 (dk_at dksJ11_putChar_1 14 rfl rfl)
theorem dJ11_putChar_41 : decode cJ11_putChar 41 = .ok (.ishr, 1) := dk_122 (dk_at dksJ11_putChar_1 17 rfl rfl)
theorem dJ11_putChar_42 : decode cJ11_putChar 42 = .ok (.i2b, 1) := dk_145 (dk_at dksJ11_putChar_1 18 rfl rfl)
theorem dJ11_putChar_43 : decode cJ11_putChar 43 = .ok (.bastore, 1) := dk_84 (dk_at dksJ11_putChar_1 19 rfl rfl)
theorem dJ11_putChar_44 : decode cJ11_putChar 44 = .ok (.aload_n 0, 1) := dk_42 (dk_at dksJ11_putChar_1 20 rfl rfl)
theorem dJ11_putChar_45 : decode cJ11_putChar 45 = .ok (.iload_n 1, 1) := dk_27 (dk_at dksJ11_putChar_1 21 rfl rfl)
theorem dJ11_putChar_46 : decode cJ11_putChar 46 = .ok (.iload_n 2, 1) := dk_28 (dk_at dksJ11_putChar_1 22 rfl rfl)
theorem dJ11_putChar_47 : decode cJ11_putChar 47 = .ok (.getstatic 63, 3) := dk_178 0 63 (dk_at dksJ11_putChar_2 0 rfl rfl)
theorem dJ11_putChar_50 : decode cJ11_putChar 50 = .ok (.ishr, 1) := dk_122 (dk_at dksJ11_putChar_2 3 rfl rfl)
theorem dJ11_putChar_51 : decode cJ11_putChar 51 = .ok (.i2b, 1) := dk_145 (dk_at dksJ11_putChar_2 4 rfl rfl)
theorem dJ11_putChar_52 : decode cJ11_putChar 52 = .ok (.bastore, 1) := dk_84 (dk_at dksJ11_putChar_2 5 rfl rfl)
theorem dJ11_putChar_53 : decode cJ11_putChar 53 = .ok (.return_, 1) := dk_177 (dk_at dksJ11_putChar_2 6 rfl rfl)
abbrev cJ11_inflate : ByteArray := prog_47_method_86_code
def yJ11_inflate : MethodName := ⟨RJ11, "inflate", "([BI[BII)V"⟩
def dkwJ11_inflate_1 : List UInt8 := [132, 1, 1, 51, 17, 0, 255, 126, 184, 0, 111, 132, 5, 1, 167, 255, 228, 177]
abbrev dktJ11_inflate_1 : List UInt8 := dkwJ11_inflate_1 ++ []
def dkwJ11_inflate_0 : List UInt8 := [29, 21, 4, 44, 184, 0, 173, 3, 54, 5, 21, 5, 21, 4, 162, 0, 27, 44, 29, 132, 3, 1, 42, 27]
abbrev dktJ11_inflate_0 : List UInt8 := dkwJ11_inflate_0 ++ dktJ11_inflate_1
theorem dksJ11_inflate_0 : cJ11_inflate.data.toList.drop 0 = dktJ11_inflate_0 := by decide +kernel
theorem dksJ11_inflate_1 : cJ11_inflate.data.toList.drop 24 = dktJ11_inflate_1 := dk_seg dksJ11_inflate_0 24 rfl rfl
theorem dJ11_inflate_0 : decode cJ11_inflate 0 = .ok (.iload_n 3, 1) := dk_29 (dk_at dksJ11_inflate_0 0 rfl rfl)
theorem dJ11_inflate_1 : decode cJ11_inflate 1 = .ok (.iload 4, 2) := dk_21 4 (dk_at dksJ11_inflate_0 1 rfl rfl)
theorem dJ11_inflate_3 : decode cJ11_inflate 3 = .ok (.aload_n 2, 1) := dk_44 (dk_at dksJ11_inflate_0 3 rfl rfl)
theorem dJ11_inflate_4 : decode cJ11_inflate 4 = .ok (.invokestatic 173, 3) := dk_184 0 173 (dk_at dksJ11_inflate_0 4 rfl rfl)
theorem dJ11_inflate_7 : decode cJ11_inflate 7 = .ok (.iconst 0, 1) := dk_3 (dk_at dksJ11_inflate_0 7 rfl rfl)
theorem dJ11_inflate_8 : decode cJ11_inflate 8 = .ok (.istore 5, 2) := dk_54 5 (dk_at dksJ11_inflate_0 8 rfl rfl)
theorem dJ11_inflate_10 : decode cJ11_inflate 10 = .ok (.iload 5, 2) := dk_21 5 (dk_at dksJ11_inflate_0 10 rfl rfl)
theorem dJ11_inflate_12 : decode cJ11_inflate 12 = .ok (.iload 4, 2) := dk_21 4 (dk_at dksJ11_inflate_0 12 rfl rfl)
theorem dJ11_inflate_14 : decode cJ11_inflate 14 = .ok (.if_icmp .ge 27, 3) := dk_162 0 27 (dk_at dksJ11_inflate_0 14 rfl rfl)
theorem dJ11_inflate_17 : decode cJ11_inflate 17 = .ok (.aload_n 2, 1) := dk_44 (dk_at dksJ11_inflate_0 17 rfl rfl)
theorem dJ11_inflate_18 : decode cJ11_inflate 18 = .ok (.iload_n 3, 1) := dk_29 (dk_at dksJ11_inflate_0 18 rfl rfl)
theorem dJ11_inflate_19 : decode cJ11_inflate 19 = .ok (.iinc 3 1, 3) := dk_132 3 1 (dk_at dksJ11_inflate_0 19 rfl rfl)
theorem dJ11_inflate_22 : decode cJ11_inflate 22 = .ok (.aload_n 0, 1) := dk_42 (dk_at dksJ11_inflate_0 22 rfl rfl)
theorem dJ11_inflate_23 : decode cJ11_inflate 23 = .ok (.iload_n 1, 1) := dk_27 (dk_at dksJ11_inflate_0 23 rfl rfl)
theorem dJ11_inflate_24 : decode cJ11_inflate 24 = .ok (.iinc 1 1, 3) := dk_132 1 1 (dk_at dksJ11_inflate_1 0 rfl rfl)
theorem dJ11_inflate_27 : decode cJ11_inflate 27 = .ok (.baload, 1) := dk_51 (dk_at dksJ11_inflate_1 3 rfl rfl)
theorem dJ11_inflate_28 : decode cJ11_inflate 28 = .ok (.sipush 255, 3) := dk_17 0 255 (dk_at dksJ11_inflate_1 4 rfl rfl)
theorem dJ11_inflate_31 : decode cJ11_inflate 31 = .ok (.iand, 1) := dk_126 (dk_at dksJ11_inflate_1 7 rfl rfl)
theorem dJ11_inflate_32 : decode cJ11_inflate 32 = .ok (.invokestatic 111, 3) := dk_184 0 111 (dk_at dksJ11_inflate_1 8 rfl rfl)
theorem dJ11_inflate_35 : decode cJ11_inflate 35 = .ok (.iinc 5 1, 3) := dk_132 5 1 (dk_at dksJ11_inflate_1 11 rfl rfl)
theorem dJ11_inflate_38 : decode cJ11_inflate 38 = .ok (.goto (-28), 3) := dk_167 255 228 (dk_at dksJ11_inflate_1 14 rfl rfl)
theorem dJ11_inflate_41 : decode cJ11_inflate 41 = .ok (.return_, 1) := dk_177 (dk_at dksJ11_inflate_1 17 rfl rfl)
abbrev cJ11_checkBoundsOffCount : ByteArray := prog_47_method_94_code
def yJ11_checkBoundsOffCount : MethodName := ⟨RJ11, "checkBoundsOffCount", "(II[B)V"⟩
def dkwJ11_checkBoundsOffCount_0 : List UInt8 := [26, 27, 44, 184, 0, 48, 184, 1, 163, 87, 177]
abbrev dktJ11_checkBoundsOffCount_0 : List UInt8 := dkwJ11_checkBoundsOffCount_0 ++ []
theorem dksJ11_checkBoundsOffCount_0 : cJ11_checkBoundsOffCount.data.toList.drop 0 = dktJ11_checkBoundsOffCount_0 := by decide +kernel
theorem dJ11_checkBoundsOffCount_0 : decode cJ11_checkBoundsOffCount 0 = .ok (.iload_n 0, 1) := dk_26 (dk_at dksJ11_checkBoundsOffCount_0 0 rfl rfl)
theorem dJ11_checkBoundsOffCount_1 : decode cJ11_checkBoundsOffCount 1 = .ok (.iload_n 1, 1) := dk_27 (dk_at dksJ11_checkBoundsOffCount_0 1 rfl rfl)
theorem dJ11_checkBoundsOffCount_2 : decode cJ11_checkBoundsOffCount 2 = .ok (.aload_n 2, 1) := dk_44 (dk_at dksJ11_checkBoundsOffCount_0 2 rfl rfl)
theorem dJ11_checkBoundsOffCount_3 : decode cJ11_checkBoundsOffCount 3 = .ok (.invokestatic 48, 3) := dk_184 0 48 (dk_at dksJ11_checkBoundsOffCount_0 3 rfl rfl)
theorem dJ11_checkBoundsOffCount_6 : decode cJ11_checkBoundsOffCount 6 = .ok (.invokestatic 419, 3) := dk_184 1 163 (dk_at dksJ11_checkBoundsOffCount_0 6 rfl rfl)
theorem dJ11_checkBoundsOffCount_9 : decode cJ11_checkBoundsOffCount 9 = .ok (.pop, 1) := dk_87 (dk_at dksJ11_checkBoundsOffCount_0 9 rfl rfl)
theorem dJ11_checkBoundsOffCount_10 : decode cJ11_checkBoundsOffCount 10 = .ok (.return_, 1) := dk_177 (dk_at dksJ11_checkBoundsOffCount_0 10 rfl rfl)
abbrev cJ11_getChars : ByteArray := prog_47_method_77_code
def yJ11_getChars : MethodName := ⟨RJ11, "getChars", "(III[B)I"⟩
def dkwJ11_getChars_1 : List UInt8 := [159, 0, 11, 187, 0, 52, 89, 183, 0, 66, 191, 21, 4, 172]
abbrev dktJ11_getChars_1 : List UInt8 := dkwJ11_getChars_1 ++ []
def dkwJ11_getChars_0 : List UInt8 := [27, 28, 45, 184, 0, 96, 26, 28, 45, 184, 1, 137, 54, 4, 178, 0, 44, 154, 0, 17, 27, 21, 4]
abbrev dktJ11_getChars_0 : List UInt8 := dkwJ11_getChars_0 ++ dktJ11_getChars_1
theorem dksJ11_getChars_0 : cJ11_getChars.data.toList.drop 0 = dktJ11_getChars_0 := by decide +kernel
theorem dksJ11_getChars_1 : cJ11_getChars.data.toList.drop 23 = dktJ11_getChars_1 := dk_seg dksJ11_getChars_0 23 rfl rfl
theorem dJ11_getChars_0 : decode cJ11_getChars 0 = .ok (.iload_n 1, 1) := dk_27 (dk_at dksJ11_getChars_0 0 rfl rfl)
theorem dJ11_getChars_1 : decode cJ11_getChars 1 = .ok (.iload_n 2, 1) := dk_28 (dk_at dksJ11_getChars_0 1 rfl rfl)
theorem dJ11_getChars_2 : decode cJ11_getChars 2 = .ok (.aload_n 3, 1) := dk_45 (dk_at dksJ11_getChars_0 2 rfl rfl)
theorem dJ11_getChars_3 : decode cJ11_getChars 3 = .ok (.invokestatic 96, 3) := dk_184 0 96 (dk_at dksJ11_getChars_0 3 rfl rfl)
theorem dJ11_getChars_6 : decode cJ11_getChars 6 = .ok (.iload_n 0, 1) := dk_26 (dk_at dksJ11_getChars_0 6 rfl rfl)
theorem dJ11_getChars_7 : decode cJ11_getChars 7 = .ok (.iload_n 2, 1) := dk_28 (dk_at dksJ11_getChars_0 7 rfl rfl)
theorem dJ11_getChars_8 : decode cJ11_getChars 8 = .ok (.aload_n 3, 1) := dk_45 (dk_at dksJ11_getChars_0 8 rfl rfl)
theorem dJ11_getChars_9 : decode cJ11_getChars 9 = .ok (.invokestatic 393, 3) := dk_184 1 137 (dk_at dksJ11_getChars_0 9 rfl rfl)
theorem dJ11_getChars_12 : decode cJ11_getChars 12 = .ok (.istore 4, 2) := dk_54 4 (dk_at dksJ11_getChars_0 12 rfl rfl)
theorem dJ11_getChars_14 : decode cJ11_getChars 14 = .ok (.getstatic 44, 3) := dk_178 0 44 (dk_at dksJ11_getChars_0 14 rfl rfl)
theorem dJ11_getChars_17 : decode cJ11_getChars 17 = .ok (.ifCond .ne 17, 3) := dk_154 0 17 (dk_at dksJ11_getChars_0 17 rfl rfl)
theorem dJ11_getChars_20 : decode cJ11_getChars 20 = .ok (.iload_n 1, 1) := dk_27 (dk_at dksJ11_getChars_0 20 rfl rfl)
theorem dJ11_getChars_21 : decode cJ11_getChars 21 = .ok (.iload 4, 2) := dk_21 4 (dk_at dksJ11_getChars_0 21 rfl rfl)
theorem dJ11_getChars_23 : decode cJ11_getChars 23 = .ok (.if_icmp .eq 11, 3) := dk_159 0 11 (dk_at dksJ11_getChars_1 0 rfl rfl)
theorem dJ11_getChars_26 : decode cJ11_getChars 26 = .ok (.new 52, 3) := dk_187 0 52 (dk_at dksJ11_getChars_1 3 rfl rfl)
theorem dJ11_getChars_29 : decode cJ11_getChars 29 = .ok (.dup, 1) := dk_89 (dk_at dksJ11_getChars_1 6 rfl rfl)
theorem dJ11_getChars_30 : decode cJ11_getChars 30 = .ok (.invokespecial 66, 3) := dk_183 0 66 (dk_at dksJ11_getChars_1 7 rfl rfl)
theorem dJ11_getChars_33 : decode cJ11_getChars 33 = .ok (.athrow, 1) := dk_191 (dk_at dksJ11_getChars_1 10 rfl rfl)
theorem dJ11_getChars_34 : decode cJ11_getChars 34 = .ok (.iload 4, 2) := dk_21 4 (dk_at dksJ11_getChars_1 11 rfl rfl)
theorem dJ11_getChars_36 : decode cJ11_getChars 36 = .ok (.ireturn, 1) := dk_172 (dk_at dksJ11_getChars_1 13 rfl rfl)
abbrev cJ11_getChars_2 : ByteArray := prog_47_method_89_code
def yJ11_getChars_2 : MethodName := ⟨RJ11, "getChars", "(II[B)I"⟩
def dkwJ11_getChars_2_5 : List UInt8 := [132, 5, 255, 21, 5, 16, 45, 184, 0, 111, 21, 5, 172]
abbrev dktJ11_getChars_2_5 : List UInt8 := dkwJ11_getChars_2_5 ++ []
def dkwJ11_getChars_2_4 : List UInt8 := [162, 0, 18, 44, 132, 5, 255, 21, 5, 178, 1, 151, 26, 116, 51, 184, 0, 111, 21, 6, 153, 0, 14, 44]
abbrev dktJ11_getChars_2_4 : List UInt8 := dkwJ11_getChars_2_4 ++ dktJ11_getChars_2_5
def dkwJ11_getChars_2_3 : List UInt8 := [184, 0, 111, 167, 255, 205, 44, 132, 5, 255, 21, 5, 178, 1, 147, 26, 116, 51, 184, 0, 111, 26, 16, 247]
abbrev dktJ11_getChars_2_3 : List UInt8 := dkwJ11_getChars_2_3 ++ dktJ11_getChars_2_4
def dkwJ11_getChars_2_2 : List UInt8 := [21, 5, 178, 1, 147, 21, 4, 51, 184, 0, 111, 44, 132, 5, 255, 21, 5, 178, 1, 151, 21, 4, 51]
abbrev dktJ11_getChars_2_2 : List UInt8 := dkwJ11_getChars_2_2 ++ dktJ11_getChars_2_3
def dkwJ11_getChars_2_1 : List UInt8 := [16, 156, 163, 0, 51, 26, 16, 100, 108, 62, 29, 16, 100, 104, 26, 100, 54, 4, 29, 59, 44, 132, 5, 255]
abbrev dktJ11_getChars_2_1 : List UInt8 := dkwJ11_getChars_2_1 ++ dktJ11_getChars_2_2
def dkwJ11_getChars_2_0 : List UInt8 := [27, 54, 5, 26, 156, 0, 7, 4, 167, 0, 4, 3, 54, 6, 21, 6, 154, 0, 6, 26, 116, 59, 26]
abbrev dktJ11_getChars_2_0 : List UInt8 := dkwJ11_getChars_2_0 ++ dktJ11_getChars_2_1
theorem dksJ11_getChars_2_0 : cJ11_getChars_2.data.toList.drop 0 = dktJ11_getChars_2_0 := by decide +kernel
theorem dksJ11_getChars_2_1 : cJ11_getChars_2.data.toList.drop 23 = dktJ11_getChars_2_1 := dk_seg dksJ11_getChars_2_0 23 rfl rfl
theorem dksJ11_getChars_2_2 : cJ11_getChars_2.data.toList.drop 47 = dktJ11_getChars_2_2 := dk_seg dksJ11_getChars_2_1 24 rfl rfl
theorem dksJ11_getChars_2_3 : cJ11_getChars_2.data.toList.drop 70 = dktJ11_getChars_2_3 := dk_seg dksJ11_getChars_2_2 23 rfl rfl
theorem dksJ11_getChars_2_4 : cJ11_getChars_2.data.toList.drop 94 = dktJ11_getChars_2_4 := dk_seg dksJ11_getChars_2_3 24 rfl rfl
theorem dksJ11_getChars_2_5 : cJ11_getChars_2.data.toList.drop 118 = dktJ11_getChars_2_5 := dk_seg dksJ11_getChars_2_4 24 rfl rfl
theorem dJ11_getChars_2_0 : decode cJ11_getChars_2 0 = .ok (.iload_n 1, 1) := dk_27 (dk_at dksJ11_getChars_2_0 0 rfl rfl)
theorem dJ11_getChars_2_1 : decode cJ11_getChars_2 1 = .ok (.istore 5, 2) := dk_54 5 (dk_at dksJ11_getChars_2_0 1 rfl rfl)
theorem dJ11_getChars_2_3 : decode cJ11_getChars_2 3 = .ok (.iload_n 0, 1) := dk_26 (dk_at dksJ11_getChars_2_0 3 rfl rfl)
theorem dJ11_getChars_2_4 : decode cJ11_getChars_2 4 = .ok (.ifCond .ge 7, 3) := dk_156 0 7 (dk_at dksJ11_getChars_2_0 4 rfl rfl)
theorem dJ11_getChars_2_7 : decode cJ11_getChars_2 7 = .ok (.iconst 1, 1) := dk_4 (dk_at dksJ11_getChars_2_0 7 rfl rfl)
theorem dJ11_getChars_2_8 : decode cJ11_getChars_2 8 = .ok (.goto 4, 3) := dk_167 0 4 (dk_at dksJ11_getChars_2_0 8 rfl rfl)
theorem dJ11_getChars_2_11 : decode cJ11_getChars_2 11 = .ok (.iconst 0, 1) := dk_3 (dk_at dksJ11_getChars_2_0 11 rfl rfl)
theorem dJ11_getChars_2_12 : decode cJ11_getChars_2 12 = .ok (.istore 6, 2) := dk_54 6 (dk_at dksJ11_getChars_2_0 12 rfl rfl)
theorem dJ11_getChars_2_14 : decode cJ11_getChars_2 14 = .ok (.iload 6, 2) := dk_21 6 (dk_at dksJ11_getChars_2_0 14 rfl rfl)
theorem dJ11_getChars_2_16 : decode cJ11_getChars_2 16 = .ok (.ifCond .ne 6, 3) := dk_154 0 6 (dk_at dksJ11_getChars_2_0 16 rfl rfl)
theorem dJ11_getChars_2_19 : decode cJ11_getChars_2 19 = .ok (.iload_n 0, 1) := dk_26 (dk_at dksJ11_getChars_2_0 19 rfl rfl)
theorem dJ11_getChars_2_20 : decode cJ11_getChars_2 20 = .ok (.ineg, 1) := dk_116 (dk_at dksJ11_getChars_2_0 20 rfl rfl)
theorem dJ11_getChars_2_21 : decode cJ11_getChars_2 21 = .ok (.istore_n 0, 1) := dk_59 (dk_at dksJ11_getChars_2_0 21 rfl rfl)
theorem dJ11_getChars_2_22 : decode cJ11_getChars_2 22 = .ok (.iload_n 0, 1) := dk_26 (dk_at dksJ11_getChars_2_0 22 rfl rfl)
theorem dJ11_getChars_2_23 : decode cJ11_getChars_2 23 = .ok (.bipush (-100), 2) := dk_16 156 (dk_at dksJ11_getChars_2_1 0 rfl rfl)
theorem dJ11_getChars_2_25 : decode cJ11_getChars_2 25 = .ok (.if_icmp .gt 51, 3) := dk_163 0 51 (dk_at dksJ11_getChars_2_1 2 rfl rfl)
theorem dJ11_getChars_2_28 : decode cJ11_getChars_2 28 = .ok (.iload_n 0, 1) := dk_26 (dk_at dksJ11_getChars_2_1 5 rfl rfl)
theorem dJ11_getChars_2_29 : decode cJ11_getChars_2 29 = .ok (.bipush 100, 2) := dk_16 100 (dk_at dksJ11_getChars_2_1 6 rfl rfl)
theorem dJ11_getChars_2_31 : decode cJ11_getChars_2 31 = .ok (.idiv, 1) := dk_108 (dk_at dksJ11_getChars_2_1 8 rfl rfl)
theorem dJ11_getChars_2_32 : decode cJ11_getChars_2 32 = .ok (.istore_n 3, 1) := dk_62 (dk_at dksJ11_getChars_2_1 9 rfl rfl)
theorem dJ11_getChars_2_33 : decode cJ11_getChars_2 33 = .ok (.iload_n 3, 1) := dk_29 (dk_at dksJ11_getChars_2_1 10 rfl rfl)
theorem dJ11_getChars_2_34 : decode cJ11_getChars_2 34 = .ok (.bipush 100, 2) := dk_16 100 (dk_at dksJ11_getChars_2_1 11 rfl rfl)
theorem dJ11_getChars_2_36 : decode cJ11_getChars_2 36 = .ok (.imul, 1) := dk_104 (dk_at dksJ11_getChars_2_1 13 rfl rfl)
theorem dJ11_getChars_2_37 : decode cJ11_getChars_2 37 = .ok (.iload_n 0, 1) := dk_26 (dk_at dksJ11_getChars_2_1 14 rfl rfl)
theorem dJ11_getChars_2_38 : decode cJ11_getChars_2 38 = .ok (.isub, 1) := dk_100 (dk_at dksJ11_getChars_2_1 15 rfl rfl)
theorem dJ11_getChars_2_39 : decode cJ11_getChars_2 39 = .ok (.istore 4, 2) := dk_54 4 (dk_at dksJ11_getChars_2_1 16 rfl rfl)
theorem dJ11_getChars_2_41 : decode cJ11_getChars_2 41 = .ok (.iload_n 3, 1) := dk_29 (dk_at dksJ11_getChars_2_1 18 rfl rfl)
theorem dJ11_getChars_2_42 : decode cJ11_getChars_2 42 = .ok (.istore_n 0, 1) := dk_59 (dk_at dksJ11_getChars_2_1 19 rfl rfl)
theorem dJ11_getChars_2_43 : decode cJ11_getChars_2 43 = .ok (.aload_n 2, 1) := dk_44 (dk_at dksJ11_getChars_2_1 20 rfl rfl)
theorem dJ11_getChars_2_44 : decode cJ11_getChars_2 44 = .ok (.iinc 5 (-1), 3) := dk_132 5 255 (dk_at dksJ11_getChars_2_1 21 rfl rfl)
theorem dJ11_getChars_2_47 : decode cJ11_getChars_2 47 = .ok (.iload 5, 2) := dk_21 5 (dk_at dksJ11_getChars_2_2 0 rfl rfl)
theorem dJ11_getChars_2_49 : decode cJ11_getChars_2 49 = .ok (.getstatic 403, 3) := dk_178 1 147 (dk_at dksJ11_getChars_2_2 2 rfl rfl)
theorem dJ11_getChars_2_52 : decode cJ11_getChars_2 52 = .ok (.iload 4, 2) := dk_21 4 (dk_at dksJ11_getChars_2_2 5 rfl rfl)
theorem dJ11_getChars_2_54 : decode cJ11_getChars_2 54 = .ok (.baload, 1) := dk_51 (dk_at dksJ11_getChars_2_2 7 rfl rfl)
theorem dJ11_getChars_2_55 : decode cJ11_getChars_2 55 = .ok (.invokestatic 111, 3) := dk_184 0 111 (dk_at dksJ11_getChars_2_2 8 rfl rfl)
theorem dJ11_getChars_2_58 : decode cJ11_getChars_2 58 = .ok (.aload_n 2, 1) := dk_44 (dk_at dksJ11_getChars_2_2 11 rfl rfl)
theorem dJ11_getChars_2_59 : decode cJ11_getChars_2 59 = .ok (.iinc 5 (-1), 3) := dk_132 5 255 (dk_at dksJ11_getChars_2_2 12 rfl rfl)
theorem dJ11_getChars_2_62 : decode cJ11_getChars_2 62 = .ok (.iload 5, 2) := dk_21 5 (dk_at dksJ11_getChars_2_2 15 rfl rfl)
theorem dJ11_getChars_2_64 : decode cJ11_getChars_2 64 = .ok (.getstatic 407, 3) := dk_178 1 151 (dk_at dksJ11_getChars_2_2 17 rfl rfl)
theorem dJ11_getChars_2_67 : decode cJ11_getChars_2 67 = .ok (.iload 4, 2) := dk_21 4 (dk_at dksJ11_getChars_2_2 20 rfl rfl)
theorem dJ11_getChars_2_69 : decode cJ11_getChars_2 69 = .ok (.baload, 1) := dk_51 (dk_at dksJ11_getChars_2_2 22 rfl rfl)
theorem dJ11_getChars_2_70 : decode cJ11_getChars_2 70 = .ok (.invokestatic 111, 3) := dk_184 0 111 (dk_at dksJ11_getChars_2_3 0 rfl rfl)
theorem dJ11_getChars_2_73 : decode cJ11_getChars_2 73 = .ok (.goto (-51), 3) := dk_167 255 205 (dk_at dksJ11_getChars_2_3 3 rfl rfl)
theorem dJ11_getChars_2_76 : decode cJ11_getChars_2 76 = .ok (.aload_n 2, 1) := dk_44 (dk_at dksJ11_getChars_2_3 6 rfl rfl)
theorem dJ11_getChars_2_77 : decode cJ11_getChars_2 77 = .ok (.iinc 5 (-1), 3) := dk_132 5 255 (dk_at dksJ11_getChars_2_3 7 rfl rfl)
theorem dJ11_getChars_2_80 : decode cJ11_getChars_2 80 = .ok (.iload 5, 2) := dk_21 5 (dk_at dksJ11_getChars_2_3 10 rfl rfl)
theorem dJ11_getChars_2_82 : decode cJ11_getChars_2 82 = .ok (.getstatic 403, 3) := dk_178 1 147 (dk_at dksJ11_getChars_2_3 12 rfl rfl)
theorem dJ11_getChars_2_85 : decode cJ11_getChars_2 85 = .ok (.iload_n 0, 1) := dk_26 (dk_at dksJ11_getChars_2_3 15 rfl rfl)
theorem dJ11_getChars_2_86 : decode cJ11_getChars_2 86 = .ok (.ineg, 1) := dk_116 (dk_at dksJ11_getChars_2_3 16 rfl rfl)
theorem dJ11_getChars_2_87 : decode cJ11_getChars_2 87 = .ok (.baload, 1) := dk_51 (dk_at dksJ11_getChars_2_3 17 rfl rfl)
theorem dJ11_getChars_2_88 : decode cJ11_getChars_2 88 = .ok (.invokestatic 111, 3) := dk_184 0 111 (dk_at dksJ11_getChars_2_3 18 rfl rfl)
theorem dJ11_getChars_2_91 : decode cJ11_getChars_2 91 = .ok (.iload_n 0, 1) := dk_26 (dk_at dksJ11_getChars_2_3 21 rfl rfl)
theorem dJ11_getChars_2_92 : decode cJ11_getChars_2 92 = .ok (.bipush (-9), 2) := dk_16 247 (dk_at dksJ11_getChars_2_3 22 rfl rfl)
theorem dJ11_getChars_2_94 : decode cJ11_getChars_2 94 = .ok (.if_icmp .ge 18, 3) := dk_162 0 18 (dk_at dksJ11_getChars_2_4 0 rfl rfl)
theorem dJ11_getChars_2_97 : decode cJ11_getChars_2 97 = .ok (.aload_n 2, 1) := dk_44 (dk_at dksJ11_getChars_2_4 3 rfl rfl)
theorem dJ11_getChars_2_98 : decode cJ11_getChars_2 98 = .ok (.iinc 5 (-1), 3) := dk_132 5 255 (dk_at dksJ11_getChars_2_4 4 rfl rfl)
theorem dJ11_getChars_2_101 : decode cJ11_getChars_2 101 = .ok (.iload 5, 2) := dk_21 5 (dk_at dksJ11_getChars_2_4 7 rfl rfl)
theorem dJ11_getChars_2_103 : decode cJ11_getChars_2 103 = .ok (.getstatic 407, 3) := dk_178 1 151 (dk_at dksJ11_getChars_2_4 9 rfl rfl)
theorem dJ11_getChars_2_106 : decode cJ11_getChars_2 106 = .ok (.iload_n 0, 1) := dk_26 (dk_at dksJ11_getChars_2_4 12 rfl rfl)
theorem dJ11_getChars_2_107 : decode cJ11_getChars_2 107 = .ok (.ineg, 1) := dk_116 (dk_at dksJ11_getChars_2_4 13 rfl rfl)
theorem dJ11_getChars_2_108 : decode cJ11_getChars_2 108 = .ok (.baload, 1) := dk_51 (dk_at dksJ11_getChars_2_4 14 rfl rfl)
theorem dJ11_getChars_2_109 : decode cJ11_getChars_2 109 = .ok (.invokestatic 111, 3) := dk_184 0 111 (dk_at dksJ11_getChars_2_4 15 rfl rfl)
theorem dJ11_getChars_2_112 : decode cJ11_getChars_2 112 = .ok (.iload 6, 2) := dk_21 6 (dk_at dksJ11_getChars_2_4 18 rfl rfl)
theorem dJ11_getChars_2_114 : decode cJ11_getChars_2 114 = .ok (.ifCond .eq 14, 3) := dk_153 0 14 (dk_at dksJ11_getChars_2_4 20 rfl rfl)
theorem dJ11_getChars_2_117 : decode cJ11_getChars_2 117 = .ok (.aload_n 2, 1) := dk_44 (dk_at dksJ11_getChars_2_4 23 rfl rfl)
theorem dJ11_getChars_2_118 : decode cJ11_getChars_2 118 = .ok (.iinc 5 (-1), 3) := dk_132 5 255 (dk_at dksJ11_getChars_2_5 0 rfl rfl)
theorem dJ11_getChars_2_121 : decode cJ11_getChars_2 121 = .ok (.iload 5, 2) := dk_21 5 (dk_at dksJ11_getChars_2_5 3 rfl rfl)
theorem dJ11_getChars_2_123 : decode cJ11_getChars_2 123 = .ok (.bipush 45, 2) := dk_16 45 (dk_at dksJ11_getChars_2_5 5 rfl rfl)
theorem dJ11_getChars_2_125 : decode cJ11_getChars_2 125 = .ok (.invokestatic 111, 3) := dk_184 0 111 (dk_at dksJ11_getChars_2_5 7 rfl rfl)
theorem dJ11_getChars_2_128 : decode cJ11_getChars_2 128 = .ok (.iload 5, 2) := dk_21 5 (dk_at dksJ11_getChars_2_5 10 rfl rfl)
theorem dJ11_getChars_2_130 : decode cJ11_getChars_2 130 = .ok (.ireturn, 1) := dk_172 (dk_at dksJ11_getChars_2_5 12 rfl rfl)
abbrev cJ11_compress : ByteArray := prog_47_method_17_code
def yJ11_compress : MethodName := ⟨RJ11, "compress", "([BII)[B"⟩
def dkwJ11_compress_2 : List UInt8 := [25, 5, 3, 45, 3, 28, 184, 0, 123, 28, 159, 0, 6, 25, 5, 176, 45, 176]
abbrev dktJ11_compress_2 : List UInt8 := dkwJ11_compress_2 ++ []
def dkwJ11_compress_1 : List UInt8 := [27, 28, 96, 184, 0, 11, 184, 0, 126, 58, 5, 25, 5, 21, 4, 184, 0, 71, 17, 0, 255, 163, 0, 16]
abbrev dktJ11_compress_1 : List UInt8 := dkwJ11_compress_1 ++ dktJ11_compress_2
def dkwJ11_compress_0 : List UInt8 := [28, 188, 8, 78, 42, 27, 45, 3, 28, 184, 0, 123, 54, 4, 21, 4, 28, 159, 0, 47, 42, 27, 4, 120]
abbrev dktJ11_compress_0 : List UInt8 := dkwJ11_compress_0 ++ dktJ11_compress_1
theorem dksJ11_compress_0 : cJ11_compress.data.toList.drop 0 = dktJ11_compress_0 := by decide +kernel
theorem dksJ11_compress_1 : cJ11_compress.data.toList.drop 24 = dktJ11_compress_1 := dk_seg dksJ11_compress_0 24 rfl rfl
theorem dksJ11_compress_2 : cJ11_compress.data.toList.drop 48 = dktJ11_compress_2 := dk_seg dksJ11_compress_1 24 rfl rfl
theorem dJ11_compress_0 : decode cJ11_compress 0 = .ok (.iload_n 2, 1) := dk_28 (dk_at dksJ11_compress_0 0 rfl rfl)
theorem dJ11_compress_1 : decode cJ11_compress 1 = .ok (.newarray .byte, 2) := dk_188_8 (dk_at dksJ11_compress_0 1 rfl rfl)
theorem dJ11_compress_3 : decode cJ11_compress 3 = .ok (.astore_n 3, 1) := dk_78 (dk_at dksJ11_compress_0 3 rfl rfl)
theorem dJ11_compress_4 : decode cJ11_compress 4 = .ok (.aload_n 0, 1) := dk_42 (dk_at dksJ11_compress_0 4 rfl rfl)
theorem dJ11_compress_5 : decode cJ11_compress 5 = .ok (.iload_n 1, 1) := dk_27 (dk_at dksJ11_compress_0 5 rfl rfl)
theorem dJ11_compress_6 : decode cJ11_compress 6 = .ok (.aload_n 3, 1) := dk_45 (dk_at dksJ11_compress_0 6 rfl rfl)
theorem dJ11_compress_7 : decode cJ11_compress 7 = .ok (.iconst 0, 1) := dk_3 (dk_at dksJ11_compress_0 7 rfl rfl)
theorem dJ11_compress_8 : decode cJ11_compress 8 = .ok (.iload_n 2, 1) := dk_28 (dk_at dksJ11_compress_0 8 rfl rfl)
theorem dJ11_compress_9 : decode cJ11_compress 9 = .ok (.invokestatic 123, 3) := dk_184 0 123 (dk_at dksJ11_compress_0 9 rfl rfl)
theorem dJ11_compress_12 : decode cJ11_compress 12 = .ok (.istore 4, 2) := dk_54 4 (dk_at dksJ11_compress_0 12 rfl rfl)
theorem dJ11_compress_14 : decode cJ11_compress 14 = .ok (.iload 4, 2) := dk_21 4 (dk_at dksJ11_compress_0 14 rfl rfl)
theorem dJ11_compress_16 : decode cJ11_compress 16 = .ok (.iload_n 2, 1) := dk_28 (dk_at dksJ11_compress_0 16 rfl rfl)
theorem dJ11_compress_17 : decode cJ11_compress 17 = .ok (.if_icmp .eq 47, 3) := dk_159 0 47 (dk_at dksJ11_compress_0 17 rfl rfl)
theorem dJ11_compress_20 : decode cJ11_compress 20 = .ok (.aload_n 0, 1) := dk_42 (dk_at dksJ11_compress_0 20 rfl rfl)
theorem dJ11_compress_21 : decode cJ11_compress 21 = .ok (.iload_n 1, 1) := dk_27 (dk_at dksJ11_compress_0 21 rfl rfl)
theorem dJ11_compress_22 : decode cJ11_compress 22 = .ok (.iconst 1, 1) := dk_4 (dk_at dksJ11_compress_0 22 rfl rfl)
theorem dJ11_compress_23 : decode cJ11_compress 23 = .ok (.ishl, 1) := dk_120 (dk_at dksJ11_compress_0 23 rfl rfl)
theorem dJ11_compress_24 : decode cJ11_compress 24 = .ok (.iload_n 1, 1) := dk_27 (dk_at dksJ11_compress_1 0 rfl rfl)
theorem dJ11_compress_25 : decode cJ11_compress 25 = .ok (.iload_n 2, 1) := dk_28 (dk_at dksJ11_compress_1 1 rfl rfl)
theorem dJ11_compress_26 : decode cJ11_compress 26 = .ok (.iadd, 1) := dk_96 (dk_at dksJ11_compress_1 2 rfl rfl)
theorem dJ11_compress_27 : decode cJ11_compress 27 = .ok (.invokestatic 11, 3) := dk_184 0 11 (dk_at dksJ11_compress_1 3 rfl rfl)
theorem dJ11_compress_30 : decode cJ11_compress 30 = .ok (.invokestatic 126, 3) := dk_184 0 126 (dk_at dksJ11_compress_1 6 rfl rfl)
theorem dJ11_compress_33 : decode cJ11_compress 33 = .ok (.astore 5, 2) := dk_58 5 (dk_at dksJ11_compress_1 9 rfl rfl)
theorem dJ11_compress_35 : decode cJ11_compress 35 = .ok (.aload 5, 2) := dk_25 5 (dk_at dksJ11_compress_1 11 rfl rfl)
theorem dJ11_compress_37 : decode cJ11_compress 37 = .ok (.iload 4, 2) := dk_21 4 (dk_at dksJ11_compress_1 13 rfl rfl)
theorem dJ11_compress_39 : decode cJ11_compress 39 = .ok (.invokestatic 71, 3) := dk_184 0 71 (dk_at dksJ11_compress_1 15 rfl rfl)
theorem dJ11_compress_42 : decode cJ11_compress 42 = .ok (.sipush 255, 3) := dk_17 0 255 (dk_at dksJ11_compress_1 18 rfl rfl)
theorem dJ11_compress_45 : decode cJ11_compress 45 = .ok (.if_icmp .gt 16, 3) := dk_163 0 16 (dk_at dksJ11_compress_1 21 rfl rfl)
theorem dJ11_compress_48 : decode cJ11_compress 48 = .ok (.aload 5, 2) := dk_25 5 (dk_at dksJ11_compress_2 0 rfl rfl)
theorem dJ11_compress_50 : decode cJ11_compress 50 = .ok (.iconst 0, 1) := dk_3 (dk_at dksJ11_compress_2 2 rfl rfl)
theorem dJ11_compress_51 : decode cJ11_compress 51 = .ok (.aload_n 3, 1) := dk_45 (dk_at dksJ11_compress_2 3 rfl rfl)
theorem dJ11_compress_52 : decode cJ11_compress 52 = .ok (.iconst 0, 1) := dk_3 (dk_at dksJ11_compress_2 4 rfl rfl)
theorem dJ11_compress_53 : decode cJ11_compress 53 = .ok (.iload_n 2, 1) := dk_28 (dk_at dksJ11_compress_2 5 rfl rfl)
theorem dJ11_compress_54 : decode cJ11_compress 54 = .ok (.invokestatic 123, 3) := dk_184 0 123 (dk_at dksJ11_compress_2 6 rfl rfl)
theorem dJ11_compress_57 : decode cJ11_compress 57 = .ok (.iload_n 2, 1) := dk_28 (dk_at dksJ11_compress_2 9 rfl rfl)
theorem dJ11_compress_58 : decode cJ11_compress 58 = .ok (.if_icmp .eq 6, 3) := dk_159 0 6 (dk_at dksJ11_compress_2 10 rfl rfl)
theorem dJ11_compress_61 : decode cJ11_compress 61 = .ok (.aload 5, 2) := dk_25 5 (dk_at dksJ11_compress_2 13 rfl rfl)
theorem dJ11_compress_63 : decode cJ11_compress 63 = .ok (.areturn, 1) := dk_176 (dk_at dksJ11_compress_2 15 rfl rfl)
theorem dJ11_compress_64 : decode cJ11_compress 64 = .ok (.aload_n 3, 1) := dk_45 (dk_at dksJ11_compress_2 16 rfl rfl)
theorem dJ11_compress_65 : decode cJ11_compress 65 = .ok (.areturn, 1) := dk_176 (dk_at dksJ11_compress_2 17 rfl rfl)
abbrev cJ11_compress_2 : ByteArray := prog_47_method_22_code
def yJ11_compress_2 : MethodName := ⟨RJ11, "compress", "([BI[BII)I"⟩
def dkwJ11_compress_2_2 : List UInt8 := [132, 5, 1, 167, 255, 216, 21, 4, 172]
abbrev dktJ11_compress_2_2 : List UInt8 := dkwJ11_compress_2_2 ++ []
def dkwJ11_compress_2_1 : List UInt8 := [21, 6, 17, 0, 255, 164, 0, 6, 21, 5, 172, 44, 29, 21, 6, 145, 84, 132, 1, 1, 132, 3, 1]
abbrev dktJ11_compress_2_1 : List UInt8 := dkwJ11_compress_2_1 ++ dktJ11_compress_2_2
def dkwJ11_compress_2_0 : List UInt8 := [27, 21, 4, 42, 184, 0, 173, 3, 54, 5, 21, 5, 21, 4, 162, 0, 39, 42, 27, 184, 0, 71, 54, 6]
abbrev dktJ11_compress_2_0 : List UInt8 := dkwJ11_compress_2_0 ++ dktJ11_compress_2_1
theorem dksJ11_compress_2_0 : cJ11_compress_2.data.toList.drop 0 = dktJ11_compress_2_0 := by decide +kernel
theorem dksJ11_compress_2_1 : cJ11_compress_2.data.toList.drop 24 = dktJ11_compress_2_1 := dk_seg dksJ11_compress_2_0 24 rfl rfl
theorem dksJ11_compress_2_2 : cJ11_compress_2.data.toList.drop 47 = dktJ11_compress_2_2 := dk_seg dksJ11_compress_2_1 23 rfl rfl
theorem dJ11_compress_2_0 : decode cJ11_compress_2 0 = .ok (.iload_n 1, 1) := dk_27 (dk_at dksJ11_compress_2_0 0 rfl rfl)
theorem dJ11_compress_2_1 : decode cJ11_compress_2 1 = .ok (.iload 4, 2) := dk_21 4 (dk_at dksJ11_compress_2_0 1 rfl rfl)
theorem dJ11_compress_2_3 : decode cJ11_compress_2 3 = .ok (.aload_n 0, 1) := dk_42 (dk_at dksJ11_compress_2_0 3 rfl rfl)
theorem dJ11_compress_2_4 : decode cJ11_compress_2 4 = .ok (.invokestatic 173, 3) := dk_184 0 173 (dk_at dksJ11_compress_2_0 4 rfl rfl)
theorem dJ11_compress_2_7 : decode cJ11_compress_2 7 = .ok (.iconst 0, 1) := dk_3 (dk_at dksJ11_compress_2_0 7 rfl rfl)
theorem dJ11_compress_2_8 : decode cJ11_compress_2 8 = .ok (.istore 5, 2) := dk_54 5 (dk_at dksJ11_compress_2_0 8 rfl rfl)
theorem dJ11_compress_2_10 : decode cJ11_compress_2 10 = .ok (.iload 5, 2) := dk_21 5 (dk_at dksJ11_compress_2_0 10 rfl rfl)
theorem dJ11_compress_2_12 : decode cJ11_compress_2 12 = .ok (.iload 4, 2) := dk_21 4 (dk_at dksJ11_compress_2_0 12 rfl rfl)
theorem dJ11_compress_2_14 : decode cJ11_compress_2 14 = .ok (.if_icmp .ge 39, 3) := dk_162 0 39 (dk_at dksJ11_compress_2_0 14 rfl rfl)
theorem dJ11_compress_2_17 : decode cJ11_compress_2 17 = .ok (.aload_n 0, 1) := dk_42 (dk_at dksJ11_compress_2_0 17 rfl rfl)
theorem dJ11_compress_2_18 : decode cJ11_compress_2 18 = .ok (.iload_n 1, 1) := dk_27 (dk_at dksJ11_compress_2_0 18 rfl rfl)
theorem dJ11_compress_2_19 : decode cJ11_compress_2 19 = .ok (.invokestatic 71, 3) := dk_184 0 71 (dk_at dksJ11_compress_2_0 19 rfl rfl)
theorem dJ11_compress_2_22 : decode cJ11_compress_2 22 = .ok (.istore 6, 2) := dk_54 6 (dk_at dksJ11_compress_2_0 22 rfl rfl)
theorem dJ11_compress_2_24 : decode cJ11_compress_2 24 = .ok (.iload 6, 2) := dk_21 6 (dk_at dksJ11_compress_2_1 0 rfl rfl)
theorem dJ11_compress_2_26 : decode cJ11_compress_2 26 = .ok (.sipush 255, 3) := dk_17 0 255 (dk_at dksJ11_compress_2_1 2 rfl rfl)
theorem dJ11_compress_2_29 : decode cJ11_compress_2 29 = .ok (.if_icmp .le 6, 3) := dk_164 0 6 (dk_at dksJ11_compress_2_1 5 rfl rfl)
theorem dJ11_compress_2_32 : decode cJ11_compress_2 32 = .ok (.iload 5, 2) := dk_21 5 (dk_at dksJ11_compress_2_1 8 rfl rfl)
theorem dJ11_compress_2_34 : decode cJ11_compress_2 34 = .ok (.ireturn, 1) := dk_172 (dk_at dksJ11_compress_2_1 10 rfl rfl)
theorem dJ11_compress_2_35 : decode cJ11_compress_2 35 = .ok (.aload_n 2, 1) := dk_44 (dk_at dksJ11_compress_2_1 11 rfl rfl)
theorem dJ11_compress_2_36 : decode cJ11_compress_2 36 = .ok (.iload_n 3, 1) := dk_29 (dk_at dksJ11_compress_2_1 12 rfl rfl)
theorem dJ11_compress_2_37 : decode cJ11_compress_2 37 = .ok (.iload 6, 2) := dk_21 6 (dk_at dksJ11_compress_2_1 13 rfl rfl)
theorem dJ11_compress_2_39 : decode cJ11_compress_2 39 = .ok (.i2b, 1) := dk_145 (dk_at dksJ11_compress_2_1 15 rfl rfl)
theorem dJ11_compress_2_40 : decode cJ11_compress_2 40 = .ok (.bastore, 1) := dk_84 (dk_at dksJ11_compress_2_1 16 rfl rfl)
theorem dJ11_compress_2_41 : decode cJ11_compress_2 41 = .ok (.iinc 1 1, 3) := dk_132 1 1 (dk_at dksJ11_compress_2_1 17 rfl rfl)
theorem dJ11_compress_2_44 : decode cJ11_compress_2 44 = .ok (.iinc 3 1, 3) := dk_132 3 1 (dk_at dksJ11_compress_2_1 20 rfl rfl)
theorem dJ11_compress_2_47 : decode cJ11_compress_2 47 = .ok (.iinc 5 1, 3) := dk_132 5 1 (dk_at dksJ11_compress_2_2 0 rfl rfl)
theorem dJ11_compress_2_50 : decode cJ11_compress_2 50 = .ok (.goto (-40), 3) := dk_167 255 216 (dk_at dksJ11_compress_2_2 3 rfl rfl)
theorem dJ11_compress_2_53 : decode cJ11_compress_2 53 = .ok (.iload 4, 2) := dk_21 4 (dk_at dksJ11_compress_2_2 6 rfl rfl)
theorem dJ11_compress_2_55 : decode cJ11_compress_2 55 = .ok (.ireturn, 1) := dk_172 (dk_at dksJ11_compress_2_2 8 rfl rfl)
abbrev cJ11_getChar : ByteArray := prog_47_method_5_code
def yJ11_getChar : MethodName := ⟨RJ11, "getChar", "([BI)C"⟩
def dkwJ11_getChar_2 : List UInt8 := [51, 17, 0, 255, 126, 178, 0, 63, 120, 128, 146, 172]
abbrev dktJ11_getChar_2 : List UInt8 := dkwJ11_getChar_2 ++ []
def dkwJ11_getChar_1 : List UInt8 := [183, 0, 56, 191, 27, 4, 120, 60, 42, 27, 132, 1, 1, 51, 17, 0, 255, 126, 178, 0, 59, 120, 42, 27]
abbrev dktJ11_getChar_1 : List UInt8 := dkwJ11_getChar_1 ++ dktJ11_getChar_2
def dkwJ11_getChar_0 : List UInt8 := [178, 0, 44, 154, 0, 25, 27, 155, 0, 11, 27, 42, 184, 0, 48, 161, 0, 13, 187, 0, 52, 89, 18, 54]
abbrev dktJ11_getChar_0 : List UInt8 := dkwJ11_getChar_0 ++ dktJ11_getChar_1
theorem dksJ11_getChar_0 : cJ11_getChar.data.toList.drop 0 = dktJ11_getChar_0 := by decide +kernel
theorem dksJ11_getChar_1 : cJ11_getChar.data.toList.drop 24 = dktJ11_getChar_1 := dk_seg dksJ11_getChar_0 24 rfl rfl
theorem dksJ11_getChar_2 : cJ11_getChar.data.toList.drop 48 = dktJ11_getChar_2 := dk_seg dksJ11_getChar_1 24 rfl rfl
theorem dJ11_getChar_0 : decode cJ11_getChar 0 = .ok (.getstatic 44, 3) := dk_178 0 44 (dk_at dksJ11_getChar_0 0 rfl rfl)
theorem dJ11_getChar_3 : decode cJ11_getChar 3 = .ok (.ifCond .ne 25, 3) := dk_154 0 25 (dk_at dksJ11_getChar_0 3 rfl rfl)
theorem dJ11_getChar_6 : decode cJ11_getChar 6 = .ok (.iload_n 1, 1) := dk_27 (dk_at dksJ11_getChar_0 6 rfl rfl)
theorem dJ11_getChar_7 : decode cJ11_getChar 7 = .ok (.ifCond .lt 11, 3) := dk_155 0 11 (dk_at dksJ11_getChar_0 7 rfl rfl)
theorem dJ11_getChar_10 : decode cJ11_getChar 10 = .ok (.iload_n 1, 1) := dk_27 (dk_at dksJ11_getChar_0 10 rfl rfl)
theorem dJ11_getChar_11 : decode cJ11_getChar 11 = .ok (.aload_n 0, 1) := dk_42 (dk_at dksJ11_getChar_0 11 rfl rfl)
theorem dJ11_getChar_12 : decode cJ11_getChar 12 = .ok (.invokestatic 48, 3) := dk_184 0 48 (dk_at dksJ11_getChar_0 12 rfl rfl)
theorem dJ11_getChar_15 : decode cJ11_getChar 15 = .ok (.if_icmp .lt 13, 3) := dk_161 0 13 (dk_at dksJ11_getChar_0 15 rfl rfl)
theorem dJ11_getChar_18 : decode cJ11_getChar 18 = .ok (.new 52, 3) := dk_187 0 52 (dk_at dksJ11_getChar_0 18 rfl rfl)
theorem dJ11_getChar_21 : decode cJ11_getChar 21 = .ok (.dup, 1) := dk_89 (dk_at dksJ11_getChar_0 21 rfl rfl)
theorem dJ11_getChar_22 : decode cJ11_getChar 22 = .ok (.ldc 54, 2) := dk_18 54 (dk_at dksJ11_getChar_0 22 rfl rfl)
theorem dJ11_getChar_24 : decode cJ11_getChar 24 = .ok (.invokespecial 56, 3) := dk_183 0 56 (dk_at dksJ11_getChar_1 0 rfl rfl)
theorem dJ11_getChar_27 : decode cJ11_getChar 27 = .ok (.athrow, 1) := dk_191 (dk_at dksJ11_getChar_1 3 rfl rfl)
theorem dJ11_getChar_28 : decode cJ11_getChar 28 = .ok (.iload_n 1, 1) := dk_27 (dk_at dksJ11_getChar_1 4 rfl rfl)
theorem dJ11_getChar_29 : decode cJ11_getChar 29 = .ok (.iconst 1, 1) := dk_4 (dk_at dksJ11_getChar_1 5 rfl rfl)
theorem dJ11_getChar_30 : decode cJ11_getChar 30 = .ok (.ishl, 1) := dk_120 (dk_at dksJ11_getChar_1 6 rfl rfl)
theorem dJ11_getChar_31 : decode cJ11_getChar 31 = .ok (.istore_n 1, 1) := dk_60 (dk_at dksJ11_getChar_1 7 rfl rfl)
theorem dJ11_getChar_32 : decode cJ11_getChar 32 = .ok (.aload_n 0, 1) := dk_42 (dk_at dksJ11_getChar_1 8 rfl rfl)
theorem dJ11_getChar_33 : decode cJ11_getChar 33 = .ok (.iload_n 1, 1) := dk_27 (dk_at dksJ11_getChar_1 9 rfl rfl)
theorem dJ11_getChar_34 : decode cJ11_getChar 34 = .ok (.iinc 1 1, 3) := dk_132 1 1 (dk_at dksJ11_getChar_1 10 rfl rfl)
theorem dJ11_getChar_37 : decode cJ11_getChar 37 = .ok (.baload, 1) := dk_51 (dk_at dksJ11_getChar_1 13 rfl rfl)
theorem dJ11_getChar_38 : decode cJ11_getChar 38 = .ok (.sipush 255, 3) := dk_17 0 255 (dk_at dksJ11_getChar_1 14 rfl rfl)
theorem dJ11_getChar_41 : decode cJ11_getChar 41 = .ok (.iand, 1) := dk_126 (dk_at dksJ11_getChar_1 17 rfl rfl)
theorem dJ11_getChar_42 : decode cJ11_getChar 42 = .ok (.getstatic 59, 3) := dk_178 0 59 (dk_at dksJ11_getChar_1 18 rfl rfl)
theorem dJ11_getChar_45 : decode cJ11_getChar 45 = .ok (.ishl, 1) := dk_120 (dk_at dksJ11_getChar_1 21 rfl rfl)
theorem dJ11_getChar_46 : decode cJ11_getChar 46 = .ok (.aload_n 0, 1) := dk_42 (dk_at dksJ11_getChar_1 22 rfl rfl)
theorem dJ11_getChar_47 : decode cJ11_getChar 47 = .ok (.iload_n 1, 1) := dk_27 (dk_at dksJ11_getChar_1 23 rfl rfl)
theorem dJ11_getChar_48 : decode cJ11_getChar 48 = .ok (.baload, 1) := dk_51 (dk_at dksJ11_getChar_2 0 rfl rfl)
theorem dJ11_getChar_49 : decode cJ11_getChar 49 = .ok (.sipush 255, 3) := dk_17 0 255 (dk_at dksJ11_getChar_2 1 rfl rfl)
theorem dJ11_getChar_52 : decode cJ11_getChar 52 = .ok (.iand, 1) := dk_126 (dk_at dksJ11_getChar_2 4 rfl rfl)
theorem dJ11_getChar_53 : decode cJ11_getChar 53 = .ok (.getstatic 63, 3) := dk_178 0 63 (dk_at dksJ11_getChar_2 5 rfl rfl)
theorem dJ11_getChar_56 : decode cJ11_getChar 56 = .ok (.ishl, 1) := dk_120 (dk_at dksJ11_getChar_2 8 rfl rfl)
theorem dJ11_getChar_57 : decode cJ11_getChar 57 = .ok (.ior, 1) := dk_128 (dk_at dksJ11_getChar_2 9 rfl rfl)
theorem dJ11_getChar_58 : decode cJ11_getChar 58 = .ok (.i2c, 1) := dk_146 (dk_at dksJ11_getChar_2 10 rfl rfl)
theorem dJ11_getChar_59 : decode cJ11_getChar 59 = .ok (.ireturn, 1) := dk_172 (dk_at dksJ11_getChar_2 11 rfl rfl)
abbrev cJ11_coderFromArrayLen : ByteArray := prog_47_method_15_code
def yJ11_coderFromArrayLen : MethodName := ⟨RJ11, "coderFromArrayLen", "([BI)B"⟩
def dkwJ11_coderFromArrayLen_0 : List UInt8 := [27, 42, 190, 100, 16, 31, 124, 145, 172]
abbrev dktJ11_coderFromArrayLen_0 : List UInt8 := dkwJ11_coderFromArrayLen_0 ++ []
theorem dksJ11_coderFromArrayLen_0 : cJ11_coderFromArrayLen.data.toList.drop 0 = dktJ11_coderFromArrayLen_0 := by decide +kernel
theorem dJ11_coderFromArrayLen_0 : decode cJ11_coderFromArrayLen 0 = .ok (.iload_n 1, 1) := dk_27 (dk_at dksJ11_coderFromArrayLen_0 0 rfl rfl)
theorem dJ11_coderFromArrayLen_1 : decode cJ11_coderFromArrayLen 1 = .ok (.aload_n 0, 1) := dk_42 (dk_at dksJ11_coderFromArrayLen_0 1 rfl rfl)
theorem dJ11_coderFromArrayLen_2 : decode cJ11_coderFromArrayLen 2 = .ok (.arraylength, 1) := dk_190 (dk_at dksJ11_coderFromArrayLen_0 2 rfl rfl)
theorem dJ11_coderFromArrayLen_3 : decode cJ11_coderFromArrayLen 3 = .ok (.isub, 1) := dk_100 (dk_at dksJ11_coderFromArrayLen_0 3 rfl rfl)
theorem dJ11_coderFromArrayLen_4 : decode cJ11_coderFromArrayLen 4 = .ok (.bipush 31, 2) := dk_16 31 (dk_at dksJ11_coderFromArrayLen_0 4 rfl rfl)
theorem dJ11_coderFromArrayLen_6 : decode cJ11_coderFromArrayLen 6 = .ok (.iushr, 1) := dk_124 (dk_at dksJ11_coderFromArrayLen_0 6 rfl rfl)
theorem dJ11_coderFromArrayLen_7 : decode cJ11_coderFromArrayLen 7 = .ok (.i2b, 1) := dk_145 (dk_at dksJ11_coderFromArrayLen_0 7 rfl rfl)
theorem dJ11_coderFromArrayLen_8 : decode cJ11_coderFromArrayLen 8 = .ok (.ireturn, 1) := dk_172 (dk_at dksJ11_coderFromArrayLen_0 8 rfl rfl)
abbrev cJ11_hashCode : ByteArray := prog_47_method_39_code
def yJ11_hashCode : MethodName := ⟨RJ11, "hashCode", "([B)I"⟩
def dkwJ11_hashCode_2 : List UInt8 := [3, 167, 0, 22, 42, 3, 184, 0, 71, 167, 0, 14, 42, 3, 42, 190, 4, 122, 3, 8, 184, 0, 220, 172]
abbrev dktJ11_hashCode_2 : List UInt8 := dkwJ11_hashCode_2 ++ []
def dkwJ11_hashCode_1 : List UInt8 := [171, 0, 0, 0, 0, 38, 0, 0, 0, 2, 0, 0, 0, 0, 0, 0, 0, 26, 0, 0, 0, 2, 0, 0, 0, 30]
abbrev dktJ11_hashCode_1 : List UInt8 := dkwJ11_hashCode_1 ++ dktJ11_hashCode_2
def dkwJ11_hashCode_0 : List UInt8 := [42, 190]
abbrev dktJ11_hashCode_0 : List UInt8 := dkwJ11_hashCode_0 ++ dktJ11_hashCode_1
theorem dksJ11_hashCode_0 : cJ11_hashCode.data.toList.drop 0 = dktJ11_hashCode_0 := by decide +kernel
theorem dksJ11_hashCode_1 : cJ11_hashCode.data.toList.drop 2 = dktJ11_hashCode_1 := dk_seg dksJ11_hashCode_0 2 rfl rfl
theorem dksJ11_hashCode_2 : cJ11_hashCode.data.toList.drop 28 = dktJ11_hashCode_2 := dk_seg dksJ11_hashCode_1 26 rfl rfl
theorem dJ11_hashCode_0 : decode cJ11_hashCode 0 = .ok (.aload_n 0, 1) := dk_42 (dk_at dksJ11_hashCode_0 0 rfl rfl)
theorem dJ11_hashCode_1 : decode cJ11_hashCode 1 = .ok (.arraylength, 1) := dk_190 (dk_at dksJ11_hashCode_0 1 rfl rfl)
theorem dJ11_hashCode_2 : decode cJ11_hashCode 2 = .ok (.lookupswitch 38 #[(0, 26), (2, 30)], 26) := by decide +kernel
theorem dJ11_hashCode_28 : decode cJ11_hashCode 28 = .ok (.iconst 0, 1) := dk_3 (dk_at dksJ11_hashCode_2 0 rfl rfl)
theorem dJ11_hashCode_29 : decode cJ11_hashCode 29 = .ok (.goto 22, 3) := dk_167 0 22 (dk_at dksJ11_hashCode_2 1 rfl rfl)
theorem dJ11_hashCode_32 : decode cJ11_hashCode 32 = .ok (.aload_n 0, 1) := dk_42 (dk_at dksJ11_hashCode_2 4 rfl rfl)
theorem dJ11_hashCode_33 : decode cJ11_hashCode 33 = .ok (.iconst 0, 1) := dk_3 (dk_at dksJ11_hashCode_2 5 rfl rfl)
theorem dJ11_hashCode_34 : decode cJ11_hashCode 34 = .ok (.invokestatic 71, 3) := dk_184 0 71 (dk_at dksJ11_hashCode_2 6 rfl rfl)
theorem dJ11_hashCode_37 : decode cJ11_hashCode 37 = .ok (.goto 14, 3) := dk_167 0 14 (dk_at dksJ11_hashCode_2 9 rfl rfl)
theorem dJ11_hashCode_40 : decode cJ11_hashCode 40 = .ok (.aload_n 0, 1) := dk_42 (dk_at dksJ11_hashCode_2 12 rfl rfl)
theorem dJ11_hashCode_41 : decode cJ11_hashCode 41 = .ok (.iconst 0, 1) := dk_3 (dk_at dksJ11_hashCode_2 13 rfl rfl)
theorem dJ11_hashCode_42 : decode cJ11_hashCode 42 = .ok (.aload_n 0, 1) := dk_42 (dk_at dksJ11_hashCode_2 14 rfl rfl)
theorem dJ11_hashCode_43 : decode cJ11_hashCode 43 = .ok (.arraylength, 1) := dk_190 (dk_at dksJ11_hashCode_2 15 rfl rfl)
theorem dJ11_hashCode_44 : decode cJ11_hashCode 44 = .ok (.iconst 1, 1) := dk_4 (dk_at dksJ11_hashCode_2 16 rfl rfl)
theorem dJ11_hashCode_45 : decode cJ11_hashCode 45 = .ok (.ishr, 1) := dk_122 (dk_at dksJ11_hashCode_2 17 rfl rfl)
theorem dJ11_hashCode_46 : decode cJ11_hashCode 46 = .ok (.iconst 0, 1) := dk_3 (dk_at dksJ11_hashCode_2 18 rfl rfl)
theorem dJ11_hashCode_47 : decode cJ11_hashCode 47 = .ok (.iconst 5, 1) := dk_8 (dk_at dksJ11_hashCode_2 19 rfl rfl)
theorem dJ11_hashCode_48 : decode cJ11_hashCode 48 = .ok (.invokestatic 220, 3) := dk_184 0 220 (dk_at dksJ11_hashCode_2 20 rfl rfl)
theorem dJ11_hashCode_51 : decode cJ11_hashCode 51 = .ok (.ireturn, 1) := dk_172 (dk_at dksJ11_hashCode_2 23 rfl rfl)
abbrev cJ11_compareTo : ByteArray := prog_47_method_29_code
def yJ11_compareTo : MethodName := ⟨RJ11, "compareTo", "([B[B)I"⟩
def dkwJ11_compareTo_0 : List UInt8 := [42, 184, 0, 48, 61, 43, 184, 0, 48, 62, 42, 43, 28, 29, 184, 0, 176, 172]
abbrev dktJ11_compareTo_0 : List UInt8 := dkwJ11_compareTo_0 ++ []
theorem dksJ11_compareTo_0 : cJ11_compareTo.data.toList.drop 0 = dktJ11_compareTo_0 := by decide +kernel
theorem dJ11_compareTo_0 : decode cJ11_compareTo 0 = .ok (.aload_n 0, 1) := dk_42 (dk_at dksJ11_compareTo_0 0 rfl rfl)
theorem dJ11_compareTo_1 : decode cJ11_compareTo 1 = .ok (.invokestatic 48, 3) := dk_184 0 48 (dk_at dksJ11_compareTo_0 1 rfl rfl)
theorem dJ11_compareTo_4 : decode cJ11_compareTo 4 = .ok (.istore_n 2, 1) := dk_61 (dk_at dksJ11_compareTo_0 4 rfl rfl)
theorem dJ11_compareTo_5 : decode cJ11_compareTo 5 = .ok (.aload_n 1, 1) := dk_43 (dk_at dksJ11_compareTo_0 5 rfl rfl)
theorem dJ11_compareTo_6 : decode cJ11_compareTo 6 = .ok (.invokestatic 48, 3) := dk_184 0 48 (dk_at dksJ11_compareTo_0 6 rfl rfl)
theorem dJ11_compareTo_9 : decode cJ11_compareTo 9 = .ok (.istore_n 3, 1) := dk_62 (dk_at dksJ11_compareTo_0 9 rfl rfl)
theorem dJ11_compareTo_10 : decode cJ11_compareTo 10 = .ok (.aload_n 0, 1) := dk_42 (dk_at dksJ11_compareTo_0 10 rfl rfl)
theorem dJ11_compareTo_11 : decode cJ11_compareTo 11 = .ok (.aload_n 1, 1) := dk_43 (dk_at dksJ11_compareTo_0 11 rfl rfl)
theorem dJ11_compareTo_12 : decode cJ11_compareTo 12 = .ok (.iload_n 2, 1) := dk_28 (dk_at dksJ11_compareTo_0 12 rfl rfl)
theorem dJ11_compareTo_13 : decode cJ11_compareTo 13 = .ok (.iload_n 3, 1) := dk_29 (dk_at dksJ11_compareTo_0 13 rfl rfl)
theorem dJ11_compareTo_14 : decode cJ11_compareTo 14 = .ok (.invokestatic 176, 3) := dk_184 0 176 (dk_at dksJ11_compareTo_0 14 rfl rfl)
theorem dJ11_compareTo_17 : decode cJ11_compareTo 17 = .ok (.ireturn, 1) := dk_172 (dk_at dksJ11_compareTo_0 17 rfl rfl)
abbrev cJ11_compareValues : ByteArray := prog_47_method_31_code
def yJ11_compareValues : MethodName := ⟨RJ11, "compareValues", "([B[BII)I"⟩
def dkwJ11_compareValues_2 : List UInt8 := [132, 5, 1, 167, 255, 217, 28, 29, 100, 172]
abbrev dktJ11_compareValues_2 : List UInt8 := dkwJ11_compareValues_2 ++ []
def dkwJ11_compareValues_1 : List UInt8 := [54, 6, 43, 21, 5, 184, 0, 71, 54, 7, 21, 6, 21, 7, 159, 0, 9, 21, 6, 21, 7, 100, 172]
abbrev dktJ11_compareValues_1 : List UInt8 := dkwJ11_compareValues_1 ++ dktJ11_compareValues_2
def dkwJ11_compareValues_0 : List UInt8 := [28, 29, 184, 0, 183, 54, 4, 3, 54, 5, 21, 5, 21, 4, 162, 0, 38, 42, 21, 5, 184, 0, 71]
abbrev dktJ11_compareValues_0 : List UInt8 := dkwJ11_compareValues_0 ++ dktJ11_compareValues_1
theorem dksJ11_compareValues_0 : cJ11_compareValues.data.toList.drop 0 = dktJ11_compareValues_0 := by decide +kernel
theorem dksJ11_compareValues_1 : cJ11_compareValues.data.toList.drop 23 = dktJ11_compareValues_1 := dk_seg dksJ11_compareValues_0 23 rfl rfl
theorem dksJ11_compareValues_2 : cJ11_compareValues.data.toList.drop 46 = dktJ11_compareValues_2 := dk_seg dksJ11_compareValues_1 23 rfl rfl
theorem dJ11_compareValues_0 : decode cJ11_compareValues 0 = .ok (.iload_n 2, 1) := dk_28 (dk_at dksJ11_compareValues_0 0 rfl rfl)
theorem dJ11_compareValues_1 : decode cJ11_compareValues 1 = .ok (.iload_n 3, 1) := dk_29 (dk_at dksJ11_compareValues_0 1 rfl rfl)
theorem dJ11_compareValues_2 : decode cJ11_compareValues 2 = .ok (.invokestatic 183, 3) := dk_184 0 183 (dk_at dksJ11_compareValues_0 2 rfl rfl)
theorem dJ11_compareValues_5 : decode cJ11_compareValues 5 = .ok (.istore 4, 2) := dk_54 4 (dk_at dksJ11_compareValues_0 5 rfl rfl)
theorem dJ11_compareValues_7 : decode cJ11_compareValues 7 = .ok (.iconst 0, 1) := dk_3 (dk_at dksJ11_compareValues_0 7 rfl rfl)
theorem dJ11_compareValues_8 : decode cJ11_compareValues 8 = .ok (.istore 5, 2) := dk_54 5 (dk_at dksJ11_compareValues_0 8 rfl rfl)
theorem dJ11_compareValues_10 : decode cJ11_compareValues 10 = .ok (.iload 5, 2) := dk_21 5 (dk_at dksJ11_compareValues_0 10 rfl rfl)
theorem dJ11_compareValues_12 : decode cJ11_compareValues 12 = .ok (.iload 4, 2) := dk_21 4 (dk_at dksJ11_compareValues_0 12 rfl rfl)
theorem dJ11_compareValues_14 : decode cJ11_compareValues 14 = .ok (.if_icmp .ge 38, 3) := dk_162 0 38 (dk_at dksJ11_compareValues_0 14 rfl rfl)
theorem dJ11_compareValues_17 : decode cJ11_compareValues 17 = .ok (.aload_n 0, 1) := dk_42 (dk_at dksJ11_compareValues_0 17 rfl rfl)
theorem dJ11_compareValues_18 : decode cJ11_compareValues 18 = .ok (.iload 5, 2) := dk_21 5 (dk_at dksJ11_compareValues_0 18 rfl rfl)
theorem dJ11_compareValues_20 : decode cJ11_compareValues 20 = .ok (.invokestatic 71, 3) := dk_184 0 71 (dk_at dksJ11_compareValues_0 20 rfl rfl)
theorem dJ11_compareValues_23 : decode cJ11_compareValues 23 = .ok (.istore 6, 2) := dk_54 6 (dk_at dksJ11_compareValues_1 0 rfl rfl)
theorem dJ11_compareValues_25 : decode cJ11_compareValues 25 = .ok (.aload_n 1, 1) := dk_43 (dk_at dksJ11_compareValues_1 2 rfl rfl)
theorem dJ11_compareValues_26 : decode cJ11_compareValues 26 = .ok (.iload 5, 2) := dk_21 5 (dk_at dksJ11_compareValues_1 3 rfl rfl)
theorem dJ11_compareValues_28 : decode cJ11_compareValues 28 = .ok (.invokestatic 71, 3) := dk_184 0 71 (dk_at dksJ11_compareValues_1 5 rfl rfl)
theorem dJ11_compareValues_31 : decode cJ11_compareValues 31 = .ok (.istore 7, 2) := dk_54 7 (dk_at dksJ11_compareValues_1 8 rfl rfl)
theorem dJ11_compareValues_33 : decode cJ11_compareValues 33 = .ok (.iload 6, 2) := dk_21 6 (dk_at dksJ11_compareValues_1 10 rfl rfl)
theorem dJ11_compareValues_35 : decode cJ11_compareValues 35 = .ok (.iload 7, 2) := dk_21 7 (dk_at dksJ11_compareValues_1 12 rfl rfl)
theorem dJ11_compareValues_37 : decode cJ11_compareValues 37 = .ok (.if_icmp .eq 9, 3) := dk_159 0 9 (dk_at dksJ11_compareValues_1 14 rfl rfl)
theorem dJ11_compareValues_40 : decode cJ11_compareValues 40 = .ok (.iload 6, 2) := dk_21 6 (dk_at dksJ11_compareValues_1 17 rfl rfl)
theorem dJ11_compareValues_42 : decode cJ11_compareValues 42 = .ok (.iload 7, 2) := dk_21 7 (dk_at dksJ11_compareValues_1 19 rfl rfl)
theorem dJ11_compareValues_44 : decode cJ11_compareValues 44 = .ok (.isub, 1) := dk_100 (dk_at dksJ11_compareValues_1 21 rfl rfl)
theorem dJ11_compareValues_45 : decode cJ11_compareValues 45 = .ok (.ireturn, 1) := dk_172 (dk_at dksJ11_compareValues_1 22 rfl rfl)
theorem dJ11_compareValues_46 : decode cJ11_compareValues 46 = .ok (.iinc 5 1, 3) := dk_132 5 1 (dk_at dksJ11_compareValues_2 0 rfl rfl)
theorem dJ11_compareValues_49 : decode cJ11_compareValues 49 = .ok (.goto (-39), 3) := dk_167 255 217 (dk_at dksJ11_compareValues_2 3 rfl rfl)
theorem dJ11_compareValues_52 : decode cJ11_compareValues 52 = .ok (.iload_n 2, 1) := dk_28 (dk_at dksJ11_compareValues_2 6 rfl rfl)
theorem dJ11_compareValues_53 : decode cJ11_compareValues 53 = .ok (.iload_n 3, 1) := dk_29 (dk_at dksJ11_compareValues_2 7 rfl rfl)
theorem dJ11_compareValues_54 : decode cJ11_compareValues 54 = .ok (.isub, 1) := dk_100 (dk_at dksJ11_compareValues_2 8 rfl rfl)
theorem dJ11_compareValues_55 : decode cJ11_compareValues 55 = .ok (.ireturn, 1) := dk_172 (dk_at dksJ11_compareValues_2 9 rfl rfl)
abbrev cJ11_compareToLatin1 : ByteArray := prog_47_method_32_code
def yJ11_compareToLatin1 : MethodName := ⟨RJ11, "compareToLatin1", "([B[B)I"⟩
def dkwJ11_compareToLatin1_0 : List UInt8 := [43, 42, 184, 0, 189, 116, 172]
abbrev dktJ11_compareToLatin1_0 : List UInt8 := dkwJ11_compareToLatin1_0 ++ []
theorem dksJ11_compareToLatin1_0 : cJ11_compareToLatin1.data.toList.drop 0 = dktJ11_compareToLatin1_0 := by decide +kernel
theorem dJ11_compareToLatin1_0 : decode cJ11_compareToLatin1 0 = .ok (.aload_n 1, 1) := dk_43 (dk_at dksJ11_compareToLatin1_0 0 rfl rfl)
theorem dJ11_compareToLatin1_1 : decode cJ11_compareToLatin1 1 = .ok (.aload_n 0, 1) := dk_42 (dk_at dksJ11_compareToLatin1_0 1 rfl rfl)
theorem dJ11_compareToLatin1_2 : decode cJ11_compareToLatin1 2 = .ok (.invokestatic 189, 3) := dk_184 0 189 (dk_at dksJ11_compareToLatin1_0 2 rfl rfl)
theorem dJ11_compareToLatin1_5 : decode cJ11_compareToLatin1 5 = .ok (.ineg, 1) := dk_116 (dk_at dksJ11_compareToLatin1_0 5 rfl rfl)
theorem dJ11_compareToLatin1_6 : decode cJ11_compareToLatin1 6 = .ok (.ireturn, 1) := dk_172 (dk_at dksJ11_compareToLatin1_0 6 rfl rfl)
abbrev cJ11_compareTo_2 : ByteArray := prog_47_method_30_code
def yJ11_compareTo_2 : MethodName := ⟨RJ11, "compareTo", "([B[BII)I"⟩
def dkwJ11_compareTo_2_0 : List UInt8 := [28, 42, 184, 0, 180, 29, 43, 184, 0, 180, 42, 43, 28, 29, 184, 0, 176, 172]
abbrev dktJ11_compareTo_2_0 : List UInt8 := dkwJ11_compareTo_2_0 ++ []
theorem dksJ11_compareTo_2_0 : cJ11_compareTo_2.data.toList.drop 0 = dktJ11_compareTo_2_0 := by decide +kernel
theorem dJ11_compareTo_2_0 : decode cJ11_compareTo_2 0 = .ok (.iload_n 2, 1) := dk_28 (dk_at dksJ11_compareTo_2_0 0 rfl rfl)
theorem dJ11_compareTo_2_1 : decode cJ11_compareTo_2 1 = .ok (.aload_n 0, 1) := dk_42 (dk_at dksJ11_compareTo_2_0 1 rfl rfl)
theorem dJ11_compareTo_2_2 : decode cJ11_compareTo_2 2 = .ok (.invokestatic 180, 3) := dk_184 0 180 (dk_at dksJ11_compareTo_2_0 2 rfl rfl)
theorem dJ11_compareTo_2_5 : decode cJ11_compareTo_2 5 = .ok (.iload_n 3, 1) := dk_29 (dk_at dksJ11_compareTo_2_0 5 rfl rfl)
theorem dJ11_compareTo_2_6 : decode cJ11_compareTo_2 6 = .ok (.aload_n 1, 1) := dk_43 (dk_at dksJ11_compareTo_2_0 6 rfl rfl)
theorem dJ11_compareTo_2_7 : decode cJ11_compareTo_2 7 = .ok (.invokestatic 180, 3) := dk_184 0 180 (dk_at dksJ11_compareTo_2_0 7 rfl rfl)
theorem dJ11_compareTo_2_10 : decode cJ11_compareTo_2 10 = .ok (.aload_n 0, 1) := dk_42 (dk_at dksJ11_compareTo_2_0 10 rfl rfl)
theorem dJ11_compareTo_2_11 : decode cJ11_compareTo_2 11 = .ok (.aload_n 1, 1) := dk_43 (dk_at dksJ11_compareTo_2_0 11 rfl rfl)
theorem dJ11_compareTo_2_12 : decode cJ11_compareTo_2 12 = .ok (.iload_n 2, 1) := dk_28 (dk_at dksJ11_compareTo_2_0 12 rfl rfl)
theorem dJ11_compareTo_2_13 : decode cJ11_compareTo_2 13 = .ok (.iload_n 3, 1) := dk_29 (dk_at dksJ11_compareTo_2_0 13 rfl rfl)
theorem dJ11_compareTo_2_14 : decode cJ11_compareTo_2 14 = .ok (.invokestatic 176, 3) := dk_184 0 176 (dk_at dksJ11_compareTo_2_0 14 rfl rfl)
theorem dJ11_compareTo_2_17 : decode cJ11_compareTo_2 17 = .ok (.ireturn, 1) := dk_172 (dk_at dksJ11_compareTo_2_0 17 rfl rfl)
abbrev cJ11_checkOffset : ByteArray := prog_47_method_92_code
def yJ11_checkOffset : MethodName := ⟨RJ11, "checkOffset", "(I[B)V"⟩
def dkwJ11_checkOffset_0 : List UInt8 := [26, 43, 184, 0, 48, 184, 1, 161, 177]
abbrev dktJ11_checkOffset_0 : List UInt8 := dkwJ11_checkOffset_0 ++ []
theorem dksJ11_checkOffset_0 : cJ11_checkOffset.data.toList.drop 0 = dktJ11_checkOffset_0 := by decide +kernel
theorem dJ11_checkOffset_0 : decode cJ11_checkOffset 0 = .ok (.iload_n 0, 1) := dk_26 (dk_at dksJ11_checkOffset_0 0 rfl rfl)
theorem dJ11_checkOffset_1 : decode cJ11_checkOffset 1 = .ok (.aload_n 1, 1) := dk_43 (dk_at dksJ11_checkOffset_0 1 rfl rfl)
theorem dJ11_checkOffset_2 : decode cJ11_checkOffset 2 = .ok (.invokestatic 48, 3) := dk_184 0 48 (dk_at dksJ11_checkOffset_0 2 rfl rfl)
theorem dJ11_checkOffset_5 : decode cJ11_checkOffset 5 = .ok (.invokestatic 417, 3) := dk_184 1 161 (dk_at dksJ11_checkOffset_0 5 rfl rfl)
theorem dJ11_checkOffset_8 : decode cJ11_checkOffset 8 = .ok (.return_, 1) := dk_177 (dk_at dksJ11_checkOffset_0 8 rfl rfl)
abbrev cJ11_compareToLatin1_2 : ByteArray := prog_47_method_33_code
def yJ11_compareToLatin1_2 : MethodName := ⟨RJ11, "compareToLatin1", "([B[BII)I"⟩
def dkwJ11_compareToLatin1_2_0 : List UInt8 := [43, 42, 29, 28, 184, 0, 193, 116, 172]
abbrev dktJ11_compareToLatin1_2_0 : List UInt8 := dkwJ11_compareToLatin1_2_0 ++ []
theorem dksJ11_compareToLatin1_2_0 : cJ11_compareToLatin1_2.data.toList.drop 0 = dktJ11_compareToLatin1_2_0 := by decide +kernel
theorem dJ11_compareToLatin1_2_0 : decode cJ11_compareToLatin1_2 0 = .ok (.aload_n 1, 1) := dk_43 (dk_at dksJ11_compareToLatin1_2_0 0 rfl rfl)
theorem dJ11_compareToLatin1_2_1 : decode cJ11_compareToLatin1_2 1 = .ok (.aload_n 0, 1) := dk_42 (dk_at dksJ11_compareToLatin1_2_0 1 rfl rfl)
theorem dJ11_compareToLatin1_2_2 : decode cJ11_compareToLatin1_2 2 = .ok (.iload_n 3, 1) := dk_29 (dk_at dksJ11_compareToLatin1_2_0 2 rfl rfl)
theorem dJ11_compareToLatin1_2_3 : decode cJ11_compareToLatin1_2 3 = .ok (.iload_n 2, 1) := dk_28 (dk_at dksJ11_compareToLatin1_2_0 3 rfl rfl)
theorem dJ11_compareToLatin1_2_4 : decode cJ11_compareToLatin1_2 4 = .ok (.invokestatic 193, 3) := dk_184 0 193 (dk_at dksJ11_compareToLatin1_2_0 4 rfl rfl)
theorem dJ11_compareToLatin1_2_7 : decode cJ11_compareToLatin1_2 7 = .ok (.ineg, 1) := dk_116 (dk_at dksJ11_compareToLatin1_2_0 7 rfl rfl)
theorem dJ11_compareToLatin1_2_8 : decode cJ11_compareToLatin1_2 8 = .ok (.ireturn, 1) := dk_172 (dk_at dksJ11_compareToLatin1_2_0 8 rfl rfl)
abbrev cJ11_charAt : ByteArray := prog_47_method_83_code
def yJ11_charAt : MethodName := ⟨RJ11, "charAt", "([BI)C"⟩
def dkwJ11_charAt_0 : List UInt8 := [27, 42, 184, 0, 67, 42, 27, 184, 0, 71, 172]
abbrev dktJ11_charAt_0 : List UInt8 := dkwJ11_charAt_0 ++ []
theorem dksJ11_charAt_0 : cJ11_charAt.data.toList.drop 0 = dktJ11_charAt_0 := by decide +kernel
theorem dJ11_charAt_0 : decode cJ11_charAt 0 = .ok (.iload_n 1, 1) := dk_27 (dk_at dksJ11_charAt_0 0 rfl rfl)
theorem dJ11_charAt_1 : decode cJ11_charAt 1 = .ok (.aload_n 0, 1) := dk_42 (dk_at dksJ11_charAt_0 1 rfl rfl)
theorem dJ11_charAt_2 : decode cJ11_charAt 2 = .ok (.invokestatic 67, 3) := dk_184 0 67 (dk_at dksJ11_charAt_0 2 rfl rfl)
theorem dJ11_charAt_5 : decode cJ11_charAt 5 = .ok (.aload_n 0, 1) := dk_42 (dk_at dksJ11_charAt_0 5 rfl rfl)
theorem dJ11_charAt_6 : decode cJ11_charAt 6 = .ok (.iload_n 1, 1) := dk_27 (dk_at dksJ11_charAt_0 6 rfl rfl)
theorem dJ11_charAt_7 : decode cJ11_charAt 7 = .ok (.invokestatic 71, 3) := dk_184 0 71 (dk_at dksJ11_charAt_0 7 rfl rfl)
theorem dJ11_charAt_10 : decode cJ11_charAt 10 = .ok (.ireturn, 1) := dk_172 (dk_at dksJ11_charAt_0 10 rfl rfl)
abbrev cJ11_checkIndex : ByteArray := prog_47_method_91_code
def yJ11_checkIndex : MethodName := ⟨RJ11, "checkIndex", "(I[B)V"⟩
def dkwJ11_checkIndex_0 : List UInt8 := [26, 43, 184, 0, 48, 184, 1, 158, 177]
abbrev dktJ11_checkIndex_0 : List UInt8 := dkwJ11_checkIndex_0 ++ []
theorem dksJ11_checkIndex_0 : cJ11_checkIndex.data.toList.drop 0 = dktJ11_checkIndex_0 := by decide +kernel
theorem dJ11_checkIndex_0 : decode cJ11_checkIndex 0 = .ok (.iload_n 0, 1) := dk_26 (dk_at dksJ11_checkIndex_0 0 rfl rfl)
theorem dJ11_checkIndex_1 : decode cJ11_checkIndex 1 = .ok (.aload_n 1, 1) := dk_43 (dk_at dksJ11_checkIndex_0 1 rfl rfl)
theorem dJ11_checkIndex_2 : decode cJ11_checkIndex 2 = .ok (.invokestatic 48, 3) := dk_184 0 48 (dk_at dksJ11_checkIndex_0 2 rfl rfl)
theorem dJ11_checkIndex_5 : decode cJ11_checkIndex 5 = .ok (.invokestatic 414, 3) := dk_184 1 158 (dk_at dksJ11_checkIndex_0 5 rfl rfl)
theorem dJ11_checkIndex_8 : decode cJ11_checkIndex 8 = .ok (.return_, 1) := dk_177 (dk_at dksJ11_checkIndex_0 8 rfl rfl)
abbrev cJ11_putCharSB : ByteArray := prog_47_method_71_code
def yJ11_putCharSB : MethodName := ⟨RJ11, "putCharSB", "([BII)V"⟩
def dkwJ11_putCharSB_0 : List UInt8 := [27, 42, 184, 0, 67, 42, 27, 28, 184, 0, 111, 177]
abbrev dktJ11_putCharSB_0 : List UInt8 := dkwJ11_putCharSB_0 ++ []
theorem dksJ11_putCharSB_0 : cJ11_putCharSB.data.toList.drop 0 = dktJ11_putCharSB_0 := by decide +kernel
theorem dJ11_putCharSB_0 : decode cJ11_putCharSB 0 = .ok (.iload_n 1, 1) := dk_27 (dk_at dksJ11_putCharSB_0 0 rfl rfl)
theorem dJ11_putCharSB_1 : decode cJ11_putCharSB 1 = .ok (.aload_n 0, 1) := dk_42 (dk_at dksJ11_putCharSB_0 1 rfl rfl)
theorem dJ11_putCharSB_2 : decode cJ11_putCharSB 2 = .ok (.invokestatic 67, 3) := dk_184 0 67 (dk_at dksJ11_putCharSB_0 2 rfl rfl)
theorem dJ11_putCharSB_5 : decode cJ11_putCharSB 5 = .ok (.aload_n 0, 1) := dk_42 (dk_at dksJ11_putCharSB_0 5 rfl rfl)
theorem dJ11_putCharSB_6 : decode cJ11_putCharSB 6 = .ok (.iload_n 1, 1) := dk_27 (dk_at dksJ11_putCharSB_0 6 rfl rfl)
theorem dJ11_putCharSB_7 : decode cJ11_putCharSB 7 = .ok (.iload_n 2, 1) := dk_28 (dk_at dksJ11_putCharSB_0 7 rfl rfl)
theorem dJ11_putCharSB_8 : decode cJ11_putCharSB 8 = .ok (.invokestatic 111, 3) := dk_184 0 111 (dk_at dksJ11_putCharSB_0 8 rfl rfl)
theorem dJ11_putCharSB_11 : decode cJ11_putCharSB 11 = .ok (.return_, 1) := dk_177 (dk_at dksJ11_putCharSB_0 11 rfl rfl)
theorem q133 : (Jvm.Cond.initialized "java/lang/StringUTF16") ∈ lw_all := lw_g (lw_at lw_m1 14 rfl) rfl
theorem q275 : (Jvm.Cond.static ({ cls := "java/lang/StringUTF16", name := "newBytesFor", desc := "(I)[B" } : Jvm.MethodName)) ∈ lw_all := lw_g (lw_at lw_m1 156 rfl) rfl
theorem q276 : (Jvm.Cond.code ({ cls := "java/lang/StringUTF16", name := "newBytesFor", desc := "(I)[B" } : Jvm.MethodName) prog_47_method_2_code (1 : Nat) (Option.some (Jvm.ClassFile.FieldType.array Jvm.ClassFile.FieldType.byte))) ∈ lw_all := lw_g (lw_at lw_m1 157 rfl) rfl
theorem q277 : (Jvm.Cond.methodLink "java/lang/StringUTF16" (11 : Nat) ({ cls := "java/lang/StringUTF16", name := "newBytesLength", desc := "(I)I" } : Jvm.MethodName)) ∈ lw_all := lw_g (lw_at lw_m1 158 rfl) rfl
theorem q278 : (Jvm.Cond.static ({ cls := "java/lang/StringUTF16", name := "newBytesLength", desc := "(I)I" } : Jvm.MethodName)) ∈ lw_all := lw_g (lw_at lw_m1 159 rfl) rfl
theorem q279 : (Jvm.Cond.code ({ cls := "java/lang/StringUTF16", name := "newBytesLength", desc := "(I)I" } : Jvm.MethodName) prog_47_method_3_code (1 : Nat) (Option.some Jvm.ClassFile.FieldType.int)) ∈ lw_all := lw_g (lw_at lw_m1 160 rfl) rfl
theorem q280 : (Jvm.Cond.constant "java/lang/StringUTF16" (20 : Nat) (1073741823 : Int32)) ∈ lw_all := lw_g (lw_at lw_m1 161 rfl) rfl
theorem q347 : (Jvm.Cond.static ({ cls := "java/lang/StringUTF16", name := "putCharsAt", desc := "([BICCCC)I" } : Jvm.MethodName)) ∈ lw_all := lw_g (lw_at lw_m1 228 rfl) rfl
theorem q348 : (Jvm.Cond.code ({ cls := "java/lang/StringUTF16", name := "putCharsAt", desc := "([BICCCC)I" } : Jvm.MethodName) prog_47_method_81_code (7 : Nat) (Option.some Jvm.ClassFile.FieldType.int)) ∈ lw_all := lw_g (lw_at lw_m1 229 rfl) rfl
theorem q349 : (Jvm.Cond.methodLink "java/lang/StringUTF16" (96 : Nat) ({ cls := "java/lang/StringUTF16", name := "checkBoundsBeginEnd", desc := "(II[B)V" } : Jvm.MethodName)) ∈ lw_all := lw_g (lw_at lw_m1 230 rfl) rfl
theorem q350 : (Jvm.Cond.static ({ cls := "java/lang/StringUTF16", name := "checkBoundsBeginEnd", desc := "(II[B)V" } : Jvm.MethodName)) ∈ lw_all := lw_g (lw_at lw_m1 231 rfl) rfl
theorem q351 : (Jvm.Cond.code ({ cls := "java/lang/StringUTF16", name := "checkBoundsBeginEnd", desc := "(II[B)V" } : Jvm.MethodName) prog_47_method_93_code (3 : Nat) (Option.none : Option Jvm.ClassFile.FieldType)) ∈ lw_all := lw_g (lw_at lw_m1 232 rfl) rfl
theorem q352 : (Jvm.Cond.methodLink "java/lang/StringUTF16" (48 : Nat) ({ cls := "java/lang/StringUTF16", name := "length", desc := "([B)I" } : Jvm.MethodName)) ∈ lw_all := lw_g (lw_at lw_m1 233 rfl) rfl
theorem q353 : (Jvm.Cond.static ({ cls := "java/lang/StringUTF16", name := "length", desc := "([B)I" } : Jvm.MethodName)) ∈ lw_all := lw_g (lw_at lw_m1 234 rfl) rfl
theorem q354 : (Jvm.Cond.code ({ cls := "java/lang/StringUTF16", name := "length", desc := "([B)I" } : Jvm.MethodName) prog_47_method_6_code (1 : Nat) (Option.some Jvm.ClassFile.FieldType.int)) ∈ lw_all := lw_g (lw_at lw_m1 235 rfl) rfl
theorem q355 : (Jvm.Cond.methodLink "java/lang/StringUTF16" (241 : Nat) ({ cls := "java/lang/String", name := "checkBoundsBeginEnd", desc := "(III)V" } : Jvm.MethodName)) ∈ lw_all := lw_g (lw_at lw_m1 236 rfl) rfl
theorem q363 : (Jvm.Cond.methodLink "java/lang/StringUTF16" (111 : Nat) ({ cls := "java/lang/StringUTF16", name := "putChar", desc := "([BII)V" } : Jvm.MethodName)) ∈ lw_all := lw_g (lw_at lw_m2 4 rfl) rfl
theorem q364 : (Jvm.Cond.static ({ cls := "java/lang/StringUTF16", name := "putChar", desc := "([BII)V" } : Jvm.MethodName)) ∈ lw_all := lw_g (lw_at lw_m2 5 rfl) rfl
theorem q365 : (Jvm.Cond.code ({ cls := "java/lang/StringUTF16", name := "putChar", desc := "([BII)V" } : Jvm.MethodName) prog_47_method_4_code (3 : Nat) (Option.none : Option Jvm.ClassFile.FieldType)) ∈ lw_all := lw_g (lw_at lw_m2 6 rfl) rfl
theorem q366 : (Jvm.Cond.fieldLink "java/lang/StringUTF16" (44 : Nat) "java/lang/StringUTF16" "$assertionsDisabled" "Z") ∈ lw_all := lw_g (lw_at lw_m2 7 rfl) rfl
theorem q367 : (Jvm.Cond.laysStatic "java/lang/StringUTF16" "$assertionsDisabled" "Z") ∈ lw_tbl := lw_at lw_m2 8 rfl
theorem q368 : (Jvm.Cond.fieldLink "java/lang/StringUTF16" (59 : Nat) "java/lang/StringUTF16" "HI_BYTE_SHIFT" "I") ∈ lw_all := lw_g (lw_at lw_m2 9 rfl) rfl
theorem q369 : (Jvm.Cond.laysStatic "java/lang/StringUTF16" "HI_BYTE_SHIFT" "I") ∈ lw_tbl := lw_at lw_m2 10 rfl
theorem q370 : (Jvm.Cond.fieldLink "java/lang/StringUTF16" (63 : Nat) "java/lang/StringUTF16" "LO_BYTE_SHIFT" "I") ∈ lw_all := lw_g (lw_at lw_m2 11 rfl) rfl
theorem q371 : (Jvm.Cond.laysStatic "java/lang/StringUTF16" "LO_BYTE_SHIFT" "I") ∈ lw_tbl := lw_at lw_m2 12 rfl
theorem q398 : (Jvm.Cond.static ({ cls := "java/lang/StringUTF16", name := "inflate", desc := "([BI[BII)V" } : Jvm.MethodName)) ∈ lw_all := lw_g (lw_at lw_m2 39 rfl) rfl
theorem q399 : (Jvm.Cond.code ({ cls := "java/lang/StringUTF16", name := "inflate", desc := "([BI[BII)V" } : Jvm.MethodName) prog_47_method_86_code (6 : Nat) (Option.none : Option Jvm.ClassFile.FieldType)) ∈ lw_all := lw_g (lw_at lw_m2 40 rfl) rfl
theorem q400 : (Jvm.Cond.methodLink "java/lang/StringUTF16" (173 : Nat) ({ cls := "java/lang/StringUTF16", name := "checkBoundsOffCount", desc := "(II[B)V" } : Jvm.MethodName)) ∈ lw_all := lw_g (lw_at lw_m2 41 rfl) rfl
theorem q401 : (Jvm.Cond.static ({ cls := "java/lang/StringUTF16", name := "checkBoundsOffCount", desc := "(II[B)V" } : Jvm.MethodName)) ∈ lw_all := lw_g (lw_at lw_m2 42 rfl) rfl
theorem q402 : (Jvm.Cond.code ({ cls := "java/lang/StringUTF16", name := "checkBoundsOffCount", desc := "(II[B)V" } : Jvm.MethodName) prog_47_method_94_code (3 : Nat) (Option.none : Option Jvm.ClassFile.FieldType)) ∈ lw_all := lw_g (lw_at lw_m2 43 rfl) rfl
theorem q403 : (Jvm.Cond.methodLink "java/lang/StringUTF16" (419 : Nat) ({ cls := "java/lang/String", name := "checkBoundsOffCount", desc := "(III)I" } : Jvm.MethodName)) ∈ lw_all := lw_g (lw_at lw_m2 44 rfl) rfl
theorem q433 : (Jvm.Cond.static ({ cls := "java/lang/StringUTF16", name := "getChars", desc := "(III[B)I" } : Jvm.MethodName)) ∈ lw_all := lw_g (lw_at lw_m2 74 rfl) rfl
theorem q434 : (Jvm.Cond.code ({ cls := "java/lang/StringUTF16", name := "getChars", desc := "(III[B)I" } : Jvm.MethodName) prog_47_method_77_code (5 : Nat) (Option.some Jvm.ClassFile.FieldType.int)) ∈ lw_all := lw_g (lw_at lw_m2 75 rfl) rfl
theorem q435 : (Jvm.Cond.methodLink "java/lang/StringUTF16" (393 : Nat) ({ cls := "java/lang/StringUTF16", name := "getChars", desc := "(II[B)I" } : Jvm.MethodName)) ∈ lw_all := lw_g (lw_at lw_m2 76 rfl) rfl
theorem q436 : (Jvm.Cond.static ({ cls := "java/lang/StringUTF16", name := "getChars", desc := "(II[B)I" } : Jvm.MethodName)) ∈ lw_all := lw_g (lw_at lw_m2 77 rfl) rfl
theorem q437 : (Jvm.Cond.code ({ cls := "java/lang/StringUTF16", name := "getChars", desc := "(II[B)I" } : Jvm.MethodName) prog_47_method_89_code (7 : Nat) (Option.some Jvm.ClassFile.FieldType.int)) ∈ lw_all := lw_g (lw_at lw_m2 78 rfl) rfl
theorem q438 : (Jvm.Cond.fieldLink "java/lang/StringUTF16" (403 : Nat) "java/lang/Integer" "DigitOnes" "[B") ∈ lw_all := lw_g (lw_at lw_m2 79 rfl) rfl
theorem q439 : (Jvm.Cond.fieldLink "java/lang/StringUTF16" (407 : Nat) "java/lang/Integer" "DigitTens" "[B") ∈ lw_all := lw_g (lw_at lw_m2 80 rfl) rfl
theorem q509 : (Jvm.Cond.static ({ cls := "java/lang/StringUTF16", name := "compress", desc := "([BII)[B" } : Jvm.MethodName)) ∈ lw_all := lw_g (lw_at lw_m2 150 rfl) rfl
theorem q510 : (Jvm.Cond.code ({ cls := "java/lang/StringUTF16", name := "compress", desc := "([BII)[B" } : Jvm.MethodName) prog_47_method_17_code (6 : Nat) (Option.some (Jvm.ClassFile.FieldType.array Jvm.ClassFile.FieldType.byte))) ∈ lw_all := lw_g (lw_at lw_m2 151 rfl) rfl
theorem q511 : (Jvm.Cond.methodLink "java/lang/StringUTF16" (123 : Nat) ({ cls := "java/lang/StringUTF16", name := "compress", desc := "([BI[BII)I" } : Jvm.MethodName)) ∈ lw_all := lw_g (lw_at lw_m2 152 rfl) rfl
theorem q512 : (Jvm.Cond.static ({ cls := "java/lang/StringUTF16", name := "compress", desc := "([BI[BII)I" } : Jvm.MethodName)) ∈ lw_all := lw_g (lw_at lw_m2 153 rfl) rfl
theorem q513 : (Jvm.Cond.code ({ cls := "java/lang/StringUTF16", name := "compress", desc := "([BI[BII)I" } : Jvm.MethodName) prog_47_method_22_code (7 : Nat) (Option.some Jvm.ClassFile.FieldType.int)) ∈ lw_all := lw_g (lw_at lw_m2 154 rfl) rfl
theorem q514 : (Jvm.Cond.methodLink "java/lang/StringUTF16" (71 : Nat) ({ cls := "java/lang/StringUTF16", name := "getChar", desc := "([BI)C" } : Jvm.MethodName)) ∈ lw_all := lw_g (lw_at lw_m2 155 rfl) rfl
theorem q515 : (Jvm.Cond.static ({ cls := "java/lang/StringUTF16", name := "getChar", desc := "([BI)C" } : Jvm.MethodName)) ∈ lw_all := lw_g (lw_at lw_m2 156 rfl) rfl
theorem q516 : (Jvm.Cond.code ({ cls := "java/lang/StringUTF16", name := "getChar", desc := "([BI)C" } : Jvm.MethodName) prog_47_method_5_code (2 : Nat) (Option.some Jvm.ClassFile.FieldType.char)) ∈ lw_all := lw_g (lw_at lw_m2 157 rfl) rfl
theorem q517 : (Jvm.Cond.methodLink "java/lang/StringUTF16" (126 : Nat) ({ cls := "java/util/Arrays", name := "copyOfRange", desc := "([BII)[B" } : Jvm.MethodName)) ∈ lw_all := lw_g (lw_at lw_m2 158 rfl) rfl
theorem q519 : (Jvm.Cond.static ({ cls := "java/lang/StringUTF16", name := "coderFromArrayLen", desc := "([BI)B" } : Jvm.MethodName)) ∈ lw_all := lw_g (lw_at lw_m2 160 rfl) rfl
theorem q520 : (Jvm.Cond.code ({ cls := "java/lang/StringUTF16", name := "coderFromArrayLen", desc := "([BI)B" } : Jvm.MethodName) prog_47_method_15_code (2 : Nat) (Option.some Jvm.ClassFile.FieldType.byte)) ∈ lw_all := lw_g (lw_at lw_m2 161 rfl) rfl
theorem q838 : (Jvm.Cond.static ({ cls := "java/lang/StringUTF16", name := "hashCode", desc := "([B)I" } : Jvm.MethodName)) ∈ lw_all := lw_g (lw_at lw_m3 239 rfl) rfl
theorem q839 : (Jvm.Cond.code ({ cls := "java/lang/StringUTF16", name := "hashCode", desc := "([B)I" } : Jvm.MethodName) prog_47_method_39_code (1 : Nat) (Option.some Jvm.ClassFile.FieldType.int)) ∈ lw_all := lw_g (lw_at lw_m4 0 rfl) rfl
theorem q840 : (Jvm.Cond.methodLink "java/lang/StringUTF16" (220 : Nat) ({ cls := "jdk/internal/util/ArraysSupport", name := "vectorizedHashCode", desc := "(Ljava/lang/Object;IIII)I" } : Jvm.MethodName)) ∈ lw_all := lw_g (lw_at lw_m4 1 rfl) rfl
theorem q1083 : (Jvm.Cond.static ({ cls := "java/lang/StringUTF16", name := "compareTo", desc := "([B[B)I" } : Jvm.MethodName)) ∈ lw_all := lw_g (lw_at lw_m5 4 rfl) rfl
theorem q1084 : (Jvm.Cond.code ({ cls := "java/lang/StringUTF16", name := "compareTo", desc := "([B[B)I" } : Jvm.MethodName) prog_47_method_29_code (4 : Nat) (Option.some Jvm.ClassFile.FieldType.int)) ∈ lw_all := lw_g (lw_at lw_m5 5 rfl) rfl
theorem q1085 : (Jvm.Cond.methodLink "java/lang/StringUTF16" (176 : Nat) ({ cls := "java/lang/StringUTF16", name := "compareValues", desc := "([B[BII)I" } : Jvm.MethodName)) ∈ lw_all := lw_g (lw_at lw_m5 6 rfl) rfl
theorem q1086 : (Jvm.Cond.static ({ cls := "java/lang/StringUTF16", name := "compareValues", desc := "([B[BII)I" } : Jvm.MethodName)) ∈ lw_all := lw_g (lw_at lw_m5 7 rfl) rfl
theorem q1087 : (Jvm.Cond.code ({ cls := "java/lang/StringUTF16", name := "compareValues", desc := "([B[BII)I" } : Jvm.MethodName) prog_47_method_31_code (8 : Nat) (Option.some Jvm.ClassFile.FieldType.int)) ∈ lw_all := lw_g (lw_at lw_m5 8 rfl) rfl
theorem q1088 : (Jvm.Cond.methodLink "java/lang/StringUTF16" (183 : Nat) ({ cls := "java/lang/Math", name := "min", desc := "(II)I" } : Jvm.MethodName)) ∈ lw_all := lw_g (lw_at lw_m5 9 rfl) rfl
theorem q1101 : (Jvm.Cond.static ({ cls := "java/lang/StringUTF16", name := "compareToLatin1", desc := "([B[B)I" } : Jvm.MethodName)) ∈ lw_all := lw_g (lw_at lw_m5 22 rfl) rfl
theorem q1102 : (Jvm.Cond.code ({ cls := "java/lang/StringUTF16", name := "compareToLatin1", desc := "([B[B)I" } : Jvm.MethodName) prog_47_method_32_code (2 : Nat) (Option.some Jvm.ClassFile.FieldType.int)) ∈ lw_all := lw_g (lw_at lw_m5 23 rfl) rfl
theorem q1103 : (Jvm.Cond.methodLink "java/lang/StringUTF16" (189 : Nat) ({ cls := "java/lang/StringLatin1", name := "compareToUTF16", desc := "([B[B)I" } : Jvm.MethodName)) ∈ lw_all := lw_g (lw_at lw_m5 24 rfl) rfl
theorem q1120 : (Jvm.Cond.static ({ cls := "java/lang/StringUTF16", name := "compareTo", desc := "([B[BII)I" } : Jvm.MethodName)) ∈ lw_all := lw_g (lw_at lw_m5 41 rfl) rfl
theorem q1121 : (Jvm.Cond.code ({ cls := "java/lang/StringUTF16", name := "compareTo", desc := "([B[BII)I" } : Jvm.MethodName) prog_47_method_30_code (4 : Nat) (Option.some Jvm.ClassFile.FieldType.int)) ∈ lw_all := lw_g (lw_at lw_m5 42 rfl) rfl
theorem q1122 : (Jvm.Cond.methodLink "java/lang/StringUTF16" (180 : Nat) ({ cls := "java/lang/StringUTF16", name := "checkOffset", desc := "(I[B)V" } : Jvm.MethodName)) ∈ lw_all := lw_g (lw_at lw_m5 43 rfl) rfl
theorem q1123 : (Jvm.Cond.static ({ cls := "java/lang/StringUTF16", name := "checkOffset", desc := "(I[B)V" } : Jvm.MethodName)) ∈ lw_all := lw_g (lw_at lw_m5 44 rfl) rfl
theorem q1124 : (Jvm.Cond.code ({ cls := "java/lang/StringUTF16", name := "checkOffset", desc := "(I[B)V" } : Jvm.MethodName) prog_47_method_92_code (2 : Nat) (Option.none : Option Jvm.ClassFile.FieldType)) ∈ lw_all := lw_g (lw_at lw_m5 45 rfl) rfl
theorem q1125 : (Jvm.Cond.methodLink "java/lang/StringUTF16" (417 : Nat) ({ cls := "java/lang/String", name := "checkOffset", desc := "(II)V" } : Jvm.MethodName)) ∈ lw_all := lw_g (lw_at lw_m5 46 rfl) rfl
theorem q1133 : (Jvm.Cond.static ({ cls := "java/lang/StringUTF16", name := "compareToLatin1", desc := "([B[BII)I" } : Jvm.MethodName)) ∈ lw_all := lw_g (lw_at lw_m5 54 rfl) rfl
theorem q1134 : (Jvm.Cond.code ({ cls := "java/lang/StringUTF16", name := "compareToLatin1", desc := "([B[BII)I" } : Jvm.MethodName) prog_47_method_33_code (4 : Nat) (Option.some Jvm.ClassFile.FieldType.int)) ∈ lw_all := lw_g (lw_at lw_m5 55 rfl) rfl
theorem q1135 : (Jvm.Cond.methodLink "java/lang/StringUTF16" (193 : Nat) ({ cls := "java/lang/StringLatin1", name := "compareToUTF16", desc := "([B[BII)I" } : Jvm.MethodName)) ∈ lw_all := lw_g (lw_at lw_m5 56 rfl) rfl
theorem q1472 : (Jvm.Cond.static ({ cls := "java/lang/StringUTF16", name := "charAt", desc := "([BI)C" } : Jvm.MethodName)) ∈ lw_all := lw_g (lw_at lw_m6 153 rfl) rfl
theorem q1473 : (Jvm.Cond.code ({ cls := "java/lang/StringUTF16", name := "charAt", desc := "([BI)C" } : Jvm.MethodName) prog_47_method_83_code (2 : Nat) (Option.some Jvm.ClassFile.FieldType.char)) ∈ lw_all := lw_g (lw_at lw_m6 154 rfl) rfl
theorem q1474 : (Jvm.Cond.methodLink "java/lang/StringUTF16" (67 : Nat) ({ cls := "java/lang/StringUTF16", name := "checkIndex", desc := "(I[B)V" } : Jvm.MethodName)) ∈ lw_all := lw_g (lw_at lw_m6 155 rfl) rfl
theorem q1475 : (Jvm.Cond.static ({ cls := "java/lang/StringUTF16", name := "checkIndex", desc := "(I[B)V" } : Jvm.MethodName)) ∈ lw_all := lw_g (lw_at lw_m6 156 rfl) rfl
theorem q1476 : (Jvm.Cond.code ({ cls := "java/lang/StringUTF16", name := "checkIndex", desc := "(I[B)V" } : Jvm.MethodName) prog_47_method_91_code (2 : Nat) (Option.none : Option Jvm.ClassFile.FieldType)) ∈ lw_all := lw_g (lw_at lw_m6 157 rfl) rfl
theorem q1477 : (Jvm.Cond.methodLink "java/lang/StringUTF16" (414 : Nat) ({ cls := "java/lang/String", name := "checkIndex", desc := "(II)V" } : Jvm.MethodName)) ∈ lw_all := lw_g (lw_at lw_m6 158 rfl) rfl
theorem q1489 : (Jvm.Cond.static ({ cls := "java/lang/StringUTF16", name := "putCharSB", desc := "([BII)V" } : Jvm.MethodName)) ∈ lw_all := lw_g (lw_at lw_m6 170 rfl) rfl
theorem q1490 : (Jvm.Cond.code ({ cls := "java/lang/StringUTF16", name := "putCharSB", desc := "([BII)V" } : Jvm.MethodName) prog_47_method_71_code (3 : Nat) (Option.none : Option Jvm.ClassFile.FieldType)) ∈ lw_all := lw_g (lw_at lw_m6 171 rfl) rfl
/-! jdk/internal/util/ArraysSupport -/
set_option maxRecDepth 100000
def RJ12 : String := "jdk/internal/util/ArraysSupport"
abbrev cJ12_newLength : ByteArray := prog_79_method_27_code
def yJ12_newLength : MethodName := ⟨RJ12, "newLength", "(III)I"⟩
def dkwJ12_newLength_1 : List UInt8 := [184, 0, 201, 172]
abbrev dktJ12_newLength_1 : List UInt8 := dkwJ12_newLength_1 ++ []
def dkwJ12_newLength_0 : List UInt8 := [26, 27, 28, 184, 0, 194, 96, 62, 3, 29, 162, 0, 11, 29, 18, 200, 163, 0, 5, 29, 172, 26, 27]
abbrev dktJ12_newLength_0 : List UInt8 := dkwJ12_newLength_0 ++ dktJ12_newLength_1
theorem dksJ12_newLength_0 : cJ12_newLength.data.toList.drop 0 = dktJ12_newLength_0 := by decide +kernel
theorem dksJ12_newLength_1 : cJ12_newLength.data.toList.drop 23 = dktJ12_newLength_1 := dk_seg dksJ12_newLength_0 23 rfl rfl
theorem dJ12_newLength_0 : decode cJ12_newLength 0 = .ok (.iload_n 0, 1) := dk_26 (dk_at dksJ12_newLength_0 0 rfl rfl)
theorem dJ12_newLength_1 : decode cJ12_newLength 1 = .ok (.iload_n 1, 1) := dk_27 (dk_at dksJ12_newLength_0 1 rfl rfl)
theorem dJ12_newLength_2 : decode cJ12_newLength 2 = .ok (.iload_n 2, 1) := dk_28 (dk_at dksJ12_newLength_0 2 rfl rfl)
theorem dJ12_newLength_3 : decode cJ12_newLength 3 = .ok (.invokestatic 194, 3) := dk_184 0 194 (dk_at dksJ12_newLength_0 3 rfl rfl)
theorem dJ12_newLength_6 : decode cJ12_newLength 6 = .ok (.iadd, 1) := dk_96 (dk_at dksJ12_newLength_0 6 rfl rfl)
theorem dJ12_newLength_7 : decode cJ12_newLength 7 = .ok (.istore_n 3, 1) := dk_62 (dk_at dksJ12_newLength_0 7 rfl rfl)
theorem dJ12_newLength_8 : decode cJ12_newLength 8 = .ok (.iconst 0, 1) := dk_3 (dk_at dksJ12_newLength_0 8 rfl rfl)
theorem dJ12_newLength_9 : decode cJ12_newLength 9 = .ok (.iload_n 3, 1) := dk_29 (dk_at dksJ12_newLength_0 9 rfl rfl)
theorem dJ12_newLength_10 : decode cJ12_newLength 10 = .ok (.if_icmp .ge 11, 3) := dk_162 0 11 (dk_at dksJ12_newLength_0 10 rfl rfl)
theorem dJ12_newLength_13 : decode cJ12_newLength 13 = .ok (.iload_n 3, 1) := dk_29 (dk_at dksJ12_newLength_0 13 rfl rfl)
theorem dJ12_newLength_14 : decode cJ12_newLength 14 = .ok (.ldc 200, 2) := dk_18 200 (dk_at dksJ12_newLength_0 14 rfl rfl)
theorem dJ12_newLength_16 : decode cJ12_newLength 16 = .ok (.if_icmp .gt 5, 3) := dk_163 0 5 (dk_at dksJ12_newLength_0 16 rfl rfl)
theorem dJ12_newLength_19 : decode cJ12_newLength 19 = .ok (.iload_n 3, 1) := dk_29 (dk_at dksJ12_newLength_0 19 rfl rfl)
theorem dJ12_newLength_20 : decode cJ12_newLength 20 = .ok (.ireturn, 1) := dk_172 (dk_at dksJ12_newLength_0 20 rfl rfl)
theorem dJ12_newLength_21 : decode cJ12_newLength 21 = .ok (.iload_n 0, 1) := dk_26 (dk_at dksJ12_newLength_0 21 rfl rfl)
theorem dJ12_newLength_22 : decode cJ12_newLength 22 = .ok (.iload_n 1, 1) := dk_27 (dk_at dksJ12_newLength_0 22 rfl rfl)
theorem dJ12_newLength_23 : decode cJ12_newLength 23 = .ok (.invokestatic 201, 3) := dk_184 0 201 (dk_at dksJ12_newLength_1 0 rfl rfl)
theorem dJ12_newLength_26 : decode cJ12_newLength 26 = .ok (.ireturn, 1) := dk_172 (dk_at dksJ12_newLength_1 3 rfl rfl)
abbrev cJ12_hugeLength : ByteArray := prog_79_method_28_code
def yJ12_hugeLength : MethodName := ⟨RJ12, "hugeLength", "(II)I"⟩
def dkwJ12_hugeLength_2 : List UInt8 := [191, 28, 18, 200, 163, 0, 6, 18, 200, 172, 28, 172]
abbrev dktJ12_hugeLength_2 : List UInt8 := dkwJ12_hugeLength_2 ++ []
def dkwJ12_hugeLength_1 : List UInt8 := [26, 182, 0, 98, 18, 208, 182, 0, 94, 27, 182, 0, 98, 18, 210, 182, 0, 94, 182, 0, 101, 183, 0, 212]
abbrev dktJ12_hugeLength_1 : List UInt8 := dkwJ12_hugeLength_1 ++ dktJ12_hugeLength_2
def dkwJ12_hugeLength_0 : List UInt8 := [26, 27, 96, 61, 28, 156, 0, 44, 187, 0, 204, 89, 187, 0, 89, 89, 183, 0, 91, 18, 206, 182, 0, 94]
abbrev dktJ12_hugeLength_0 : List UInt8 := dkwJ12_hugeLength_0 ++ dktJ12_hugeLength_1
theorem dksJ12_hugeLength_0 : cJ12_hugeLength.data.toList.drop 0 = dktJ12_hugeLength_0 := by decide +kernel
theorem dksJ12_hugeLength_1 : cJ12_hugeLength.data.toList.drop 24 = dktJ12_hugeLength_1 := dk_seg dksJ12_hugeLength_0 24 rfl rfl
theorem dksJ12_hugeLength_2 : cJ12_hugeLength.data.toList.drop 48 = dktJ12_hugeLength_2 := dk_seg dksJ12_hugeLength_1 24 rfl rfl
theorem dJ12_hugeLength_0 : decode cJ12_hugeLength 0 = .ok (.iload_n 0, 1) := dk_26 (dk_at dksJ12_hugeLength_0 0 rfl rfl)
theorem dJ12_hugeLength_1 : decode cJ12_hugeLength 1 = .ok (.iload_n 1, 1) := dk_27 (dk_at dksJ12_hugeLength_0 1 rfl rfl)
theorem dJ12_hugeLength_2 : decode cJ12_hugeLength 2 = .ok (.iadd, 1) := dk_96 (dk_at dksJ12_hugeLength_0 2 rfl rfl)
theorem dJ12_hugeLength_3 : decode cJ12_hugeLength 3 = .ok (.istore_n 2, 1) := dk_61 (dk_at dksJ12_hugeLength_0 3 rfl rfl)
theorem dJ12_hugeLength_4 : decode cJ12_hugeLength 4 = .ok (.iload_n 2, 1) := dk_28 (dk_at dksJ12_hugeLength_0 4 rfl rfl)
theorem dJ12_hugeLength_5 : decode cJ12_hugeLength 5 = .ok (.ifCond .ge 44, 3) := dk_156 0 44 (dk_at dksJ12_hugeLength_0 5 rfl rfl)
theorem dJ12_hugeLength_8 : decode cJ12_hugeLength 8 = .ok (.new 204, 3) := dk_187 0 204 (dk_at dksJ12_hugeLength_0 8 rfl rfl)
theorem dJ12_hugeLength_11 : decode cJ12_hugeLength 11 = .ok (.dup, 1) := dk_89 (dk_at dksJ12_hugeLength_0 11 rfl rfl)
theorem dJ12_hugeLength_12 : decode cJ12_hugeLength 12 = .ok (.new 89, 3) := dk_187 0 89 (dk_at dksJ12_hugeLength_0 12 rfl rfl)
theorem dJ12_hugeLength_15 : decode cJ12_hugeLength 15 = .ok (.dup, 1) := dk_89 (dk_at dksJ12_hugeLength_0 15 rfl rfl)
theorem dJ12_hugeLength_16 : decode cJ12_hugeLength 16 = .ok (.invokespecial 91, 3) := dk_183 0 91 (dk_at dksJ12_hugeLength_0 16 rfl rfl)
theorem dJ12_hugeLength_19 : decode cJ12_hugeLength 19 = .ok (.ldc 206, 2) := dk_18 206 (dk_at dksJ12_hugeLength_0 19 rfl rfl)
theorem dJ12_hugeLength_21 : decode cJ12_hugeLength 21 = .ok (.invokevirtual 94, 3) := dk_182 0 94 (dk_at dksJ12_hugeLength_0 21 rfl rfl)
theorem dJ12_hugeLength_24 : decode cJ12_hugeLength 24 = .ok (.iload_n 0, 1) := dk_26 (dk_at dksJ12_hugeLength_1 0 rfl rfl)
theorem dJ12_hugeLength_25 : decode cJ12_hugeLength 25 = .ok (.invokevirtual 98, 3) := dk_182 0 98 (dk_at dksJ12_hugeLength_1 1 rfl rfl)
theorem dJ12_hugeLength_28 : decode cJ12_hugeLength 28 = .ok (.ldc 208, 2) := dk_18 208 (dk_at dksJ12_hugeLength_1 4 rfl rfl)
theorem dJ12_hugeLength_30 : decode cJ12_hugeLength 30 = .ok (.invokevirtual 94, 3) := dk_182 0 94 (dk_at dksJ12_hugeLength_1 6 rfl rfl)
theorem dJ12_hugeLength_33 : decode cJ12_hugeLength 33 = .ok (.iload_n 1, 1) := dk_27 (dk_at dksJ12_hugeLength_1 9 rfl rfl)
theorem dJ12_hugeLength_34 : decode cJ12_hugeLength 34 = .ok (.invokevirtual 98, 3) := dk_182 0 98 (dk_at dksJ12_hugeLength_1 10 rfl rfl)
theorem dJ12_hugeLength_37 : decode cJ12_hugeLength 37 = .ok (.ldc 210, 2) := dk_18 210 (dk_at dksJ12_hugeLength_1 13 rfl rfl)
theorem dJ12_hugeLength_39 : decode cJ12_hugeLength 39 = .ok (.invokevirtual 94, 3) := dk_182 0 94 (dk_at dksJ12_hugeLength_1 15 rfl rfl)
theorem dJ12_hugeLength_42 : decode cJ12_hugeLength 42 = .ok (.invokevirtual 101, 3) := dk_182 0 101 (dk_at dksJ12_hugeLength_1 18 rfl rfl)
theorem dJ12_hugeLength_45 : decode cJ12_hugeLength 45 = .ok (.invokespecial 212, 3) := dk_183 0 212 (dk_at dksJ12_hugeLength_1 21 rfl rfl)
theorem dJ12_hugeLength_48 : decode cJ12_hugeLength 48 = .ok (.athrow, 1) := dk_191 (dk_at dksJ12_hugeLength_2 0 rfl rfl)
theorem dJ12_hugeLength_49 : decode cJ12_hugeLength 49 = .ok (.iload_n 2, 1) := dk_28 (dk_at dksJ12_hugeLength_2 1 rfl rfl)
theorem dJ12_hugeLength_50 : decode cJ12_hugeLength 50 = .ok (.ldc 200, 2) := dk_18 200 (dk_at dksJ12_hugeLength_2 2 rfl rfl)
theorem dJ12_hugeLength_52 : decode cJ12_hugeLength 52 = .ok (.if_icmp .gt 6, 3) := dk_163 0 6 (dk_at dksJ12_hugeLength_2 4 rfl rfl)
theorem dJ12_hugeLength_55 : decode cJ12_hugeLength 55 = .ok (.ldc 200, 2) := dk_18 200 (dk_at dksJ12_hugeLength_2 7 rfl rfl)
theorem dJ12_hugeLength_57 : decode cJ12_hugeLength 57 = .ok (.ireturn, 1) := dk_172 (dk_at dksJ12_hugeLength_2 9 rfl rfl)
theorem dJ12_hugeLength_58 : decode cJ12_hugeLength 58 = .ok (.iload_n 2, 1) := dk_28 (dk_at dksJ12_hugeLength_2 10 rfl rfl)
theorem dJ12_hugeLength_59 : decode cJ12_hugeLength 59 = .ok (.ireturn, 1) := dk_172 (dk_at dksJ12_hugeLength_2 11 rfl rfl)
abbrev cJ12_vectorizedHashCode : ByteArray := prog_79_method_4_code
def yJ12_vectorizedHashCode : MethodName := ⟨RJ12, "vectorizedHashCode", "(Ljava/lang/Object;IIII)I"⟩
def dkwJ12_vectorizedHashCode_6 : List UInt8 := [183, 0, 91, 18, 92, 182, 0, 94, 21, 4, 182, 0, 98, 182, 0, 101, 183, 0, 105, 191, 172]
abbrev dktJ12_vectorizedHashCode_6 : List UInt8 := dkwJ12_vectorizedHashCode_6 ++ []
def dkwJ12_vectorizedHashCode_5 : List UInt8 := [167, 0, 44, 29, 42, 192, 0, 82, 27, 28, 184, 0, 84, 167, 0, 31, 187, 0, 87, 89, 187, 0, 89, 89]
abbrev dktJ12_vectorizedHashCode_5 : List UInt8 := dkwJ12_vectorizedHashCode_5 ++ dktJ12_vectorizedHashCode_6
def dkwJ12_vectorizedHashCode_4 : List UInt8 := [29, 42, 192, 0, 60, 27, 28, 184, 0, 75, 167, 0, 57, 29, 42, 192, 0, 77, 27, 28, 184, 0, 79]
abbrev dktJ12_vectorizedHashCode_4 : List UInt8 := dkwJ12_vectorizedHashCode_4 ++ dktJ12_vectorizedHashCode_5
def dkwJ12_vectorizedHashCode_3 : List UInt8 := [192, 0, 60, 27, 28, 184, 0, 66, 167, 0, 83, 29, 42, 192, 0, 69, 27, 28, 184, 0, 71, 167, 0, 70]
abbrev dktJ12_vectorizedHashCode_3 : List UInt8 := dkwJ12_vectorizedHashCode_3 ++ dktJ12_vectorizedHashCode_4
def dkwJ12_vectorizedHashCode_2 : List UInt8 := [29, 42, 192, 0, 60, 27, 28, 184, 0, 62, 167, 0, 103, 42, 193, 0, 60, 153, 0, 16, 29, 42]
abbrev dktJ12_vectorizedHashCode_2 : List UInt8 := dkwJ12_vectorizedHashCode_2 ++ dktJ12_vectorizedHashCode_3
def dkwJ12_vectorizedHashCode_1 : List UInt8 := [170, 0, 0, 0, 0, 127, 0, 0, 0, 4, 0, 0, 0, 10, 0, 0, 0, 42, 0, 0, 0, 55, 0, 0, 0, 127, 0, 0, 0, 127, 0, 0, 0, 88, 0, 0, 0, 101, 0, 0, 0, 114]
abbrev dktJ12_vectorizedHashCode_1 : List UInt8 := dkwJ12_vectorizedHashCode_1 ++ dktJ12_vectorizedHashCode_2
def dkwJ12_vectorizedHashCode_0 : List UInt8 := [21, 4]
abbrev dktJ12_vectorizedHashCode_0 : List UInt8 := dkwJ12_vectorizedHashCode_0 ++ dktJ12_vectorizedHashCode_1
theorem dksJ12_vectorizedHashCode_0 : cJ12_vectorizedHashCode.data.toList.drop 0 = dktJ12_vectorizedHashCode_0 := by decide +kernel
theorem dksJ12_vectorizedHashCode_1 : cJ12_vectorizedHashCode.data.toList.drop 2 = dktJ12_vectorizedHashCode_1 := dk_seg dksJ12_vectorizedHashCode_0 2 rfl rfl
theorem dksJ12_vectorizedHashCode_2 : cJ12_vectorizedHashCode.data.toList.drop 44 = dktJ12_vectorizedHashCode_2 := dk_seg dksJ12_vectorizedHashCode_1 42 rfl rfl
theorem dksJ12_vectorizedHashCode_3 : cJ12_vectorizedHashCode.data.toList.drop 66 = dktJ12_vectorizedHashCode_3 := dk_seg dksJ12_vectorizedHashCode_2 22 rfl rfl
theorem dksJ12_vectorizedHashCode_4 : cJ12_vectorizedHashCode.data.toList.drop 90 = dktJ12_vectorizedHashCode_4 := dk_seg dksJ12_vectorizedHashCode_3 24 rfl rfl
theorem dksJ12_vectorizedHashCode_5 : cJ12_vectorizedHashCode.data.toList.drop 113 = dktJ12_vectorizedHashCode_5 := dk_seg dksJ12_vectorizedHashCode_4 23 rfl rfl
theorem dksJ12_vectorizedHashCode_6 : cJ12_vectorizedHashCode.data.toList.drop 137 = dktJ12_vectorizedHashCode_6 := dk_seg dksJ12_vectorizedHashCode_5 24 rfl rfl
theorem dJ12_vectorizedHashCode_0 : decode cJ12_vectorizedHashCode 0 = .ok (.iload 4, 2) := dk_21 4 (dk_at dksJ12_vectorizedHashCode_0 0 rfl rfl)
theorem dJ12_vectorizedHashCode_2 : decode cJ12_vectorizedHashCode 2 = .ok (.tableswitch 127 4 10 #[42, 55, 127, 127, 88, 101, 114], 42) := by decide +kernel
theorem dJ12_vectorizedHashCode_44 : decode cJ12_vectorizedHashCode 44 = .ok (.iload_n 3, 1) := dk_29 (dk_at dksJ12_vectorizedHashCode_2 0 rfl rfl)
theorem dJ12_vectorizedHashCode_45 : decode cJ12_vectorizedHashCode 45 = .ok (.aload_n 0, 1) := dk_42 (dk_at dksJ12_vectorizedHashCode_2 1 rfl rfl)
theorem dJ12_vectorizedHashCode_46 : decode cJ12_vectorizedHashCode 46 = .ok (.checkcast 60, 3) := dk_192 0 60 (dk_at dksJ12_vectorizedHashCode_2 2 rfl rfl)
theorem dJ12_vectorizedHashCode_49 : decode cJ12_vectorizedHashCode 49 = .ok (.iload_n 1, 1) := dk_27 (dk_at dksJ12_vectorizedHashCode_2 5 rfl rfl)
theorem dJ12_vectorizedHashCode_50 : decode cJ12_vectorizedHashCode 50 = .ok (.iload_n 2, 1) := dk_28 (dk_at dksJ12_vectorizedHashCode_2 6 rfl rfl)
theorem dJ12_vectorizedHashCode_51 : decode cJ12_vectorizedHashCode 51 = .ok (.invokestatic 62, 3) := dk_184 0 62 (dk_at dksJ12_vectorizedHashCode_2 7 rfl rfl)
theorem dJ12_vectorizedHashCode_54 : decode cJ12_vectorizedHashCode 54 = .ok (.goto 103, 3) := dk_167 0 103 (dk_at dksJ12_vectorizedHashCode_2 10 rfl rfl)
theorem dJ12_vectorizedHashCode_57 : decode cJ12_vectorizedHashCode 57 = .ok (.aload_n 0, 1) := dk_42 (dk_at dksJ12_vectorizedHashCode_2 13 rfl rfl)
theorem dJ12_vectorizedHashCode_58 : decode cJ12_vectorizedHashCode 58 = .ok (.instanceof 60, 3) := dk_193 0 60 (dk_at dksJ12_vectorizedHashCode_2 14 rfl rfl)
theorem dJ12_vectorizedHashCode_61 : decode cJ12_vectorizedHashCode 61 = .ok (.ifCond .eq 16, 3) := dk_153 0 16 (dk_at dksJ12_vectorizedHashCode_2 17 rfl rfl)
theorem dJ12_vectorizedHashCode_64 : decode cJ12_vectorizedHashCode 64 = .ok (.iload_n 3, 1) := dk_29 (dk_at dksJ12_vectorizedHashCode_2 20 rfl rfl)
theorem dJ12_vectorizedHashCode_65 : decode cJ12_vectorizedHashCode 65 = .ok (.aload_n 0, 1) := dk_42 (dk_at dksJ12_vectorizedHashCode_2 21 rfl rfl)
theorem dJ12_vectorizedHashCode_66 : decode cJ12_vectorizedHashCode 66 = .ok (.checkcast 60, 3) := dk_192 0 60 (dk_at dksJ12_vectorizedHashCode_3 0 rfl rfl)
theorem dJ12_vectorizedHashCode_69 : decode cJ12_vectorizedHashCode 69 = .ok (.iload_n 1, 1) := dk_27 (dk_at dksJ12_vectorizedHashCode_3 3 rfl rfl)
theorem dJ12_vectorizedHashCode_70 : decode cJ12_vectorizedHashCode 70 = .ok (.iload_n 2, 1) := dk_28 (dk_at dksJ12_vectorizedHashCode_3 4 rfl rfl)
theorem dJ12_vectorizedHashCode_71 : decode cJ12_vectorizedHashCode 71 = .ok (.invokestatic 66, 3) := dk_184 0 66 (dk_at dksJ12_vectorizedHashCode_3 5 rfl rfl)
theorem dJ12_vectorizedHashCode_74 : decode cJ12_vectorizedHashCode 74 = .ok (.goto 83, 3) := dk_167 0 83 (dk_at dksJ12_vectorizedHashCode_3 8 rfl rfl)
theorem dJ12_vectorizedHashCode_77 : decode cJ12_vectorizedHashCode 77 = .ok (.iload_n 3, 1) := dk_29 (dk_at dksJ12_vectorizedHashCode_3 11 rfl rfl)
theorem dJ12_vectorizedHashCode_78 : decode cJ12_vectorizedHashCode 78 = .ok (.aload_n 0, 1) := dk_42 (dk_at dksJ12_vectorizedHashCode_3 12 rfl rfl)
theorem dJ12_vectorizedHashCode_79 : decode cJ12_vectorizedHashCode 79 = .ok (.checkcast 69, 3) := dk_192 0 69 (dk_at dksJ12_vectorizedHashCode_3 13 rfl rfl)
theorem dJ12_vectorizedHashCode_82 : decode cJ12_vectorizedHashCode 82 = .ok (.iload_n 1, 1) := dk_27 (dk_at dksJ12_vectorizedHashCode_3 16 rfl rfl)
theorem dJ12_vectorizedHashCode_83 : decode cJ12_vectorizedHashCode 83 = .ok (.iload_n 2, 1) := dk_28 (dk_at dksJ12_vectorizedHashCode_3 17 rfl rfl)
theorem dJ12_vectorizedHashCode_84 : decode cJ12_vectorizedHashCode 84 = .ok (.invokestatic 71, 3) := dk_184 0 71 (dk_at dksJ12_vectorizedHashCode_3 18 rfl rfl)
theorem dJ12_vectorizedHashCode_87 : decode cJ12_vectorizedHashCode 87 = .ok (.goto 70, 3) := dk_167 0 70 (dk_at dksJ12_vectorizedHashCode_3 21 rfl rfl)
theorem dJ12_vectorizedHashCode_90 : decode cJ12_vectorizedHashCode 90 = .ok (.iload_n 3, 1) := dk_29 (dk_at dksJ12_vectorizedHashCode_4 0 rfl rfl)
theorem dJ12_vectorizedHashCode_91 : decode cJ12_vectorizedHashCode 91 = .ok (.aload_n 0, 1) := dk_42 (dk_at dksJ12_vectorizedHashCode_4 1 rfl rfl)
theorem dJ12_vectorizedHashCode_92 : decode cJ12_vectorizedHashCode 92 = .ok (.checkcast 60, 3) := dk_192 0 60 (dk_at dksJ12_vectorizedHashCode_4 2 rfl rfl)
theorem dJ12_vectorizedHashCode_95 : decode cJ12_vectorizedHashCode 95 = .ok (.iload_n 1, 1) := dk_27 (dk_at dksJ12_vectorizedHashCode_4 5 rfl rfl)
theorem dJ12_vectorizedHashCode_96 : decode cJ12_vectorizedHashCode 96 = .ok (.iload_n 2, 1) := dk_28 (dk_at dksJ12_vectorizedHashCode_4 6 rfl rfl)
theorem dJ12_vectorizedHashCode_97 : decode cJ12_vectorizedHashCode 97 = .ok (.invokestatic 75, 3) := dk_184 0 75 (dk_at dksJ12_vectorizedHashCode_4 7 rfl rfl)
theorem dJ12_vectorizedHashCode_100 : decode cJ12_vectorizedHashCode 100 = .ok (.goto 57, 3) := dk_167 0 57 (dk_at dksJ12_vectorizedHashCode_4 10 rfl rfl)
theorem dJ12_vectorizedHashCode_103 : decode cJ12_vectorizedHashCode 103 = .ok (.iload_n 3, 1) := dk_29 (dk_at dksJ12_vectorizedHashCode_4 13 rfl rfl)
theorem dJ12_vectorizedHashCode_104 : decode cJ12_vectorizedHashCode 104 = .ok (.aload_n 0, 1) := dk_42 (dk_at dksJ12_vectorizedHashCode_4 14 rfl rfl)
theorem dJ12_vectorizedHashCode_105 : decode cJ12_vectorizedHashCode 105 = .ok (.checkcast 77, 3) := dk_192 0 77 (dk_at dksJ12_vectorizedHashCode_4 15 rfl rfl)
theorem dJ12_vectorizedHashCode_108 : decode cJ12_vectorizedHashCode 108 = .ok (.iload_n 1, 1) := dk_27 (dk_at dksJ12_vectorizedHashCode_4 18 rfl rfl)
theorem dJ12_vectorizedHashCode_109 : decode cJ12_vectorizedHashCode 109 = .ok (.iload_n 2, 1) := dk_28 (dk_at dksJ12_vectorizedHashCode_4 19 rfl rfl)
theorem dJ12_vectorizedHashCode_110 : decode cJ12_vectorizedHashCode 110 = .ok (.invokestatic 79, 3) := dk_184 0 79 (dk_at dksJ12_vectorizedHashCode_4 20 rfl rfl)
theorem dJ12_vectorizedHashCode_113 : decode cJ12_vectorizedHashCode 113 = .ok (.goto 44, 3) := dk_167 0 44 (dk_at dksJ12_vectorizedHashCode_5 0 rfl rfl)
theorem dJ12_vectorizedHashCode_116 : decode cJ12_vectorizedHashCode 116 = .ok (.iload_n 3, 1) := dk_29 (dk_at dksJ12_vectorizedHashCode_5 3 rfl rfl)
theorem dJ12_vectorizedHashCode_117 : decode cJ12_vectorizedHashCode 117 = .ok (.aload_n 0, 1) := dk_42 (dk_at dksJ12_vectorizedHashCode_5 4 rfl rfl)
theorem dJ12_vectorizedHashCode_118 : decode cJ12_vectorizedHashCode 118 = .ok (.checkcast 82, 3) := dk_192 0 82 (dk_at dksJ12_vectorizedHashCode_5 5 rfl rfl)
theorem dJ12_vectorizedHashCode_121 : decode cJ12_vectorizedHashCode 121 = .ok (.iload_n 1, 1) := dk_27 (dk_at dksJ12_vectorizedHashCode_5 8 rfl rfl)
theorem dJ12_vectorizedHashCode_122 : decode cJ12_vectorizedHashCode 122 = .ok (.iload_n 2, 1) := dk_28 (dk_at dksJ12_vectorizedHashCode_5 9 rfl rfl)
theorem dJ12_vectorizedHashCode_123 : decode cJ12_vectorizedHashCode 123 = .ok (.invokestatic 84, 3) := dk_184 0 84 (dk_at dksJ12_vectorizedHashCode_5 10 rfl rfl)
theorem dJ12_vectorizedHashCode_126 : decode cJ12_vectorizedHashCode 126 = .ok (.goto 31, 3) := dk_167 0 31 (dk_at dksJ12_vectorizedHashCode_5 13 rfl rfl)
theorem dJ12_vectorizedHashCode_129 : decode cJ12_vectorizedHashCode 129 = .ok (.new 87, 3) := dk_187 0 87 (dk_at dksJ12_vectorizedHashCode_5 16 rfl rfl)
theorem dJ12_vectorizedHashCode_132 : decode cJ12_vectorizedHashCode 132 = .ok (.dup, 1) := dk_89 (dk_at dksJ12_vectorizedHashCode_5 19 rfl rfl)
theorem dJ12_vectorizedHashCode_133 : decode cJ12_vectorizedHashCode 133 = .ok (.new 89, 3) := dk_187 0 89 (dk_at dksJ12_vectorizedHashCode_5 20 rfl rfl)
theorem dJ12_vectorizedHashCode_136 : decode cJ12_vectorizedHashCode 136 = .ok (.dup, 1) := dk_89 (dk_at dksJ12_vectorizedHashCode_5 23 rfl rfl)
theorem dJ12_vectorizedHashCode_137 : decode cJ12_vectorizedHashCode 137 = .ok (.invokespecial 91, 3) := dk_183 0 91 (dk_at dksJ12_vectorizedHashCode_6 0 rfl rfl)
theorem dJ12_vectorizedHashCode_140 : decode cJ12_vectorizedHashCode 140 = .ok (.ldc 92, 2) := dk_18 92 (dk_at dksJ12_vectorizedHashCode_6 3 rfl rfl)
theorem dJ12_vectorizedHashCode_142 : decode cJ12_vectorizedHashCode 142 = .ok (.invokevirtual 94, 3) := dk_182 0 94 (dk_at dksJ12_vectorizedHashCode_6 5 rfl rfl)
theorem dJ12_vectorizedHashCode_145 : decode cJ12_vectorizedHashCode 145 = .ok (.iload 4, 2) := dk_21 4 (dk_at dksJ12_vectorizedHashCode_6 8 rfl rfl)
theorem dJ12_vectorizedHashCode_147 : decode cJ12_vectorizedHashCode 147 = .ok (.invokevirtual 98, 3) := dk_182 0 98 (dk_at dksJ12_vectorizedHashCode_6 10 rfl rfl)
theorem dJ12_vectorizedHashCode_150 : decode cJ12_vectorizedHashCode 150 = .ok (.invokevirtual 101, 3) := dk_182 0 101 (dk_at dksJ12_vectorizedHashCode_6 13 rfl rfl)
theorem dJ12_vectorizedHashCode_153 : decode cJ12_vectorizedHashCode 153 = .ok (.invokespecial 105, 3) := dk_183 0 105 (dk_at dksJ12_vectorizedHashCode_6 16 rfl rfl)
theorem dJ12_vectorizedHashCode_156 : decode cJ12_vectorizedHashCode 156 = .ok (.athrow, 1) := dk_191 (dk_at dksJ12_vectorizedHashCode_6 19 rfl rfl)
theorem dJ12_vectorizedHashCode_157 : decode cJ12_vectorizedHashCode 157 = .ok (.ireturn, 1) := dk_172 (dk_at dksJ12_vectorizedHashCode_6 20 rfl rfl)
abbrev cJ12_signedHashCode : ByteArray := prog_79_method_5_code
def yJ12_signedHashCode : MethodName := ⟨RJ12, "signedHashCode", "(I[BII)I"⟩
def dkwJ12_signedHashCode_1 : List UInt8 := [17, 0, 255, 126, 96, 59, 132, 5, 1, 167, 255, 232, 26, 172]
abbrev dktJ12_signedHashCode_1 : List UInt8 := dkwJ12_signedHashCode_1 ++ []
def dkwJ12_signedHashCode_0 : List UInt8 := [28, 29, 96, 54, 4, 28, 54, 5, 21, 5, 21, 4, 162, 0, 23, 16, 31, 26, 104, 43, 21, 5, 51]
abbrev dktJ12_signedHashCode_0 : List UInt8 := dkwJ12_signedHashCode_0 ++ dktJ12_signedHashCode_1
theorem dksJ12_signedHashCode_0 : cJ12_signedHashCode.data.toList.drop 0 = dktJ12_signedHashCode_0 := by decide +kernel
theorem dksJ12_signedHashCode_1 : cJ12_signedHashCode.data.toList.drop 23 = dktJ12_signedHashCode_1 := dk_seg dksJ12_signedHashCode_0 23 rfl rfl
theorem dJ12_signedHashCode_0 : decode cJ12_signedHashCode 0 = .ok (.iload_n 2, 1) := dk_28 (dk_at dksJ12_signedHashCode_0 0 rfl rfl)
theorem dJ12_signedHashCode_1 : decode cJ12_signedHashCode 1 = .ok (.iload_n 3, 1) := dk_29 (dk_at dksJ12_signedHashCode_0 1 rfl rfl)
theorem dJ12_signedHashCode_2 : decode cJ12_signedHashCode 2 = .ok (.iadd, 1) := dk_96 (dk_at dksJ12_signedHashCode_0 2 rfl rfl)
theorem dJ12_signedHashCode_3 : decode cJ12_signedHashCode 3 = .ok (.istore 4, 2) := dk_54 4 (dk_at dksJ12_signedHashCode_0 3 rfl rfl)
theorem dJ12_signedHashCode_5 : decode cJ12_signedHashCode 5 = .ok (.iload_n 2, 1) := dk_28 (dk_at dksJ12_signedHashCode_0 5 rfl rfl)
theorem dJ12_signedHashCode_6 : decode cJ12_signedHashCode 6 = .ok (.istore 5, 2) := dk_54 5 (dk_at dksJ12_signedHashCode_0 6 rfl rfl)
theorem dJ12_signedHashCode_8 : decode cJ12_signedHashCode 8 = .ok (.iload 5, 2) := dk_21 5 (dk_at dksJ12_signedHashCode_0 8 rfl rfl)
theorem dJ12_signedHashCode_10 : decode cJ12_signedHashCode 10 = .ok (.iload 4, 2) := dk_21 4 (dk_at dksJ12_signedHashCode_0 10 rfl rfl)
theorem dJ12_signedHashCode_12 : decode cJ12_signedHashCode 12 = .ok (.if_icmp .ge 23, 3) := dk_162 0 23 (dk_at dksJ12_signedHashCode_0 12 rfl rfl)
theorem dJ12_signedHashCode_15 : decode cJ12_signedHashCode 15 = .ok (.bipush 31, 2) := dk_16 31 (dk_at dksJ12_signedHashCode_0 15 rfl rfl)
theorem dJ12_signedHashCode_17 : decode cJ12_signedHashCode 17 = .ok (.iload_n 0, 1) := dk_26 (dk_at dksJ12_signedHashCode_0 17 rfl rfl)
theorem dJ12_signedHashCode_18 : decode cJ12_signedHashCode 18 = .ok (.imul, 1) := dk_104 (dk_at dksJ12_signedHashCode_0 18 rfl rfl)
theorem dJ12_signedHashCode_19 : decode cJ12_signedHashCode 19 = .ok (.aload_n 1, 1) := dk_43 (dk_at dksJ12_signedHashCode_0 19 rfl rfl)
theorem dJ12_signedHashCode_20 : decode cJ12_signedHashCode 20 = .ok (.iload 5, 2) := dk_21 5 (dk_at dksJ12_signedHashCode_0 20 rfl rfl)
theorem dJ12_signedHashCode_22 : decode cJ12_signedHashCode 22 = .ok (.baload, 1) := dk_51 (dk_at dksJ12_signedHashCode_0 22 rfl rfl)
theorem dJ12_signedHashCode_23 : decode cJ12_signedHashCode 23 = .ok (.sipush 255, 3) := dk_17 0 255 (dk_at dksJ12_signedHashCode_1 0 rfl rfl)
theorem dJ12_signedHashCode_26 : decode cJ12_signedHashCode 26 = .ok (.iand, 1) := dk_126 (dk_at dksJ12_signedHashCode_1 3 rfl rfl)
theorem dJ12_signedHashCode_27 : decode cJ12_signedHashCode 27 = .ok (.iadd, 1) := dk_96 (dk_at dksJ12_signedHashCode_1 4 rfl rfl)
theorem dJ12_signedHashCode_28 : decode cJ12_signedHashCode 28 = .ok (.istore_n 0, 1) := dk_59 (dk_at dksJ12_signedHashCode_1 5 rfl rfl)
theorem dJ12_signedHashCode_29 : decode cJ12_signedHashCode 29 = .ok (.iinc 5 1, 3) := dk_132 5 1 (dk_at dksJ12_signedHashCode_1 6 rfl rfl)
theorem dJ12_signedHashCode_32 : decode cJ12_signedHashCode 32 = .ok (.goto (-24), 3) := dk_167 255 232 (dk_at dksJ12_signedHashCode_1 9 rfl rfl)
theorem dJ12_signedHashCode_35 : decode cJ12_signedHashCode 35 = .ok (.iload_n 0, 1) := dk_26 (dk_at dksJ12_signedHashCode_1 12 rfl rfl)
theorem dJ12_signedHashCode_36 : decode cJ12_signedHashCode 36 = .ok (.ireturn, 1) := dk_172 (dk_at dksJ12_signedHashCode_1 13 rfl rfl)
abbrev cJ12_utf16hashCode : ByteArray := prog_79_method_10_code
def yJ12_utf16hashCode : MethodName := ⟨RJ12, "utf16hashCode", "(I[BII)I"⟩
def dkwJ12_utf16hashCode_1 : List UInt8 := [21, 5, 185, 0, 110, 3, 0, 96, 59, 132, 5, 1, 167, 255, 229, 26, 172]
abbrev dktJ12_utf16hashCode_1 : List UInt8 := dkwJ12_utf16hashCode_1 ++ []
def dkwJ12_utf16hashCode_0 : List UInt8 := [28, 29, 96, 54, 4, 28, 54, 5, 21, 5, 21, 4, 162, 0, 26, 16, 31, 26, 104, 178, 0, 106, 43]
abbrev dktJ12_utf16hashCode_0 : List UInt8 := dkwJ12_utf16hashCode_0 ++ dktJ12_utf16hashCode_1
theorem dksJ12_utf16hashCode_0 : cJ12_utf16hashCode.data.toList.drop 0 = dktJ12_utf16hashCode_0 := by decide +kernel
theorem dksJ12_utf16hashCode_1 : cJ12_utf16hashCode.data.toList.drop 23 = dktJ12_utf16hashCode_1 := dk_seg dksJ12_utf16hashCode_0 23 rfl rfl
theorem dJ12_utf16hashCode_0 : decode cJ12_utf16hashCode 0 = .ok (.iload_n 2, 1) := dk_28 (dk_at dksJ12_utf16hashCode_0 0 rfl rfl)
theorem dJ12_utf16hashCode_1 : decode cJ12_utf16hashCode 1 = .ok (.iload_n 3, 1) := dk_29 (dk_at dksJ12_utf16hashCode_0 1 rfl rfl)
theorem dJ12_utf16hashCode_2 : decode cJ12_utf16hashCode 2 = .ok (.iadd, 1) := dk_96 (dk_at dksJ12_utf16hashCode_0 2 rfl rfl)
theorem dJ12_utf16hashCode_3 : decode cJ12_utf16hashCode 3 = .ok (.istore 4, 2) := dk_54 4 (dk_at dksJ12_utf16hashCode_0 3 rfl rfl)
theorem dJ12_utf16hashCode_5 : decode cJ12_utf16hashCode 5 = .ok (.iload_n 2, 1) := dk_28 (dk_at dksJ12_utf16hashCode_0 5 rfl rfl)
theorem dJ12_utf16hashCode_6 : decode cJ12_utf16hashCode 6 = .ok (.istore 5, 2) := dk_54 5 (dk_at dksJ12_utf16hashCode_0 6 rfl rfl)
theorem dJ12_utf16hashCode_8 : decode cJ12_utf16hashCode 8 = .ok (.iload 5, 2) := dk_21 5 (dk_at dksJ12_utf16hashCode_0 8 rfl rfl)
theorem dJ12_utf16hashCode_10 : decode cJ12_utf16hashCode 10 = .ok (.iload 4, 2) := dk_21 4 (dk_at dksJ12_utf16hashCode_0 10 rfl rfl)
theorem dJ12_utf16hashCode_12 : decode cJ12_utf16hashCode 12 = .ok (.if_icmp .ge 26, 3) := dk_162 0 26 (dk_at dksJ12_utf16hashCode_0 12 rfl rfl)
theorem dJ12_utf16hashCode_15 : decode cJ12_utf16hashCode 15 = .ok (.bipush 31, 2) := dk_16 31 (dk_at dksJ12_utf16hashCode_0 15 rfl rfl)
theorem dJ12_utf16hashCode_17 : decode cJ12_utf16hashCode 17 = .ok (.iload_n 0, 1) := dk_26 (dk_at dksJ12_utf16hashCode_0 17 rfl rfl)
theorem dJ12_utf16hashCode_18 : decode cJ12_utf16hashCode 18 = .ok (.imul, 1) := dk_104 (dk_at dksJ12_utf16hashCode_0 18 rfl rfl)
theorem dJ12_utf16hashCode_19 : decode cJ12_utf16hashCode 19 = .ok (.getstatic 106, 3) := dk_178 0 106 (dk_at dksJ12_utf16hashCode_0 19 rfl rfl)
theorem dJ12_utf16hashCode_22 : decode cJ12_utf16hashCode 22 = .ok (.aload_n 1, 1) := dk_43 (dk_at dksJ12_utf16hashCode_0 22 rfl rfl)
theorem dJ12_utf16hashCode_23 : decode cJ12_utf16hashCode 23 = .ok (.iload 5, 2) := dk_21 5 (dk_at dksJ12_utf16hashCode_1 0 rfl rfl)
theorem dJ12_utf16hashCode_25 : decode cJ12_utf16hashCode 25 = .ok (.invokeinterface 110 3, 5) := by decide +kernel
theorem dJ12_utf16hashCode_30 : decode cJ12_utf16hashCode 30 = .ok (.iadd, 1) := dk_96 (dk_at dksJ12_utf16hashCode_1 7 rfl rfl)
theorem dJ12_utf16hashCode_31 : decode cJ12_utf16hashCode 31 = .ok (.istore_n 0, 1) := dk_59 (dk_at dksJ12_utf16hashCode_1 8 rfl rfl)
theorem dJ12_utf16hashCode_32 : decode cJ12_utf16hashCode 32 = .ok (.iinc 5 1, 3) := dk_132 5 1 (dk_at dksJ12_utf16hashCode_1 9 rfl rfl)
theorem dJ12_utf16hashCode_35 : decode cJ12_utf16hashCode 35 = .ok (.goto (-27), 3) := dk_167 255 229 (dk_at dksJ12_utf16hashCode_1 12 rfl rfl)
theorem dJ12_utf16hashCode_38 : decode cJ12_utf16hashCode 38 = .ok (.iload_n 0, 1) := dk_26 (dk_at dksJ12_utf16hashCode_1 15 rfl rfl)
theorem dJ12_utf16hashCode_39 : decode cJ12_utf16hashCode 39 = .ok (.ireturn, 1) := dk_172 (dk_at dksJ12_utf16hashCode_1 16 rfl rfl)
abbrev cJ12_hashCode : ByteArray := prog_79_method_7_code
def yJ12_hashCode : MethodName := ⟨RJ12, "hashCode", "(I[CII)I"⟩
def dkwJ12_hashCode_1 : List UInt8 := [59, 132, 5, 1, 167, 255, 236, 26, 172]
abbrev dktJ12_hashCode_1 : List UInt8 := dkwJ12_hashCode_1 ++ []
def dkwJ12_hashCode_0 : List UInt8 := [28, 29, 96, 54, 4, 28, 54, 5, 21, 5, 21, 4, 162, 0, 19, 16, 31, 26, 104, 43, 21, 5, 52, 96]
abbrev dktJ12_hashCode_0 : List UInt8 := dkwJ12_hashCode_0 ++ dktJ12_hashCode_1
theorem dksJ12_hashCode_0 : cJ12_hashCode.data.toList.drop 0 = dktJ12_hashCode_0 := by decide +kernel
theorem dksJ12_hashCode_1 : cJ12_hashCode.data.toList.drop 24 = dktJ12_hashCode_1 := dk_seg dksJ12_hashCode_0 24 rfl rfl
theorem dJ12_hashCode_0 : decode cJ12_hashCode 0 = .ok (.iload_n 2, 1) := dk_28 (dk_at dksJ12_hashCode_0 0 rfl rfl)
theorem dJ12_hashCode_1 : decode cJ12_hashCode 1 = .ok (.iload_n 3, 1) := dk_29 (dk_at dksJ12_hashCode_0 1 rfl rfl)
theorem dJ12_hashCode_2 : decode cJ12_hashCode 2 = .ok (.iadd, 1) := dk_96 (dk_at dksJ12_hashCode_0 2 rfl rfl)
theorem dJ12_hashCode_3 : decode cJ12_hashCode 3 = .ok (.istore 4, 2) := dk_54 4 (dk_at dksJ12_hashCode_0 3 rfl rfl)
theorem dJ12_hashCode_5 : decode cJ12_hashCode 5 = .ok (.iload_n 2, 1) := dk_28 (dk_at dksJ12_hashCode_0 5 rfl rfl)
theorem dJ12_hashCode_6 : decode cJ12_hashCode 6 = .ok (.istore 5, 2) := dk_54 5 (dk_at dksJ12_hashCode_0 6 rfl rfl)
theorem dJ12_hashCode_8 : decode cJ12_hashCode 8 = .ok (.iload 5, 2) := dk_21 5 (dk_at dksJ12_hashCode_0 8 rfl rfl)
theorem dJ12_hashCode_10 : decode cJ12_hashCode 10 = .ok (.iload 4, 2) := dk_21 4 (dk_at dksJ12_hashCode_0 10 rfl rfl)
theorem dJ12_hashCode_12 : decode cJ12_hashCode 12 = .ok (.if_icmp .ge 19, 3) := dk_162 0 19 (dk_at dksJ12_hashCode_0 12 rfl rfl)
theorem dJ12_hashCode_15 : decode cJ12_hashCode 15 = .ok (.bipush 31, 2) := dk_16 31 (dk_at dksJ12_hashCode_0 15 rfl rfl)
theorem dJ12_hashCode_17 : decode cJ12_hashCode 17 = .ok (.iload_n 0, 1) := dk_26 (dk_at dksJ12_hashCode_0 17 rfl rfl)
theorem dJ12_hashCode_18 : decode cJ12_hashCode 18 = .ok (.imul, 1) := dk_104 (dk_at dksJ12_hashCode_0 18 rfl rfl)
theorem dJ12_hashCode_19 : decode cJ12_hashCode 19 = .ok (.aload_n 1, 1) := dk_43 (dk_at dksJ12_hashCode_0 19 rfl rfl)
theorem dJ12_hashCode_20 : decode cJ12_hashCode 20 = .ok (.iload 5, 2) := dk_21 5 (dk_at dksJ12_hashCode_0 20 rfl rfl)
theorem dJ12_hashCode_22 : decode cJ12_hashCode 22 = .ok (.caload, 1) := dk_52 (dk_at dksJ12_hashCode_0 22 rfl rfl)
theorem dJ12_hashCode_23 : decode cJ12_hashCode 23 = .ok (.iadd, 1) := dk_96 (dk_at dksJ12_hashCode_0 23 rfl rfl)
theorem dJ12_hashCode_24 : decode cJ12_hashCode 24 = .ok (.istore_n 0, 1) := dk_59 (dk_at dksJ12_hashCode_1 0 rfl rfl)
theorem dJ12_hashCode_25 : decode cJ12_hashCode 25 = .ok (.iinc 5 1, 3) := dk_132 5 1 (dk_at dksJ12_hashCode_1 1 rfl rfl)
theorem dJ12_hashCode_28 : decode cJ12_hashCode 28 = .ok (.goto (-20), 3) := dk_167 255 236 (dk_at dksJ12_hashCode_1 4 rfl rfl)
theorem dJ12_hashCode_31 : decode cJ12_hashCode 31 = .ok (.iload_n 0, 1) := dk_26 (dk_at dksJ12_hashCode_1 7 rfl rfl)
theorem dJ12_hashCode_32 : decode cJ12_hashCode 32 = .ok (.ireturn, 1) := dk_172 (dk_at dksJ12_hashCode_1 8 rfl rfl)
abbrev cJ12_hashCode_2 : ByteArray := prog_79_method_6_code
def yJ12_hashCode_2 : MethodName := ⟨RJ12, "hashCode", "(I[BII)I"⟩
def dkwJ12_hashCode_2_1 : List UInt8 := [59, 132, 5, 1, 167, 255, 236, 26, 172]
abbrev dktJ12_hashCode_2_1 : List UInt8 := dkwJ12_hashCode_2_1 ++ []
def dkwJ12_hashCode_2_0 : List UInt8 := [28, 29, 96, 54, 4, 28, 54, 5, 21, 5, 21, 4, 162, 0, 19, 16, 31, 26, 104, 43, 21, 5, 51, 96]
abbrev dktJ12_hashCode_2_0 : List UInt8 := dkwJ12_hashCode_2_0 ++ dktJ12_hashCode_2_1
theorem dksJ12_hashCode_2_0 : cJ12_hashCode_2.data.toList.drop 0 = dktJ12_hashCode_2_0 := by decide +kernel
theorem dksJ12_hashCode_2_1 : cJ12_hashCode_2.data.toList.drop 24 = dktJ12_hashCode_2_1 := dk_seg dksJ12_hashCode_2_0 24 rfl rfl
theorem dJ12_hashCode_2_0 : decode cJ12_hashCode_2 0 = .ok (.iload_n 2, 1) := dk_28 (dk_at dksJ12_hashCode_2_0 0 rfl rfl)
theorem dJ12_hashCode_2_1 : decode cJ12_hashCode_2 1 = .ok (.iload_n 3, 1) := dk_29 (dk_at dksJ12_hashCode_2_0 1 rfl rfl)
theorem dJ12_hashCode_2_2 : decode cJ12_hashCode_2 2 = .ok (.iadd, 1) := dk_96 (dk_at dksJ12_hashCode_2_0 2 rfl rfl)
theorem dJ12_hashCode_2_3 : decode cJ12_hashCode_2 3 = .ok (.istore 4, 2) := dk_54 4 (dk_at dksJ12_hashCode_2_0 3 rfl rfl)
theorem dJ12_hashCode_2_5 : decode cJ12_hashCode_2 5 = .ok (.iload_n 2, 1) := dk_28 (dk_at dksJ12_hashCode_2_0 5 rfl rfl)
theorem dJ12_hashCode_2_6 : decode cJ12_hashCode_2 6 = .ok (.istore 5, 2) := dk_54 5 (dk_at dksJ12_hashCode_2_0 6 rfl rfl)
theorem dJ12_hashCode_2_8 : decode cJ12_hashCode_2 8 = .ok (.iload 5, 2) := dk_21 5 (dk_at dksJ12_hashCode_2_0 8 rfl rfl)
theorem dJ12_hashCode_2_10 : decode cJ12_hashCode_2 10 = .ok (.iload 4, 2) := dk_21 4 (dk_at dksJ12_hashCode_2_0 10 rfl rfl)
theorem dJ12_hashCode_2_12 : decode cJ12_hashCode_2 12 = .ok (.if_icmp .ge 19, 3) := dk_162 0 19 (dk_at dksJ12_hashCode_2_0 12 rfl rfl)
theorem dJ12_hashCode_2_15 : decode cJ12_hashCode_2 15 = .ok (.bipush 31, 2) := dk_16 31 (dk_at dksJ12_hashCode_2_0 15 rfl rfl)
theorem dJ12_hashCode_2_17 : decode cJ12_hashCode_2 17 = .ok (.iload_n 0, 1) := dk_26 (dk_at dksJ12_hashCode_2_0 17 rfl rfl)
theorem dJ12_hashCode_2_18 : decode cJ12_hashCode_2 18 = .ok (.imul, 1) := dk_104 (dk_at dksJ12_hashCode_2_0 18 rfl rfl)
theorem dJ12_hashCode_2_19 : decode cJ12_hashCode_2 19 = .ok (.aload_n 1, 1) := dk_43 (dk_at dksJ12_hashCode_2_0 19 rfl rfl)
theorem dJ12_hashCode_2_20 : decode cJ12_hashCode_2 20 = .ok (.iload 5, 2) := dk_21 5 (dk_at dksJ12_hashCode_2_0 20 rfl rfl)
theorem dJ12_hashCode_2_22 : decode cJ12_hashCode_2 22 = .ok (.baload, 1) := dk_51 (dk_at dksJ12_hashCode_2_0 22 rfl rfl)
theorem dJ12_hashCode_2_23 : decode cJ12_hashCode_2 23 = .ok (.iadd, 1) := dk_96 (dk_at dksJ12_hashCode_2_0 23 rfl rfl)
theorem dJ12_hashCode_2_24 : decode cJ12_hashCode_2 24 = .ok (.istore_n 0, 1) := dk_59 (dk_at dksJ12_hashCode_2_1 0 rfl rfl)
theorem dJ12_hashCode_2_25 : decode cJ12_hashCode_2 25 = .ok (.iinc 5 1, 3) := dk_132 5 1 (dk_at dksJ12_hashCode_2_1 1 rfl rfl)
theorem dJ12_hashCode_2_28 : decode cJ12_hashCode_2 28 = .ok (.goto (-20), 3) := dk_167 255 236 (dk_at dksJ12_hashCode_2_1 4 rfl rfl)
theorem dJ12_hashCode_2_31 : decode cJ12_hashCode_2 31 = .ok (.iload_n 0, 1) := dk_26 (dk_at dksJ12_hashCode_2_1 7 rfl rfl)
theorem dJ12_hashCode_2_32 : decode cJ12_hashCode_2 32 = .ok (.ireturn, 1) := dk_172 (dk_at dksJ12_hashCode_2_1 8 rfl rfl)
abbrev cJ12_hashCode_3 : ByteArray := prog_79_method_8_code
def yJ12_hashCode_3 : MethodName := ⟨RJ12, "hashCode", "(I[SII)I"⟩
def dkwJ12_hashCode_3_1 : List UInt8 := [59, 132, 5, 1, 167, 255, 236, 26, 172]
abbrev dktJ12_hashCode_3_1 : List UInt8 := dkwJ12_hashCode_3_1 ++ []
def dkwJ12_hashCode_3_0 : List UInt8 := [28, 29, 96, 54, 4, 28, 54, 5, 21, 5, 21, 4, 162, 0, 19, 16, 31, 26, 104, 43, 21, 5, 53, 96]
abbrev dktJ12_hashCode_3_0 : List UInt8 := dkwJ12_hashCode_3_0 ++ dktJ12_hashCode_3_1
theorem dksJ12_hashCode_3_0 : cJ12_hashCode_3.data.toList.drop 0 = dktJ12_hashCode_3_0 := by decide +kernel
theorem dksJ12_hashCode_3_1 : cJ12_hashCode_3.data.toList.drop 24 = dktJ12_hashCode_3_1 := dk_seg dksJ12_hashCode_3_0 24 rfl rfl
theorem dJ12_hashCode_3_0 : decode cJ12_hashCode_3 0 = .ok (.iload_n 2, 1) := dk_28 (dk_at dksJ12_hashCode_3_0 0 rfl rfl)
theorem dJ12_hashCode_3_1 : decode cJ12_hashCode_3 1 = .ok (.iload_n 3, 1) := dk_29 (dk_at dksJ12_hashCode_3_0 1 rfl rfl)
theorem dJ12_hashCode_3_2 : decode cJ12_hashCode_3 2 = .ok (.iadd, 1) := dk_96 (dk_at dksJ12_hashCode_3_0 2 rfl rfl)
theorem dJ12_hashCode_3_3 : decode cJ12_hashCode_3 3 = .ok (.istore 4, 2) := dk_54 4 (dk_at dksJ12_hashCode_3_0 3 rfl rfl)
theorem dJ12_hashCode_3_5 : decode cJ12_hashCode_3 5 = .ok (.iload_n 2, 1) := dk_28 (dk_at dksJ12_hashCode_3_0 5 rfl rfl)
theorem dJ12_hashCode_3_6 : decode cJ12_hashCode_3 6 = .ok (.istore 5, 2) := dk_54 5 (dk_at dksJ12_hashCode_3_0 6 rfl rfl)
theorem dJ12_hashCode_3_8 : decode cJ12_hashCode_3 8 = .ok (.iload 5, 2) := dk_21 5 (dk_at dksJ12_hashCode_3_0 8 rfl rfl)
theorem dJ12_hashCode_3_10 : decode cJ12_hashCode_3 10 = .ok (.iload 4, 2) := dk_21 4 (dk_at dksJ12_hashCode_3_0 10 rfl rfl)
theorem dJ12_hashCode_3_12 : decode cJ12_hashCode_3 12 = .ok (.if_icmp .ge 19, 3) := dk_162 0 19 (dk_at dksJ12_hashCode_3_0 12 rfl rfl)
theorem dJ12_hashCode_3_15 : decode cJ12_hashCode_3 15 = .ok (.bipush 31, 2) := dk_16 31 (dk_at dksJ12_hashCode_3_0 15 rfl rfl)
theorem dJ12_hashCode_3_17 : decode cJ12_hashCode_3 17 = .ok (.iload_n 0, 1) := dk_26 (dk_at dksJ12_hashCode_3_0 17 rfl rfl)
theorem dJ12_hashCode_3_18 : decode cJ12_hashCode_3 18 = .ok (.imul, 1) := dk_104 (dk_at dksJ12_hashCode_3_0 18 rfl rfl)
theorem dJ12_hashCode_3_19 : decode cJ12_hashCode_3 19 = .ok (.aload_n 1, 1) := dk_43 (dk_at dksJ12_hashCode_3_0 19 rfl rfl)
theorem dJ12_hashCode_3_20 : decode cJ12_hashCode_3 20 = .ok (.iload 5, 2) := dk_21 5 (dk_at dksJ12_hashCode_3_0 20 rfl rfl)
theorem dJ12_hashCode_3_22 : decode cJ12_hashCode_3 22 = .ok (.saload, 1) := dk_53 (dk_at dksJ12_hashCode_3_0 22 rfl rfl)
theorem dJ12_hashCode_3_23 : decode cJ12_hashCode_3 23 = .ok (.iadd, 1) := dk_96 (dk_at dksJ12_hashCode_3_0 23 rfl rfl)
theorem dJ12_hashCode_3_24 : decode cJ12_hashCode_3 24 = .ok (.istore_n 0, 1) := dk_59 (dk_at dksJ12_hashCode_3_1 0 rfl rfl)
theorem dJ12_hashCode_3_25 : decode cJ12_hashCode_3 25 = .ok (.iinc 5 1, 3) := dk_132 5 1 (dk_at dksJ12_hashCode_3_1 1 rfl rfl)
theorem dJ12_hashCode_3_28 : decode cJ12_hashCode_3 28 = .ok (.goto (-20), 3) := dk_167 255 236 (dk_at dksJ12_hashCode_3_1 4 rfl rfl)
theorem dJ12_hashCode_3_31 : decode cJ12_hashCode_3 31 = .ok (.iload_n 0, 1) := dk_26 (dk_at dksJ12_hashCode_3_1 7 rfl rfl)
theorem dJ12_hashCode_3_32 : decode cJ12_hashCode_3 32 = .ok (.ireturn, 1) := dk_172 (dk_at dksJ12_hashCode_3_1 8 rfl rfl)
abbrev cJ12_hashCode_4 : ByteArray := prog_79_method_9_code
def yJ12_hashCode_4 : MethodName := ⟨RJ12, "hashCode", "(I[III)I"⟩
def dkwJ12_hashCode_4_1 : List UInt8 := [59, 132, 5, 1, 167, 255, 236, 26, 172]
abbrev dktJ12_hashCode_4_1 : List UInt8 := dkwJ12_hashCode_4_1 ++ []
def dkwJ12_hashCode_4_0 : List UInt8 := [28, 29, 96, 54, 4, 28, 54, 5, 21, 5, 21, 4, 162, 0, 19, 16, 31, 26, 104, 43, 21, 5, 46, 96]
abbrev dktJ12_hashCode_4_0 : List UInt8 := dkwJ12_hashCode_4_0 ++ dktJ12_hashCode_4_1
theorem dksJ12_hashCode_4_0 : cJ12_hashCode_4.data.toList.drop 0 = dktJ12_hashCode_4_0 := by decide +kernel
theorem dksJ12_hashCode_4_1 : cJ12_hashCode_4.data.toList.drop 24 = dktJ12_hashCode_4_1 := dk_seg dksJ12_hashCode_4_0 24 rfl rfl
theorem dJ12_hashCode_4_0 : decode cJ12_hashCode_4 0 = .ok (.iload_n 2, 1) := dk_28 (dk_at dksJ12_hashCode_4_0 0 rfl rfl)
theorem dJ12_hashCode_4_1 : decode cJ12_hashCode_4 1 = .ok (.iload_n 3, 1) := dk_29 (dk_at dksJ12_hashCode_4_0 1 rfl rfl)
theorem dJ12_hashCode_4_2 : decode cJ12_hashCode_4 2 = .ok (.iadd, 1) := dk_96 (dk_at dksJ12_hashCode_4_0 2 rfl rfl)
theorem dJ12_hashCode_4_3 : decode cJ12_hashCode_4 3 = .ok (.istore 4, 2) := dk_54 4 (dk_at dksJ12_hashCode_4_0 3 rfl rfl)
theorem dJ12_hashCode_4_5 : decode cJ12_hashCode_4 5 = .ok (.iload_n 2, 1) := dk_28 (dk_at dksJ12_hashCode_4_0 5 rfl rfl)
theorem dJ12_hashCode_4_6 : decode cJ12_hashCode_4 6 = .ok (.istore 5, 2) := dk_54 5 (dk_at dksJ12_hashCode_4_0 6 rfl rfl)
theorem dJ12_hashCode_4_8 : decode cJ12_hashCode_4 8 = .ok (.iload 5, 2) := dk_21 5 (dk_at dksJ12_hashCode_4_0 8 rfl rfl)
theorem dJ12_hashCode_4_10 : decode cJ12_hashCode_4 10 = .ok (.iload 4, 2) := dk_21 4 (dk_at dksJ12_hashCode_4_0 10 rfl rfl)
theorem dJ12_hashCode_4_12 : decode cJ12_hashCode_4 12 = .ok (.if_icmp .ge 19, 3) := dk_162 0 19 (dk_at dksJ12_hashCode_4_0 12 rfl rfl)
theorem dJ12_hashCode_4_15 : decode cJ12_hashCode_4 15 = .ok (.bipush 31, 2) := dk_16 31 (dk_at dksJ12_hashCode_4_0 15 rfl rfl)
theorem dJ12_hashCode_4_17 : decode cJ12_hashCode_4 17 = .ok (.iload_n 0, 1) := dk_26 (dk_at dksJ12_hashCode_4_0 17 rfl rfl)
theorem dJ12_hashCode_4_18 : decode cJ12_hashCode_4 18 = .ok (.imul, 1) := dk_104 (dk_at dksJ12_hashCode_4_0 18 rfl rfl)
theorem dJ12_hashCode_4_19 : decode cJ12_hashCode_4 19 = .ok (.aload_n 1, 1) := dk_43 (dk_at dksJ12_hashCode_4_0 19 rfl rfl)
theorem dJ12_hashCode_4_20 : decode cJ12_hashCode_4 20 = .ok (.iload 5, 2) := dk_21 5 (dk_at dksJ12_hashCode_4_0 20 rfl rfl)
theorem dJ12_hashCode_4_22 : decode cJ12_hashCode_4 22 = .ok (.iaload, 1) := dk_46 (dk_at dksJ12_hashCode_4_0 22 rfl rfl)
theorem dJ12_hashCode_4_23 : decode cJ12_hashCode_4 23 = .ok (.iadd, 1) := dk_96 (dk_at dksJ12_hashCode_4_0 23 rfl rfl)
theorem dJ12_hashCode_4_24 : decode cJ12_hashCode_4 24 = .ok (.istore_n 0, 1) := dk_59 (dk_at dksJ12_hashCode_4_1 0 rfl rfl)
theorem dJ12_hashCode_4_25 : decode cJ12_hashCode_4 25 = .ok (.iinc 5 1, 3) := dk_132 5 1 (dk_at dksJ12_hashCode_4_1 1 rfl rfl)
theorem dJ12_hashCode_4_28 : decode cJ12_hashCode_4 28 = .ok (.goto (-20), 3) := dk_167 255 236 (dk_at dksJ12_hashCode_4_1 4 rfl rfl)
theorem dJ12_hashCode_4_31 : decode cJ12_hashCode_4 31 = .ok (.iload_n 0, 1) := dk_26 (dk_at dksJ12_hashCode_4_1 7 rfl rfl)
theorem dJ12_hashCode_4_32 : decode cJ12_hashCode_4 32 = .ok (.ireturn, 1) := dk_172 (dk_at dksJ12_hashCode_4_1 8 rfl rfl)
abbrev cJ12_mismatch : ByteArray := prog_79_method_13_code
def yJ12_mismatch : MethodName := ⟨RJ12, "mismatch", "([B[BI)I"⟩
def dkwJ12_mismatch_3 : List UInt8 := [172]
abbrev dktJ12_mismatch_3 : List UInt8 := dkwJ12_mismatch_3 ++ []
def dkwJ12_mismatch_2 : List UInt8 := [62, 29, 28, 162, 0, 20, 42, 29, 51, 43, 29, 51, 159, 0, 5, 29, 172, 132, 3, 1, 167, 255, 237, 2]
abbrev dktJ12_mismatch_2 : List UInt8 := dkwJ12_mismatch_2 ++ dktJ12_mismatch_3
def dkwJ12_mismatch_1 : List UInt8 := [43, 178, 0, 126, 133, 28, 178, 0, 129, 184, 0, 122, 62, 29, 155, 0, 5, 29, 172, 28, 29, 2, 130, 100]
abbrev dktJ12_mismatch_1 : List UInt8 := dkwJ12_mismatch_1 ++ dktJ12_mismatch_2
def dkwJ12_mismatch_0 : List UInt8 := [3, 62, 28, 16, 7, 164, 0, 44, 42, 3, 51, 43, 3, 51, 159, 0, 5, 3, 172, 42, 178, 0, 126, 133]
abbrev dktJ12_mismatch_0 : List UInt8 := dkwJ12_mismatch_0 ++ dktJ12_mismatch_1
theorem dksJ12_mismatch_0 : cJ12_mismatch.data.toList.drop 0 = dktJ12_mismatch_0 := by decide +kernel
theorem dksJ12_mismatch_1 : cJ12_mismatch.data.toList.drop 24 = dktJ12_mismatch_1 := dk_seg dksJ12_mismatch_0 24 rfl rfl
theorem dksJ12_mismatch_2 : cJ12_mismatch.data.toList.drop 48 = dktJ12_mismatch_2 := dk_seg dksJ12_mismatch_1 24 rfl rfl
theorem dksJ12_mismatch_3 : cJ12_mismatch.data.toList.drop 72 = dktJ12_mismatch_3 := dk_seg dksJ12_mismatch_2 24 rfl rfl
theorem dJ12_mismatch_0 : decode cJ12_mismatch 0 = .ok (.iconst 0, 1) := dk_3 (dk_at dksJ12_mismatch_0 0 rfl rfl)
theorem dJ12_mismatch_1 : decode cJ12_mismatch 1 = .ok (.istore_n 3, 1) := dk_62 (dk_at dksJ12_mismatch_0 1 rfl rfl)
theorem dJ12_mismatch_2 : decode cJ12_mismatch 2 = .ok (.iload_n 2, 1) := dk_28 (dk_at dksJ12_mismatch_0 2 rfl rfl)
theorem dJ12_mismatch_3 : decode cJ12_mismatch 3 = .ok (.bipush 7, 2) := dk_16 7 (dk_at dksJ12_mismatch_0 3 rfl rfl)
theorem dJ12_mismatch_5 : decode cJ12_mismatch 5 = .ok (.if_icmp .le 44, 3) := dk_164 0 44 (dk_at dksJ12_mismatch_0 5 rfl rfl)
theorem dJ12_mismatch_8 : decode cJ12_mismatch 8 = .ok (.aload_n 0, 1) := dk_42 (dk_at dksJ12_mismatch_0 8 rfl rfl)
theorem dJ12_mismatch_9 : decode cJ12_mismatch 9 = .ok (.iconst 0, 1) := dk_3 (dk_at dksJ12_mismatch_0 9 rfl rfl)
theorem dJ12_mismatch_10 : decode cJ12_mismatch 10 = .ok (.baload, 1) := dk_51 (dk_at dksJ12_mismatch_0 10 rfl rfl)
theorem dJ12_mismatch_11 : decode cJ12_mismatch 11 = .ok (.aload_n 1, 1) := dk_43 (dk_at dksJ12_mismatch_0 11 rfl rfl)
theorem dJ12_mismatch_12 : decode cJ12_mismatch 12 = .ok (.iconst 0, 1) := dk_3 (dk_at dksJ12_mismatch_0 12 rfl rfl)
theorem dJ12_mismatch_13 : decode cJ12_mismatch 13 = .ok (.baload, 1) := dk_51 (dk_at dksJ12_mismatch_0 13 rfl rfl)
theorem dJ12_mismatch_14 : decode cJ12_mismatch 14 = .ok (.if_icmp .eq 5, 3) := dk_159 0 5 (dk_at dksJ12_mismatch_0 14 rfl rfl)
theorem dJ12_mismatch_17 : decode cJ12_mismatch 17 = .ok (.iconst 0, 1) := dk_3 (dk_at dksJ12_mismatch_0 17 rfl rfl)
theorem dJ12_mismatch_18 : decode cJ12_mismatch 18 = .ok (.ireturn, 1) := dk_172 (dk_at dksJ12_mismatch_0 18 rfl rfl)
theorem dJ12_mismatch_19 : decode cJ12_mismatch 19 = .ok (.aload_n 0, 1) := dk_42 (dk_at dksJ12_mismatch_0 19 rfl rfl)
theorem dJ12_mismatch_20 : decode cJ12_mismatch 20 = .ok (.getstatic 126, 3) := dk_178 0 126 (dk_at dksJ12_mismatch_0 20 rfl rfl)
theorem dJ12_mismatch_23 : decode cJ12_mismatch 23 = .ok (.i2l, 1) := dk_133 (dk_at dksJ12_mismatch_0 23 rfl rfl)
theorem dJ12_mismatch_24 : decode cJ12_mismatch 24 = .ok (.aload_n 1, 1) := dk_43 (dk_at dksJ12_mismatch_1 0 rfl rfl)
theorem dJ12_mismatch_25 : decode cJ12_mismatch 25 = .ok (.getstatic 126, 3) := dk_178 0 126 (dk_at dksJ12_mismatch_1 1 rfl rfl)
theorem dJ12_mismatch_28 : decode cJ12_mismatch 28 = .ok (.i2l, 1) := dk_133 (dk_at dksJ12_mismatch_1 4 rfl rfl)
theorem dJ12_mismatch_29 : decode cJ12_mismatch 29 = .ok (.iload_n 2, 1) := dk_28 (dk_at dksJ12_mismatch_1 5 rfl rfl)
theorem dJ12_mismatch_30 : decode cJ12_mismatch 30 = .ok (.getstatic 129, 3) := dk_178 0 129 (dk_at dksJ12_mismatch_1 6 rfl rfl)
theorem dJ12_mismatch_33 : decode cJ12_mismatch 33 = .ok (.invokestatic 122, 3) := dk_184 0 122 (dk_at dksJ12_mismatch_1 9 rfl rfl)
theorem dJ12_mismatch_36 : decode cJ12_mismatch 36 = .ok (.istore_n 3, 1) := dk_62 (dk_at dksJ12_mismatch_1 12 rfl rfl)
theorem dJ12_mismatch_37 : decode cJ12_mismatch 37 = .ok (.iload_n 3, 1) := dk_29 (dk_at dksJ12_mismatch_1 13 rfl rfl)
theorem dJ12_mismatch_38 : decode cJ12_mismatch 38 = .ok (.ifCond .lt 5, 3) := dk_155 0 5 (dk_at dksJ12_mismatch_1 14 rfl rfl)
theorem dJ12_mismatch_41 : decode cJ12_mismatch 41 = .ok (.iload_n 3, 1) := dk_29 (dk_at dksJ12_mismatch_1 17 rfl rfl)
theorem dJ12_mismatch_42 : decode cJ12_mismatch 42 = .ok (.ireturn, 1) := dk_172 (dk_at dksJ12_mismatch_1 18 rfl rfl)
theorem dJ12_mismatch_43 : decode cJ12_mismatch 43 = .ok (.iload_n 2, 1) := dk_28 (dk_at dksJ12_mismatch_1 19 rfl rfl)
theorem dJ12_mismatch_44 : decode cJ12_mismatch 44 = .ok (.iload_n 3, 1) := dk_29 (dk_at dksJ12_mismatch_1 20 rfl rfl)
theorem dJ12_mismatch_45 : decode cJ12_mismatch 45 = .ok (.iconst (-1), 1) := dk_2 (dk_at dksJ12_mismatch_1 21 rfl rfl)
theorem dJ12_mismatch_46 : decode cJ12_mismatch 46 = .ok (.ixor, 1) := dk_130 (dk_at dksJ12_mismatch_1 22 rfl rfl)
theorem dJ12_mismatch_47 : decode cJ12_mismatch 47 = .ok (.isub, 1) := dk_100 (dk_at dksJ12_mismatch_1 23 rfl rfl)
theorem dJ12_mismatch_48 : decode cJ12_mismatch 48 = .ok (.istore_n 3, 1) := dk_62 (dk_at dksJ12_mismatch_2 0 rfl rfl)
theorem dJ12_mismatch_49 : decode cJ12_mismatch 49 = .ok (.iload_n 3, 1) := dk_29 (dk_at dksJ12_mismatch_2 1 rfl rfl)
theorem dJ12_mismatch_50 : decode cJ12_mismatch 50 = .ok (.iload_n 2, 1) := dk_28 (dk_at dksJ12_mismatch_2 2 rfl rfl)
theorem dJ12_mismatch_51 : decode cJ12_mismatch 51 = .ok (.if_icmp .ge 20, 3) := dk_162 0 20 (dk_at dksJ12_mismatch_2 3 rfl rfl)
theorem dJ12_mismatch_54 : decode cJ12_mismatch 54 = .ok (.aload_n 0, 1) := dk_42 (dk_at dksJ12_mismatch_2 6 rfl rfl)
theorem dJ12_mismatch_55 : decode cJ12_mismatch 55 = .ok (.iload_n 3, 1) := dk_29 (dk_at dksJ12_mismatch_2 7 rfl rfl)
theorem dJ12_mismatch_56 : decode cJ12_mismatch 56 = .ok (.baload, 1) := dk_51 (dk_at dksJ12_mismatch_2 8 rfl rfl)
theorem dJ12_mismatch_57 : decode cJ12_mismatch 57 = .ok (.aload_n 1, 1) := dk_43 (dk_at dksJ12_mismatch_2 9 rfl rfl)
theorem dJ12_mismatch_58 : decode cJ12_mismatch 58 = .ok (.iload_n 3, 1) := dk_29 (dk_at dksJ12_mismatch_2 10 rfl rfl)
theorem dJ12_mismatch_59 : decode cJ12_mismatch 59 = .ok (.baload, 1) := dk_51 (dk_at dksJ12_mismatch_2 11 rfl rfl)
theorem dJ12_mismatch_60 : decode cJ12_mismatch 60 = .ok (.if_icmp .eq 5, 3) := dk_159 0 5 (dk_at dksJ12_mismatch_2 12 rfl rfl)
theorem dJ12_mismatch_63 : decode cJ12_mismatch 63 = .ok (.iload_n 3, 1) := dk_29 (dk_at dksJ12_mismatch_2 15 rfl rfl)
theorem dJ12_mismatch_64 : decode cJ12_mismatch 64 = .ok (.ireturn, 1) := dk_172 (dk_at dksJ12_mismatch_2 16 rfl rfl)
theorem dJ12_mismatch_65 : decode cJ12_mismatch 65 = .ok (.iinc 3 1, 3) := dk_132 3 1 (dk_at dksJ12_mismatch_2 17 rfl rfl)
theorem dJ12_mismatch_68 : decode cJ12_mismatch 68 = .ok (.goto (-19), 3) := dk_167 255 237 (dk_at dksJ12_mismatch_2 20 rfl rfl)
theorem dJ12_mismatch_71 : decode cJ12_mismatch 71 = .ok (.iconst (-1), 1) := dk_2 (dk_at dksJ12_mismatch_2 23 rfl rfl)
theorem dJ12_mismatch_72 : decode cJ12_mismatch 72 = .ok (.ireturn, 1) := dk_172 (dk_at dksJ12_mismatch_3 0 rfl rfl)
abbrev cJ12_vectorizedMismatch : ByteArray := prog_79_method_3_code
def yJ12_vectorizedMismatch : MethodName := ⟨RJ12, "vectorizedMismatch", "(Ljava/lang/Object;JLjava/lang/Object;JII)I"⟩
def dkwJ12_vectorizedMismatch_11 : List UInt8 := [54, 10, 21, 10, 2, 130, 172, 21, 10, 2, 130, 172]
abbrev dktJ12_vectorizedMismatch_11 : List UInt8 := dkwJ12_vectorizedMismatch_11 ++ []
def dkwJ12_vectorizedMismatch_10 : List UInt8 := [178, 0, 46, 21, 7, 96, 122, 54, 17, 21, 9, 21, 8, 120, 21, 17, 96, 172, 21, 10, 21, 11, 100]
abbrev dktJ12_vectorizedMismatch_10 : List UInt8 := dkwJ12_vectorizedMismatch_10 ++ dktJ12_vectorizedMismatch_11
def dkwJ12_vectorizedMismatch_9 : List UInt8 := [153, 0, 18, 21, 16, 184, 0, 58, 178, 0, 46, 21, 7, 96, 122, 167, 0, 15, 21, 16, 184, 0, 11]
abbrev dktJ12_vectorizedMismatch_9 : List UInt8 := dkwJ12_vectorizedMismatch_9 ++ dktJ12_vectorizedMismatch_10
def dkwJ12_vectorizedMismatch_8 : List UInt8 := [182, 0, 54, 54, 15, 21, 14, 21, 15, 159, 0, 54, 21, 14, 21, 15, 130, 54, 16, 178, 0, 36]
abbrev dktJ12_vectorizedMismatch_8 : List UInt8 := dkwJ12_vectorizedMismatch_8 ++ dktJ12_vectorizedMismatch_9
def dkwJ12_vectorizedMismatch_7 : List UInt8 := [55, 12, 178, 0, 26, 42, 31, 22, 12, 97, 182, 0, 54, 54, 14, 178, 0, 26, 45, 22, 4, 22, 12, 97]
abbrev dktJ12_vectorizedMismatch_7 : List UInt8 := dkwJ12_vectorizedMismatch_7 ++ dktJ12_vectorizedMismatch_8
def dkwJ12_vectorizedMismatch_6 : List UInt8 := [4, 178, 0, 51, 21, 7, 100, 120, 54, 11, 21, 10, 21, 11, 161, 0, 104, 21, 9, 133, 178, 0, 20, 121]
abbrev dktJ12_vectorizedMismatch_6 : List UInt8 := dkwJ12_vectorizedMismatch_6 ++ dktJ12_vectorizedMismatch_7
def dkwJ12_vectorizedMismatch_5 : List UInt8 := [132, 9, 1, 167, 255, 148, 21, 6, 21, 9, 21, 8, 120, 100, 54, 10, 21, 7, 178, 0, 51, 162, 0, 126]
abbrev dktJ12_vectorizedMismatch_5 : List UInt8 := dkwJ12_vectorizedMismatch_5 ++ dktJ12_vectorizedMismatch_6
def dkwJ12_vectorizedMismatch_4 : List UInt8 := [22, 16, 184, 0, 49, 178, 0, 46, 21, 7, 96, 122, 54, 18, 21, 9, 21, 8, 120, 21, 18, 96, 172]
abbrev dktJ12_vectorizedMismatch_4 : List UInt8 := dkwJ12_vectorizedMismatch_4 ++ dktJ12_vectorizedMismatch_5
def dkwJ12_vectorizedMismatch_3 : List UInt8 := [55, 16, 178, 0, 36, 153, 0, 18, 22, 16, 184, 0, 40, 178, 0, 46, 21, 7, 96, 122, 167, 0, 15]
abbrev dktJ12_vectorizedMismatch_3 : List UInt8 := dkwJ12_vectorizedMismatch_3 ++ dktJ12_vectorizedMismatch_4
def dkwJ12_vectorizedMismatch_2 : List UInt8 := [22, 4, 22, 10, 97, 182, 0, 30, 55, 14, 22, 12, 22, 14, 148, 153, 0, 54, 22, 12, 22, 14, 131]
abbrev dktJ12_vectorizedMismatch_2 : List UInt8 := dkwJ12_vectorizedMismatch_2 ++ dktJ12_vectorizedMismatch_3
def dkwJ12_vectorizedMismatch_1 : List UInt8 := [178, 0, 20, 121, 55, 10, 178, 0, 26, 42, 31, 22, 10, 97, 182, 0, 30, 55, 12, 178, 0, 26, 45]
abbrev dktJ12_vectorizedMismatch_1 : List UInt8 := dkwJ12_vectorizedMismatch_1 ++ dktJ12_vectorizedMismatch_2
def dkwJ12_vectorizedMismatch_0 : List UInt8 := [178, 0, 20, 21, 7, 100, 54, 8, 3, 54, 9, 21, 9, 21, 6, 21, 8, 122, 162, 0, 104, 21, 9, 133]
abbrev dktJ12_vectorizedMismatch_0 : List UInt8 := dkwJ12_vectorizedMismatch_0 ++ dktJ12_vectorizedMismatch_1
theorem dksJ12_vectorizedMismatch_0 : cJ12_vectorizedMismatch.data.toList.drop 0 = dktJ12_vectorizedMismatch_0 := by decide +kernel
theorem dksJ12_vectorizedMismatch_1 : cJ12_vectorizedMismatch.data.toList.drop 24 = dktJ12_vectorizedMismatch_1 := dk_seg dksJ12_vectorizedMismatch_0 24 rfl rfl
theorem dksJ12_vectorizedMismatch_2 : cJ12_vectorizedMismatch.data.toList.drop 47 = dktJ12_vectorizedMismatch_2 := dk_seg dksJ12_vectorizedMismatch_1 23 rfl rfl
theorem dksJ12_vectorizedMismatch_3 : cJ12_vectorizedMismatch.data.toList.drop 70 = dktJ12_vectorizedMismatch_3 := dk_seg dksJ12_vectorizedMismatch_2 23 rfl rfl
theorem dksJ12_vectorizedMismatch_4 : cJ12_vectorizedMismatch.data.toList.drop 93 = dktJ12_vectorizedMismatch_4 := dk_seg dksJ12_vectorizedMismatch_3 23 rfl rfl
theorem dksJ12_vectorizedMismatch_5 : cJ12_vectorizedMismatch.data.toList.drop 116 = dktJ12_vectorizedMismatch_5 := dk_seg dksJ12_vectorizedMismatch_4 23 rfl rfl
theorem dksJ12_vectorizedMismatch_6 : cJ12_vectorizedMismatch.data.toList.drop 140 = dktJ12_vectorizedMismatch_6 := dk_seg dksJ12_vectorizedMismatch_5 24 rfl rfl
theorem dksJ12_vectorizedMismatch_7 : cJ12_vectorizedMismatch.data.toList.drop 164 = dktJ12_vectorizedMismatch_7 := dk_seg dksJ12_vectorizedMismatch_6 24 rfl rfl
theorem dksJ12_vectorizedMismatch_8 : cJ12_vectorizedMismatch.data.toList.drop 188 = dktJ12_vectorizedMismatch_8 := dk_seg dksJ12_vectorizedMismatch_7 24 rfl rfl
theorem dksJ12_vectorizedMismatch_9 : cJ12_vectorizedMismatch.data.toList.drop 210 = dktJ12_vectorizedMismatch_9 := dk_seg dksJ12_vectorizedMismatch_8 22 rfl rfl
theorem dksJ12_vectorizedMismatch_10 : cJ12_vectorizedMismatch.data.toList.drop 233 = dktJ12_vectorizedMismatch_10 := dk_seg dksJ12_vectorizedMismatch_9 23 rfl rfl
theorem dksJ12_vectorizedMismatch_11 : cJ12_vectorizedMismatch.data.toList.drop 256 = dktJ12_vectorizedMismatch_11 := dk_seg dksJ12_vectorizedMismatch_10 23 rfl rfl
theorem dJ12_vectorizedMismatch_0 : decode cJ12_vectorizedMismatch 0 = .ok (.getstatic 20, 3) := dk_178 0 20 (dk_at dksJ12_vectorizedMismatch_0 0 rfl rfl)
theorem dJ12_vectorizedMismatch_3 : decode cJ12_vectorizedMismatch 3 = .ok (.iload 7, 2) := dk_21 7 (dk_at dksJ12_vectorizedMismatch_0 3 rfl rfl)
theorem dJ12_vectorizedMismatch_5 : decode cJ12_vectorizedMismatch 5 = .ok (.isub, 1) := dk_100 (dk_at dksJ12_vectorizedMismatch_0 5 rfl rfl)
theorem dJ12_vectorizedMismatch_6 : decode cJ12_vectorizedMismatch 6 = .ok (.istore 8, 2) := dk_54 8 (dk_at dksJ12_vectorizedMismatch_0 6 rfl rfl)
theorem dJ12_vectorizedMismatch_8 : decode cJ12_vectorizedMismatch 8 = .ok (.iconst 0, 1) := dk_3 (dk_at dksJ12_vectorizedMismatch_0 8 rfl rfl)
theorem dJ12_vectorizedMismatch_9 : decode cJ12_vectorizedMismatch 9 = .ok (.istore 9, 2) := dk_54 9 (dk_at dksJ12_vectorizedMismatch_0 9 rfl rfl)
theorem dJ12_vectorizedMismatch_11 : decode cJ12_vectorizedMismatch 11 = .ok (.iload 9, 2) := dk_21 9 (dk_at dksJ12_vectorizedMismatch_0 11 rfl rfl)
theorem dJ12_vectorizedMismatch_13 : decode cJ12_vectorizedMismatch 13 = .ok (.iload 6, 2) := dk_21 6 (dk_at dksJ12_vectorizedMismatch_0 13 rfl rfl)
theorem dJ12_vectorizedMismatch_15 : decode cJ12_vectorizedMismatch 15 = .ok (.iload 8, 2) := dk_21 8 (dk_at dksJ12_vectorizedMismatch_0 15 rfl rfl)
theorem dJ12_vectorizedMismatch_17 : decode cJ12_vectorizedMismatch 17 = .ok (.ishr, 1) := dk_122 (dk_at dksJ12_vectorizedMismatch_0 17 rfl rfl)
theorem dJ12_vectorizedMismatch_18 : decode cJ12_vectorizedMismatch 18 = .ok (.if_icmp .ge 104, 3) := dk_162 0 104 (dk_at dksJ12_vectorizedMismatch_0 18 rfl rfl)
theorem dJ12_vectorizedMismatch_21 : decode cJ12_vectorizedMismatch 21 = .ok (.iload 9, 2) := dk_21 9 (dk_at dksJ12_vectorizedMismatch_0 21 rfl rfl)
theorem dJ12_vectorizedMismatch_23 : decode cJ12_vectorizedMismatch 23 = .ok (.i2l, 1) := dk_133 (dk_at dksJ12_vectorizedMismatch_0 23 rfl rfl)
theorem dJ12_vectorizedMismatch_24 : decode cJ12_vectorizedMismatch 24 = .ok (.getstatic 20, 3) := dk_178 0 20 (dk_at dksJ12_vectorizedMismatch_1 0 rfl rfl)
theorem dJ12_vectorizedMismatch_27 : decode cJ12_vectorizedMismatch 27 = .ok (.lshl, 1) := dk_121 (dk_at dksJ12_vectorizedMismatch_1 3 rfl rfl)
theorem dJ12_vectorizedMismatch_28 : decode cJ12_vectorizedMismatch 28 = .ok (.lstore 10, 2) := dk_55 10 (dk_at dksJ12_vectorizedMismatch_1 4 rfl rfl)
theorem dJ12_vectorizedMismatch_30 : decode cJ12_vectorizedMismatch 30 = .ok (.getstatic 26, 3) := dk_178 0 26 (dk_at dksJ12_vectorizedMismatch_1 6 rfl rfl)
theorem dJ12_vectorizedMismatch_33 : decode cJ12_vectorizedMismatch 33 = .ok (.aload_n 0, 1) := dk_42 (dk_at dksJ12_vectorizedMismatch_1 9 rfl rfl)
theorem dJ12_vectorizedMismatch_34 : decode cJ12_vectorizedMismatch 34 = .ok (.lload_n 1, 1) := dk_31 (dk_at dksJ12_vectorizedMismatch_1 10 rfl rfl)
theorem dJ12_vectorizedMismatch_35 : decode cJ12_vectorizedMismatch 35 = .ok (.lload 10, 2) := dk_22 10 (dk_at dksJ12_vectorizedMismatch_1 11 rfl rfl)
theorem dJ12_vectorizedMismatch_37 : decode cJ12_vectorizedMismatch 37 = .ok (.ladd, 1) := dk_97 (dk_at dksJ12_vectorizedMismatch_1 13 rfl rfl)
theorem dJ12_vectorizedMismatch_38 : decode cJ12_vectorizedMismatch 38 = .ok (.invokevirtual 30, 3) := dk_182 0 30 (dk_at dksJ12_vectorizedMismatch_1 14 rfl rfl)
theorem dJ12_vectorizedMismatch_41 : decode cJ12_vectorizedMismatch 41 = .ok (.lstore 12, 2) := dk_55 12 (dk_at dksJ12_vectorizedMismatch_1 17 rfl rfl)
theorem dJ12_vectorizedMismatch_43 : decode cJ12_vectorizedMismatch 43 = .ok (.getstatic 26, 3) := dk_178 0 26 (dk_at dksJ12_vectorizedMismatch_1 19 rfl rfl)
theorem dJ12_vectorizedMismatch_46 : decode cJ12_vectorizedMismatch 46 = .ok (.aload_n 3, 1) := dk_45 (dk_at dksJ12_vectorizedMismatch_1 22 rfl rfl)
theorem dJ12_vectorizedMismatch_47 : decode cJ12_vectorizedMismatch 47 = .ok (.lload 4, 2) := dk_22 4 (dk_at dksJ12_vectorizedMismatch_2 0 rfl rfl)
theorem dJ12_vectorizedMismatch_49 : decode cJ12_vectorizedMismatch 49 = .ok (.lload 10, 2) := dk_22 10 (dk_at dksJ12_vectorizedMismatch_2 2 rfl rfl)
theorem dJ12_vectorizedMismatch_51 : decode cJ12_vectorizedMismatch 51 = .ok (.ladd, 1) := dk_97 (dk_at dksJ12_vectorizedMismatch_2 4 rfl rfl)
theorem dJ12_vectorizedMismatch_52 : decode cJ12_vectorizedMismatch 52 = .ok (.invokevirtual 30, 3) := dk_182 0 30 (dk_at dksJ12_vectorizedMismatch_2 5 rfl rfl)
theorem dJ12_vectorizedMismatch_55 : decode cJ12_vectorizedMismatch 55 = .ok (.lstore 14, 2) := dk_55 14 (dk_at dksJ12_vectorizedMismatch_2 8 rfl rfl)
theorem dJ12_vectorizedMismatch_57 : decode cJ12_vectorizedMismatch 57 = .ok (.lload 12, 2) := dk_22 12 (dk_at dksJ12_vectorizedMismatch_2 10 rfl rfl)
theorem dJ12_vectorizedMismatch_59 : decode cJ12_vectorizedMismatch 59 = .ok (.lload 14, 2) := dk_22 14 (dk_at dksJ12_vectorizedMismatch_2 12 rfl rfl)
theorem dJ12_vectorizedMismatch_61 : decode cJ12_vectorizedMismatch 61 = .ok (.lcmp, 1) := dk_148 (dk_at dksJ12_vectorizedMismatch_2 14 rfl rfl)
theorem dJ12_vectorizedMismatch_62 : decode cJ12_vectorizedMismatch 62 = .ok (.ifCond .eq 54, 3) := dk_153 0 54 (dk_at dksJ12_vectorizedMismatch_2 15 rfl rfl)
theorem dJ12_vectorizedMismatch_65 : decode cJ12_vectorizedMismatch 65 = .ok (.lload 12, 2) := dk_22 12 (dk_at dksJ12_vectorizedMismatch_2 18 rfl rfl)
theorem dJ12_vectorizedMismatch_67 : decode cJ12_vectorizedMismatch 67 = .ok (.lload 14, 2) := dk_22 14 (dk_at dksJ12_vectorizedMismatch_2 20 rfl rfl)
theorem dJ12_vectorizedMismatch_69 : decode cJ12_vectorizedMismatch 69 = .ok (.lxor, 1) := dk_131 (dk_at dksJ12_vectorizedMismatch_2 22 rfl rfl)
theorem dJ12_vectorizedMismatch_70 : decode cJ12_vectorizedMismatch 70 = .ok (.lstore 16, 2) := dk_55 16 (dk_at dksJ12_vectorizedMismatch_3 0 rfl rfl)
theorem dJ12_vectorizedMismatch_72 : decode cJ12_vectorizedMismatch 72 = .ok (.getstatic 36, 3) := dk_178 0 36 (dk_at dksJ12_vectorizedMismatch_3 2 rfl rfl)
theorem dJ12_vectorizedMismatch_75 : decode cJ12_vectorizedMismatch 75 = .ok (.ifCond .eq 18, 3) := dk_153 0 18 (dk_at dksJ12_vectorizedMismatch_3 5 rfl rfl)
theorem dJ12_vectorizedMismatch_78 : decode cJ12_vectorizedMismatch 78 = .ok (.lload 16, 2) := dk_22 16 (dk_at dksJ12_vectorizedMismatch_3 8 rfl rfl)
theorem dJ12_vectorizedMismatch_80 : decode cJ12_vectorizedMismatch 80 = .ok (.invokestatic 40, 3) := dk_184 0 40 (dk_at dksJ12_vectorizedMismatch_3 10 rfl rfl)
theorem dJ12_vectorizedMismatch_83 : decode cJ12_vectorizedMismatch 83 = .ok (.getstatic 46, 3) := dk_178 0 46 (dk_at dksJ12_vectorizedMismatch_3 13 rfl rfl)
theorem dJ12_vectorizedMismatch_86 : decode cJ12_vectorizedMismatch 86 = .ok (.iload 7, 2) := dk_21 7 (dk_at dksJ12_vectorizedMismatch_3 16 rfl rfl)
theorem dJ12_vectorizedMismatch_88 : decode cJ12_vectorizedMismatch 88 = .ok (.iadd, 1) := dk_96 (dk_at dksJ12_vectorizedMismatch_3 18 rfl rfl)
theorem dJ12_vectorizedMismatch_89 : decode cJ12_vectorizedMismatch 89 = .ok (.ishr, 1) := dk_122 (dk_at dksJ12_vectorizedMismatch_3 19 rfl rfl)
theorem dJ12_vectorizedMismatch_90 : decode cJ12_vectorizedMismatch 90 = .ok (.goto 15, 3) := dk_167 0 15 (dk_at dksJ12_vectorizedMismatch_3 20 rfl rfl)
theorem dJ12_vectorizedMismatch_93 : decode cJ12_vectorizedMismatch 93 = .ok (.lload 16, 2) := dk_22 16 (dk_at dksJ12_vectorizedMismatch_4 0 rfl rfl)
theorem dJ12_vectorizedMismatch_95 : decode cJ12_vectorizedMismatch 95 = .ok (.invokestatic 49, 3) := dk_184 0 49 (dk_at dksJ12_vectorizedMismatch_4 2 rfl rfl)
theorem dJ12_vectorizedMismatch_98 : decode cJ12_vectorizedMismatch 98 = .ok (.getstatic 46, 3) := dk_178 0 46 (dk_at dksJ12_vectorizedMismatch_4 5 rfl rfl)
theorem dJ12_vectorizedMismatch_101 : decode cJ12_vectorizedMismatch 101 = .ok (.iload 7, 2) := dk_21 7 (dk_at dksJ12_vectorizedMismatch_4 8 rfl rfl)
theorem dJ12_vectorizedMismatch_103 : decode cJ12_vectorizedMismatch 103 = .ok (.iadd, 1) := dk_96 (dk_at dksJ12_vectorizedMismatch_4 10 rfl rfl)
theorem dJ12_vectorizedMismatch_104 : decode cJ12_vectorizedMismatch 104 = .ok (.ishr, 1) := dk_122 (dk_at dksJ12_vectorizedMismatch_4 11 rfl rfl)
theorem dJ12_vectorizedMismatch_105 : decode cJ12_vectorizedMismatch 105 = .ok (.istore 18, 2) := dk_54 18 (dk_at dksJ12_vectorizedMismatch_4 12 rfl rfl)
theorem dJ12_vectorizedMismatch_107 : decode cJ12_vectorizedMismatch 107 = .ok (.iload 9, 2) := dk_21 9 (dk_at dksJ12_vectorizedMismatch_4 14 rfl rfl)
theorem dJ12_vectorizedMismatch_109 : decode cJ12_vectorizedMismatch 109 = .ok (.iload 8, 2) := dk_21 8 (dk_at dksJ12_vectorizedMismatch_4 16 rfl rfl)
theorem dJ12_vectorizedMismatch_111 : decode cJ12_vectorizedMismatch 111 = .ok (.ishl, 1) := dk_120 (dk_at dksJ12_vectorizedMismatch_4 18 rfl rfl)
theorem dJ12_vectorizedMismatch_112 : decode cJ12_vectorizedMismatch 112 = .ok (.iload 18, 2) := dk_21 18 (dk_at dksJ12_vectorizedMismatch_4 19 rfl rfl)
theorem dJ12_vectorizedMismatch_114 : decode cJ12_vectorizedMismatch 114 = .ok (.iadd, 1) := dk_96 (dk_at dksJ12_vectorizedMismatch_4 21 rfl rfl)
theorem dJ12_vectorizedMismatch_115 : decode cJ12_vectorizedMismatch 115 = .ok (.ireturn, 1) := dk_172 (dk_at dksJ12_vectorizedMismatch_4 22 rfl rfl)
theorem dJ12_vectorizedMismatch_116 : decode cJ12_vectorizedMismatch 116 = .ok (.iinc 9 1, 3) := dk_132 9 1 (dk_at dksJ12_vectorizedMismatch_5 0 rfl rfl)
theorem dJ12_vectorizedMismatch_119 : decode cJ12_vectorizedMismatch 119 = .ok (.goto (-108), 3) := dk_167 255 148 (dk_at dksJ12_vectorizedMismatch_5 3 rfl rfl)
theorem dJ12_vectorizedMismatch_122 : decode cJ12_vectorizedMismatch 122 = .ok (.iload 6, 2) := dk_21 6 (dk_at dksJ12_vectorizedMismatch_5 6 rfl rfl)
theorem dJ12_vectorizedMismatch_124 : decode cJ12_vectorizedMismatch 124 = .ok (.iload 9, 2) := dk_21 9 (dk_at dksJ12_vectorizedMismatch_5 8 rfl rfl)
theorem dJ12_vectorizedMismatch_126 : decode cJ12_vectorizedMismatch 126 = .ok (.iload 8, 2) := dk_21 8 (dk_at dksJ12_vectorizedMismatch_5 10 rfl rfl)
theorem dJ12_vectorizedMismatch_128 : decode cJ12_vectorizedMismatch 128 = .ok (.ishl, 1) := dk_120 (dk_at dksJ12_vectorizedMismatch_5 12 rfl rfl)
theorem dJ12_vectorizedMismatch_129 : decode cJ12_vectorizedMismatch 129 = .ok (.isub, 1) := dk_100 (dk_at dksJ12_vectorizedMismatch_5 13 rfl rfl)
theorem dJ12_vectorizedMismatch_130 : decode cJ12_vectorizedMismatch 130 = .ok (.istore 10, 2) := dk_54 10 (dk_at dksJ12_vectorizedMismatch_5 14 rfl rfl)
theorem dJ12_vectorizedMismatch_132 : decode cJ12_vectorizedMismatch 132 = .ok (.iload 7, 2) := dk_21 7 (dk_at dksJ12_vectorizedMismatch_5 16 rfl rfl)
theorem dJ12_vectorizedMismatch_134 : decode cJ12_vectorizedMismatch 134 = .ok (.getstatic 51, 3) := dk_178 0 51 (dk_at dksJ12_vectorizedMismatch_5 18 rfl rfl)
theorem dJ12_vectorizedMismatch_137 : decode cJ12_vectorizedMismatch 137 = .ok (.if_icmp .ge 126, 3) := dk_162 0 126 (dk_at dksJ12_vectorizedMismatch_5 21 rfl rfl)
theorem dJ12_vectorizedMismatch_140 : decode cJ12_vectorizedMismatch 140 = .ok (.iconst 1, 1) := dk_4 (dk_at dksJ12_vectorizedMismatch_6 0 rfl rfl)
theorem dJ12_vectorizedMismatch_141 : decode cJ12_vectorizedMismatch 141 = .ok (.getstatic 51, 3) := dk_178 0 51 (dk_at dksJ12_vectorizedMismatch_6 1 rfl rfl)
theorem dJ12_vectorizedMismatch_144 : decode cJ12_vectorizedMismatch 144 = .ok (.iload 7, 2) := dk_21 7 (dk_at dksJ12_vectorizedMismatch_6 4 rfl rfl)
theorem dJ12_vectorizedMismatch_146 : decode cJ12_vectorizedMismatch 146 = .ok (.isub, 1) := dk_100 (dk_at dksJ12_vectorizedMismatch_6 6 rfl rfl)
theorem dJ12_vectorizedMismatch_147 : decode cJ12_vectorizedMismatch 147 = .ok (.ishl, 1) := dk_120 (dk_at dksJ12_vectorizedMismatch_6 7 rfl rfl)
theorem dJ12_vectorizedMismatch_148 : decode cJ12_vectorizedMismatch 148 = .ok (.istore 11, 2) := dk_54 11 (dk_at dksJ12_vectorizedMismatch_6 8 rfl rfl)
theorem dJ12_vectorizedMismatch_150 : decode cJ12_vectorizedMismatch 150 = .ok (.iload 10, 2) := dk_21 10 (dk_at dksJ12_vectorizedMismatch_6 10 rfl rfl)
theorem dJ12_vectorizedMismatch_152 : decode cJ12_vectorizedMismatch 152 = .ok (.iload 11, 2) := dk_21 11 (dk_at dksJ12_vectorizedMismatch_6 12 rfl rfl)
theorem dJ12_vectorizedMismatch_154 : decode cJ12_vectorizedMismatch 154 = .ok (.if_icmp .lt 104, 3) := dk_161 0 104 (dk_at dksJ12_vectorizedMismatch_6 14 rfl rfl)
theorem dJ12_vectorizedMismatch_157 : decode cJ12_vectorizedMismatch 157 = .ok (.iload 9, 2) := dk_21 9 (dk_at dksJ12_vectorizedMismatch_6 17 rfl rfl)
theorem dJ12_vectorizedMismatch_159 : decode cJ12_vectorizedMismatch 159 = .ok (.i2l, 1) := dk_133 (dk_at dksJ12_vectorizedMismatch_6 19 rfl rfl)
theorem dJ12_vectorizedMismatch_160 : decode cJ12_vectorizedMismatch 160 = .ok (.getstatic 20, 3) := dk_178 0 20 (dk_at dksJ12_vectorizedMismatch_6 20 rfl rfl)
theorem dJ12_vectorizedMismatch_163 : decode cJ12_vectorizedMismatch 163 = .ok (.lshl, 1) := dk_121 (dk_at dksJ12_vectorizedMismatch_6 23 rfl rfl)
theorem dJ12_vectorizedMismatch_164 : decode cJ12_vectorizedMismatch 164 = .ok (.lstore 12, 2) := dk_55 12 (dk_at dksJ12_vectorizedMismatch_7 0 rfl rfl)
theorem dJ12_vectorizedMismatch_166 : decode cJ12_vectorizedMismatch 166 = .ok (.getstatic 26, 3) := dk_178 0 26 (dk_at dksJ12_vectorizedMismatch_7 2 rfl rfl)
theorem dJ12_vectorizedMismatch_169 : decode cJ12_vectorizedMismatch 169 = .ok (.aload_n 0, 1) := dk_42 (dk_at dksJ12_vectorizedMismatch_7 5 rfl rfl)
theorem dJ12_vectorizedMismatch_170 : decode cJ12_vectorizedMismatch 170 = .ok (.lload_n 1, 1) := dk_31 (dk_at dksJ12_vectorizedMismatch_7 6 rfl rfl)
theorem dJ12_vectorizedMismatch_171 : decode cJ12_vectorizedMismatch 171 = .ok (.lload 12, 2) := dk_22 12 (dk_at dksJ12_vectorizedMismatch_7 7 rfl rfl)
theorem dJ12_vectorizedMismatch_173 : decode cJ12_vectorizedMismatch 173 = .ok (.ladd, 1) := dk_97 (dk_at dksJ12_vectorizedMismatch_7 9 rfl rfl)
theorem dJ12_vectorizedMismatch_174 : decode cJ12_vectorizedMismatch 174 = .ok (.invokevirtual 54, 3) := dk_182 0 54 (dk_at dksJ12_vectorizedMismatch_7 10 rfl rfl)
theorem dJ12_vectorizedMismatch_177 : decode cJ12_vectorizedMismatch 177 = .ok (.istore 14, 2) := dk_54 14 (dk_at dksJ12_vectorizedMismatch_7 13 rfl rfl)
theorem dJ12_vectorizedMismatch_179 : decode cJ12_vectorizedMismatch 179 = .ok (.getstatic 26, 3) := dk_178 0 26 (dk_at dksJ12_vectorizedMismatch_7 15 rfl rfl)
theorem dJ12_vectorizedMismatch_182 : decode cJ12_vectorizedMismatch 182 = .ok (.aload_n 3, 1) := dk_45 (dk_at dksJ12_vectorizedMismatch_7 18 rfl rfl)
theorem dJ12_vectorizedMismatch_183 : decode cJ12_vectorizedMismatch 183 = .ok (.lload 4, 2) := dk_22 4 (dk_at dksJ12_vectorizedMismatch_7 19 rfl rfl)
theorem dJ12_vectorizedMismatch_185 : decode cJ12_vectorizedMismatch 185 = .ok (.lload 12, 2) := dk_22 12 (dk_at dksJ12_vectorizedMismatch_7 21 rfl rfl)
theorem dJ12_vectorizedMismatch_187 : decode cJ12_vectorizedMismatch 187 = .ok (.ladd, 1) := dk_97 (dk_at dksJ12_vectorizedMismatch_7 23 rfl rfl)
theorem dJ12_vectorizedMismatch_188 : decode cJ12_vectorizedMismatch 188 = .ok (.invokevirtual 54, 3) := dk_182 0 54 (dk_at dksJ12_vectorizedMismatch_8 0 rfl rfl)
theorem dJ12_vectorizedMismatch_191 : decode cJ12_vectorizedMismatch 191 = .ok (.istore 15, 2) := dk_54 15 (dk_at dksJ12_vectorizedMismatch_8 3 rfl rfl)
theorem dJ12_vectorizedMismatch_193 : decode cJ12_vectorizedMismatch 193 = .ok (.iload 14, 2) := dk_21 14 (dk_at dksJ12_vectorizedMismatch_8 5 rfl rfl)
theorem dJ12_vectorizedMismatch_195 : decode cJ12_vectorizedMismatch 195 = .ok (.iload 15, 2) := dk_21 15 (dk_at dksJ12_vectorizedMismatch_8 7 rfl rfl)
theorem dJ12_vectorizedMismatch_197 : decode cJ12_vectorizedMismatch 197 = .ok (.if_icmp .eq 54, 3) := dk_159 0 54 (dk_at dksJ12_vectorizedMismatch_8 9 rfl rfl)
theorem dJ12_vectorizedMismatch_200 : decode cJ12_vectorizedMismatch 200 = .ok (.iload 14, 2) := dk_21 14 (dk_at dksJ12_vectorizedMismatch_8 12 rfl rfl)
theorem dJ12_vectorizedMismatch_202 : decode cJ12_vectorizedMismatch 202 = .ok (.iload 15, 2) := dk_21 15 (dk_at dksJ12_vectorizedMismatch_8 14 rfl rfl)
theorem dJ12_vectorizedMismatch_204 : decode cJ12_vectorizedMismatch 204 = .ok (.ixor, 1) := dk_130 (dk_at dksJ12_vectorizedMismatch_8 16 rfl rfl)
theorem dJ12_vectorizedMismatch_205 : decode cJ12_vectorizedMismatch 205 = .ok (.istore 16, 2) := dk_54 16 (dk_at dksJ12_vectorizedMismatch_8 17 rfl rfl)
theorem dJ12_vectorizedMismatch_207 : decode cJ12_vectorizedMismatch 207 = .ok (.getstatic 36, 3) := dk_178 0 36 (dk_at dksJ12_vectorizedMismatch_8 19 rfl rfl)
theorem dJ12_vectorizedMismatch_210 : decode cJ12_vectorizedMismatch 210 = .ok (.ifCond .eq 18, 3) := dk_153 0 18 (dk_at dksJ12_vectorizedMismatch_9 0 rfl rfl)
theorem dJ12_vectorizedMismatch_213 : decode cJ12_vectorizedMismatch 213 = .ok (.iload 16, 2) := dk_21 16 (dk_at dksJ12_vectorizedMismatch_9 3 rfl rfl)
theorem dJ12_vectorizedMismatch_215 : decode cJ12_vectorizedMismatch 215 = .ok (.invokestatic 58, 3) := dk_184 0 58 (dk_at dksJ12_vectorizedMismatch_9 5 rfl rfl)
theorem dJ12_vectorizedMismatch_218 : decode cJ12_vectorizedMismatch 218 = .ok (.getstatic 46, 3) := dk_178 0 46 (dk_at dksJ12_vectorizedMismatch_9 8 rfl rfl)
theorem dJ12_vectorizedMismatch_221 : decode cJ12_vectorizedMismatch 221 = .ok (.iload 7, 2) := dk_21 7 (dk_at dksJ12_vectorizedMismatch_9 11 rfl rfl)
theorem dJ12_vectorizedMismatch_223 : decode cJ12_vectorizedMismatch 223 = .ok (.iadd, 1) := dk_96 (dk_at dksJ12_vectorizedMismatch_9 13 rfl rfl)
theorem dJ12_vectorizedMismatch_224 : decode cJ12_vectorizedMismatch 224 = .ok (.ishr, 1) := dk_122 (dk_at dksJ12_vectorizedMismatch_9 14 rfl rfl)
theorem dJ12_vectorizedMismatch_225 : decode cJ12_vectorizedMismatch 225 = .ok (.goto 15, 3) := dk_167 0 15 (dk_at dksJ12_vectorizedMismatch_9 15 rfl rfl)
theorem dJ12_vectorizedMismatch_228 : decode cJ12_vectorizedMismatch 228 = .ok (.iload 16, 2) := dk_21 16 (dk_at dksJ12_vectorizedMismatch_9 18 rfl rfl)
theorem dJ12_vectorizedMismatch_230 : decode cJ12_vectorizedMismatch 230 = .ok (.invokestatic 11, 3) := dk_184 0 11 (dk_at dksJ12_vectorizedMismatch_9 20 rfl rfl)
theorem dJ12_vectorizedMismatch_233 : decode cJ12_vectorizedMismatch 233 = .ok (.getstatic 46, 3) := dk_178 0 46 (dk_at dksJ12_vectorizedMismatch_10 0 rfl rfl)
theorem dJ12_vectorizedMismatch_236 : decode cJ12_vectorizedMismatch 236 = .ok (.iload 7, 2) := dk_21 7 (dk_at dksJ12_vectorizedMismatch_10 3 rfl rfl)
theorem dJ12_vectorizedMismatch_238 : decode cJ12_vectorizedMismatch 238 = .ok (.iadd, 1) := dk_96 (dk_at dksJ12_vectorizedMismatch_10 5 rfl rfl)
theorem dJ12_vectorizedMismatch_239 : decode cJ12_vectorizedMismatch 239 = .ok (.ishr, 1) := dk_122 (dk_at dksJ12_vectorizedMismatch_10 6 rfl rfl)
theorem dJ12_vectorizedMismatch_240 : decode cJ12_vectorizedMismatch 240 = .ok (.istore 17, 2) := dk_54 17 (dk_at dksJ12_vectorizedMismatch_10 7 rfl rfl)
theorem dJ12_vectorizedMismatch_242 : decode cJ12_vectorizedMismatch 242 = .ok (.iload 9, 2) := dk_21 9 (dk_at dksJ12_vectorizedMismatch_10 9 rfl rfl)
theorem dJ12_vectorizedMismatch_244 : decode cJ12_vectorizedMismatch 244 = .ok (.iload 8, 2) := dk_21 8 (dk_at dksJ12_vectorizedMismatch_10 11 rfl rfl)
theorem dJ12_vectorizedMismatch_246 : decode cJ12_vectorizedMismatch 246 = .ok (.ishl, 1) := dk_120 (dk_at dksJ12_vectorizedMismatch_10 13 rfl rfl)
theorem dJ12_vectorizedMismatch_247 : decode cJ12_vectorizedMismatch 247 = .ok (.iload 17, 2) := dk_21 17 (dk_at dksJ12_vectorizedMismatch_10 14 rfl rfl)
theorem dJ12_vectorizedMismatch_249 : decode cJ12_vectorizedMismatch 249 = .ok (.iadd, 1) := dk_96 (dk_at dksJ12_vectorizedMismatch_10 16 rfl rfl)
theorem dJ12_vectorizedMismatch_250 : decode cJ12_vectorizedMismatch 250 = .ok (.ireturn, 1) := dk_172 (dk_at dksJ12_vectorizedMismatch_10 17 rfl rfl)
theorem dJ12_vectorizedMismatch_251 : decode cJ12_vectorizedMismatch 251 = .ok (.iload 10, 2) := dk_21 10 (dk_at dksJ12_vectorizedMismatch_10 18 rfl rfl)
theorem dJ12_vectorizedMismatch_253 : decode cJ12_vectorizedMismatch 253 = .ok (.iload 11, 2) := dk_21 11 (dk_at dksJ12_vectorizedMismatch_10 20 rfl rfl)
theorem dJ12_vectorizedMismatch_255 : decode cJ12_vectorizedMismatch 255 = .ok (.isub, 1) := dk_100 (dk_at dksJ12_vectorizedMismatch_10 22 rfl rfl)
theorem dJ12_vectorizedMismatch_256 : decode cJ12_vectorizedMismatch 256 = .ok (.istore 10, 2) := dk_54 10 (dk_at dksJ12_vectorizedMismatch_11 0 rfl rfl)
theorem dJ12_vectorizedMismatch_258 : decode cJ12_vectorizedMismatch 258 = .ok (.iload 10, 2) := dk_21 10 (dk_at dksJ12_vectorizedMismatch_11 2 rfl rfl)
theorem dJ12_vectorizedMismatch_260 : decode cJ12_vectorizedMismatch 260 = .ok (.iconst (-1), 1) := dk_2 (dk_at dksJ12_vectorizedMismatch_11 4 rfl rfl)
theorem dJ12_vectorizedMismatch_261 : decode cJ12_vectorizedMismatch 261 = .ok (.ixor, 1) := dk_130 (dk_at dksJ12_vectorizedMismatch_11 5 rfl rfl)
theorem dJ12_vectorizedMismatch_262 : decode cJ12_vectorizedMismatch 262 = .ok (.ireturn, 1) := dk_172 (dk_at dksJ12_vectorizedMismatch_11 6 rfl rfl)
theorem dJ12_vectorizedMismatch_263 : decode cJ12_vectorizedMismatch 263 = .ok (.iload 10, 2) := dk_21 10 (dk_at dksJ12_vectorizedMismatch_11 7 rfl rfl)
theorem dJ12_vectorizedMismatch_265 : decode cJ12_vectorizedMismatch 265 = .ok (.iconst (-1), 1) := dk_2 (dk_at dksJ12_vectorizedMismatch_11 9 rfl rfl)
theorem dJ12_vectorizedMismatch_266 : decode cJ12_vectorizedMismatch 266 = .ok (.ixor, 1) := dk_130 (dk_at dksJ12_vectorizedMismatch_11 10 rfl rfl)
theorem dJ12_vectorizedMismatch_267 : decode cJ12_vectorizedMismatch 267 = .ok (.ireturn, 1) := dk_172 (dk_at dksJ12_vectorizedMismatch_11 11 rfl rfl)
abbrev cJ12_mismatch_2 : ByteArray := prog_79_method_14_code
def yJ12_mismatch_2 : MethodName := ⟨RJ12, "mismatch", "([BI[BII)I"⟩
def dkwJ12_mismatch_2_4 : List UInt8 := [132, 5, 1, 167, 255, 228, 2, 172]
abbrev dktJ12_mismatch_2_4 : List UInt8 := dkwJ12_mismatch_2_4 ++ []
def dkwJ12_mismatch_2_3 : List UInt8 := [21, 4, 162, 0, 27, 42, 27, 21, 5, 96, 51, 44, 29, 21, 5, 96, 51, 159, 0, 6, 21, 5, 172]
abbrev dktJ12_mismatch_2_3 : List UInt8 := dkwJ12_mismatch_2_3 ++ dktJ12_mismatch_2_4
def dkwJ12_mismatch_2_2 : List UInt8 := [184, 0, 122, 54, 5, 21, 5, 155, 0, 6, 21, 5, 172, 21, 4, 21, 5, 2, 130, 100, 54, 5, 21, 5]
abbrev dktJ12_mismatch_2_2 : List UInt8 := dkwJ12_mismatch_2_2 ++ dktJ12_mismatch_2_3
def dkwJ12_mismatch_2_1 : List UInt8 := [27, 96, 54, 6, 178, 0, 126, 29, 96, 54, 7, 42, 21, 6, 133, 44, 21, 7, 133, 21, 4, 178, 0, 129]
abbrev dktJ12_mismatch_2_1 : List UInt8 := dkwJ12_mismatch_2_1 ++ dktJ12_mismatch_2_2
def dkwJ12_mismatch_2_0 : List UInt8 := [3, 54, 5, 21, 4, 16, 7, 164, 0, 63, 42, 27, 51, 44, 29, 51, 159, 0, 5, 3, 172, 178, 0, 126]
abbrev dktJ12_mismatch_2_0 : List UInt8 := dkwJ12_mismatch_2_0 ++ dktJ12_mismatch_2_1
theorem dksJ12_mismatch_2_0 : cJ12_mismatch_2.data.toList.drop 0 = dktJ12_mismatch_2_0 := by decide +kernel
theorem dksJ12_mismatch_2_1 : cJ12_mismatch_2.data.toList.drop 24 = dktJ12_mismatch_2_1 := dk_seg dksJ12_mismatch_2_0 24 rfl rfl
theorem dksJ12_mismatch_2_2 : cJ12_mismatch_2.data.toList.drop 48 = dktJ12_mismatch_2_2 := dk_seg dksJ12_mismatch_2_1 24 rfl rfl
theorem dksJ12_mismatch_2_3 : cJ12_mismatch_2.data.toList.drop 72 = dktJ12_mismatch_2_3 := dk_seg dksJ12_mismatch_2_2 24 rfl rfl
theorem dksJ12_mismatch_2_4 : cJ12_mismatch_2.data.toList.drop 95 = dktJ12_mismatch_2_4 := dk_seg dksJ12_mismatch_2_3 23 rfl rfl
theorem dJ12_mismatch_2_0 : decode cJ12_mismatch_2 0 = .ok (.iconst 0, 1) := dk_3 (dk_at dksJ12_mismatch_2_0 0 rfl rfl)
theorem dJ12_mismatch_2_1 : decode cJ12_mismatch_2 1 = .ok (.istore 5, 2) := dk_54 5 (dk_at dksJ12_mismatch_2_0 1 rfl rfl)
theorem dJ12_mismatch_2_3 : decode cJ12_mismatch_2 3 = .ok (.iload 4, 2) := dk_21 4 (dk_at dksJ12_mismatch_2_0 3 rfl rfl)
theorem dJ12_mismatch_2_5 : decode cJ12_mismatch_2 5 = .ok (.bipush 7, 2) := dk_16 7 (dk_at dksJ12_mismatch_2_0 5 rfl rfl)
theorem dJ12_mismatch_2_7 : decode cJ12_mismatch_2 7 = .ok (.if_icmp .le 63, 3) := dk_164 0 63 (dk_at dksJ12_mismatch_2_0 7 rfl rfl)
theorem dJ12_mismatch_2_10 : decode cJ12_mismatch_2 10 = .ok (.aload_n 0, 1) := dk_42 (dk_at dksJ12_mismatch_2_0 10 rfl rfl)
theorem dJ12_mismatch_2_11 : decode cJ12_mismatch_2 11 = .ok (.iload_n 1, 1) := dk_27 (dk_at dksJ12_mismatch_2_0 11 rfl rfl)
theorem dJ12_mismatch_2_12 : decode cJ12_mismatch_2 12 = .ok (.baload, 1) := dk_51 (dk_at dksJ12_mismatch_2_0 12 rfl rfl)
theorem dJ12_mismatch_2_13 : decode cJ12_mismatch_2 13 = .ok (.aload_n 2, 1) := dk_44 (dk_at dksJ12_mismatch_2_0 13 rfl rfl)
theorem dJ12_mismatch_2_14 : decode cJ12_mismatch_2 14 = .ok (.iload_n 3, 1) := dk_29 (dk_at dksJ12_mismatch_2_0 14 rfl rfl)
theorem dJ12_mismatch_2_15 : decode cJ12_mismatch_2 15 = .ok (.baload, 1) := dk_51 (dk_at dksJ12_mismatch_2_0 15 rfl rfl)
theorem dJ12_mismatch_2_16 : decode cJ12_mismatch_2 16 = .ok (.if_icmp .eq 5, 3) := dk_159 0 5 (dk_at dksJ12_mismatch_2_0 16 rfl rfl)
theorem dJ12_mismatch_2_19 : decode cJ12_mismatch_2 19 = .ok (.iconst 0, 1) := dk_3 (dk_at dksJ12_mismatch_2_0 19 rfl rfl)
theorem dJ12_mismatch_2_20 : decode cJ12_mismatch_2 20 = .ok (.ireturn, 1) := dk_172 (dk_at dksJ12_mismatch_2_0 20 rfl rfl)
theorem dJ12_mismatch_2_21 : decode cJ12_mismatch_2 21 = .ok (.getstatic 126, 3) := dk_178 0 126 (dk_at dksJ12_mismatch_2_0 21 rfl rfl)
theorem dJ12_mismatch_2_24 : decode cJ12_mismatch_2 24 = .ok (.iload_n 1, 1) := dk_27 (dk_at dksJ12_mismatch_2_1 0 rfl rfl)
theorem dJ12_mismatch_2_25 : decode cJ12_mismatch_2 25 = .ok (.iadd, 1) := dk_96 (dk_at dksJ12_mismatch_2_1 1 rfl rfl)
theorem dJ12_mismatch_2_26 : decode cJ12_mismatch_2 26 = .ok (.istore 6, 2) := dk_54 6 (dk_at dksJ12_mismatch_2_1 2 rfl rfl)
theorem dJ12_mismatch_2_28 : decode cJ12_mismatch_2 28 = .ok (.getstatic 126, 3) := dk_178 0 126 (dk_at dksJ12_mismatch_2_1 4 rfl rfl)
theorem dJ12_mismatch_2_31 : decode cJ12_mismatch_2 31 = .ok (.iload_n 3, 1) := dk_29 (dk_at dksJ12_mismatch_2_1 7 rfl rfl)
theorem dJ12_mismatch_2_32 : decode cJ12_mismatch_2 32 = .ok (.iadd, 1) := dk_96 (dk_at dksJ12_mismatch_2_1 8 rfl rfl)
theorem dJ12_mismatch_2_33 : decode cJ12_mismatch_2 33 = .ok (.istore 7, 2) := dk_54 7 (dk_at dksJ12_mismatch_2_1 9 rfl rfl)
theorem dJ12_mismatch_2_35 : decode cJ12_mismatch_2 35 = .ok (.aload_n 0, 1) := dk_42 (dk_at dksJ12_mismatch_2_1 11 rfl rfl)
theorem dJ12_mismatch_2_36 : decode cJ12_mismatch_2 36 = .ok (.iload 6, 2) := dk_21 6 (dk_at dksJ12_mismatch_2_1 12 rfl rfl)
theorem dJ12_mismatch_2_38 : decode cJ12_mismatch_2 38 = .ok (.i2l, 1) := dk_133 (dk_at dksJ12_mismatch_2_1 14 rfl rfl)
theorem dJ12_mismatch_2_39 : decode cJ12_mismatch_2 39 = .ok (.aload_n 2, 1) := dk_44 (dk_at dksJ12_mismatch_2_1 15 rfl rfl)
theorem dJ12_mismatch_2_40 : decode cJ12_mismatch_2 40 = .ok (.iload 7, 2) := dk_21 7 (dk_at dksJ12_mismatch_2_1 16 rfl rfl)
theorem dJ12_mismatch_2_42 : decode cJ12_mismatch_2 42 = .ok (.i2l, 1) := dk_133 (dk_at dksJ12_mismatch_2_1 18 rfl rfl)
theorem dJ12_mismatch_2_43 : decode cJ12_mismatch_2 43 = .ok (.iload 4, 2) := dk_21 4 (dk_at dksJ12_mismatch_2_1 19 rfl rfl)
theorem dJ12_mismatch_2_45 : decode cJ12_mismatch_2 45 = .ok (.getstatic 129, 3) := dk_178 0 129 (dk_at dksJ12_mismatch_2_1 21 rfl rfl)
theorem dJ12_mismatch_2_48 : decode cJ12_mismatch_2 48 = .ok (.invokestatic 122, 3) := dk_184 0 122 (dk_at dksJ12_mismatch_2_2 0 rfl rfl)
theorem dJ12_mismatch_2_51 : decode cJ12_mismatch_2 51 = .ok (.istore 5, 2) := dk_54 5 (dk_at dksJ12_mismatch_2_2 3 rfl rfl)
theorem dJ12_mismatch_2_53 : decode cJ12_mismatch_2 53 = .ok (.iload 5, 2) := dk_21 5 (dk_at dksJ12_mismatch_2_2 5 rfl rfl)
theorem dJ12_mismatch_2_55 : decode cJ12_mismatch_2 55 = .ok (.ifCond .lt 6, 3) := dk_155 0 6 (dk_at dksJ12_mismatch_2_2 7 rfl rfl)
theorem dJ12_mismatch_2_58 : decode cJ12_mismatch_2 58 = .ok (.iload 5, 2) := dk_21 5 (dk_at dksJ12_mismatch_2_2 10 rfl rfl)
theorem dJ12_mismatch_2_60 : decode cJ12_mismatch_2 60 = .ok (.ireturn, 1) := dk_172 (dk_at dksJ12_mismatch_2_2 12 rfl rfl)
theorem dJ12_mismatch_2_61 : decode cJ12_mismatch_2 61 = .ok (.iload 4, 2) := dk_21 4 (dk_at dksJ12_mismatch_2_2 13 rfl rfl)
theorem dJ12_mismatch_2_63 : decode cJ12_mismatch_2 63 = .ok (.iload 5, 2) := dk_21 5 (dk_at dksJ12_mismatch_2_2 15 rfl rfl)
theorem dJ12_mismatch_2_65 : decode cJ12_mismatch_2 65 = .ok (.iconst (-1), 1) := dk_2 (dk_at dksJ12_mismatch_2_2 17 rfl rfl)
theorem dJ12_mismatch_2_66 : decode cJ12_mismatch_2 66 = .ok (.ixor, 1) := dk_130 (dk_at dksJ12_mismatch_2_2 18 rfl rfl)
theorem dJ12_mismatch_2_67 : decode cJ12_mismatch_2 67 = .ok (.isub, 1) := dk_100 (dk_at dksJ12_mismatch_2_2 19 rfl rfl)
theorem dJ12_mismatch_2_68 : decode cJ12_mismatch_2 68 = .ok (.istore 5, 2) := dk_54 5 (dk_at dksJ12_mismatch_2_2 20 rfl rfl)
theorem dJ12_mismatch_2_70 : decode cJ12_mismatch_2 70 = .ok (.iload 5, 2) := dk_21 5 (dk_at dksJ12_mismatch_2_2 22 rfl rfl)
theorem dJ12_mismatch_2_72 : decode cJ12_mismatch_2 72 = .ok (.iload 4, 2) := dk_21 4 (dk_at dksJ12_mismatch_2_3 0 rfl rfl)
theorem dJ12_mismatch_2_74 : decode cJ12_mismatch_2 74 = .ok (.if_icmp .ge 27, 3) := dk_162 0 27 (dk_at dksJ12_mismatch_2_3 2 rfl rfl)
theorem dJ12_mismatch_2_77 : decode cJ12_mismatch_2 77 = .ok (.aload_n 0, 1) := dk_42 (dk_at dksJ12_mismatch_2_3 5 rfl rfl)
theorem dJ12_mismatch_2_78 : decode cJ12_mismatch_2 78 = .ok (.iload_n 1, 1) := dk_27 (dk_at dksJ12_mismatch_2_3 6 rfl rfl)
theorem dJ12_mismatch_2_79 : decode cJ12_mismatch_2 79 = .ok (.iload 5, 2) := dk_21 5 (dk_at dksJ12_mismatch_2_3 7 rfl rfl)
theorem dJ12_mismatch_2_81 : decode cJ12_mismatch_2 81 = .ok (.iadd, 1) := dk_96 (dk_at dksJ12_mismatch_2_3 9 rfl rfl)
theorem dJ12_mismatch_2_82 : decode cJ12_mismatch_2 82 = .ok (.baload, 1) := dk_51 (dk_at dksJ12_mismatch_2_3 10 rfl rfl)
theorem dJ12_mismatch_2_83 : decode cJ12_mismatch_2 83 = .ok (.aload_n 2, 1) := dk_44 (dk_at dksJ12_mismatch_2_3 11 rfl rfl)
theorem dJ12_mismatch_2_84 : decode cJ12_mismatch_2 84 = .ok (.iload_n 3, 1) := dk_29 (dk_at dksJ12_mismatch_2_3 12 rfl rfl)
theorem dJ12_mismatch_2_85 : decode cJ12_mismatch_2 85 = .ok (.iload 5, 2) := dk_21 5 (dk_at dksJ12_mismatch_2_3 13 rfl rfl)
theorem dJ12_mismatch_2_87 : decode cJ12_mismatch_2 87 = .ok (.iadd, 1) := dk_96 (dk_at dksJ12_mismatch_2_3 15 rfl rfl)
theorem dJ12_mismatch_2_88 : decode cJ12_mismatch_2 88 = .ok (.baload, 1) := dk_51 (dk_at dksJ12_mismatch_2_3 16 rfl rfl)
theorem dJ12_mismatch_2_89 : decode cJ12_mismatch_2 89 = .ok (.if_icmp .eq 6, 3) := dk_159 0 6 (dk_at dksJ12_mismatch_2_3 17 rfl rfl)
theorem dJ12_mismatch_2_92 : decode cJ12_mismatch_2 92 = .ok (.iload 5, 2) := dk_21 5 (dk_at dksJ12_mismatch_2_3 20 rfl rfl)
theorem dJ12_mismatch_2_94 : decode cJ12_mismatch_2 94 = .ok (.ireturn, 1) := dk_172 (dk_at dksJ12_mismatch_2_3 22 rfl rfl)
theorem dJ12_mismatch_2_95 : decode cJ12_mismatch_2 95 = .ok (.iinc 5 1, 3) := dk_132 5 1 (dk_at dksJ12_mismatch_2_4 0 rfl rfl)
theorem dJ12_mismatch_2_98 : decode cJ12_mismatch_2 98 = .ok (.goto (-28), 3) := dk_167 255 228 (dk_at dksJ12_mismatch_2_4 3 rfl rfl)
theorem dJ12_mismatch_2_101 : decode cJ12_mismatch_2 101 = .ok (.iconst (-1), 1) := dk_2 (dk_at dksJ12_mismatch_2_4 6 rfl rfl)
theorem dJ12_mismatch_2_102 : decode cJ12_mismatch_2 102 = .ok (.ireturn, 1) := dk_172 (dk_at dksJ12_mismatch_2_4 7 rfl rfl)
theorem q134 : (Jvm.Cond.initialized "jdk/internal/util/ArraysSupport") ∈ lw_all := lw_g (lw_at lw_m1 15 rfl) rfl
theorem q315 : (Jvm.Cond.static ({ cls := "jdk/internal/util/ArraysSupport", name := "newLength", desc := "(III)I" } : Jvm.MethodName)) ∈ lw_all := lw_g (lw_at lw_m1 196 rfl) rfl
theorem q316 : (Jvm.Cond.code ({ cls := "jdk/internal/util/ArraysSupport", name := "newLength", desc := "(III)I" } : Jvm.MethodName) prog_79_method_27_code (4 : Nat) (Option.some Jvm.ClassFile.FieldType.int)) ∈ lw_all := lw_g (lw_at lw_m1 197 rfl) rfl
theorem q317 : (Jvm.Cond.methodLink "jdk/internal/util/ArraysSupport" (194 : Nat) ({ cls := "java/lang/Math", name := "max", desc := "(II)I" } : Jvm.MethodName)) ∈ lw_all := lw_g (lw_at lw_m1 198 rfl) rfl
theorem q320 : (Jvm.Cond.constant "jdk/internal/util/ArraysSupport" (200 : Nat) (2147483639 : Int32)) ∈ lw_all := lw_g (lw_at lw_m1 201 rfl) rfl
theorem q321 : (Jvm.Cond.methodLink "jdk/internal/util/ArraysSupport" (201 : Nat) ({ cls := "jdk/internal/util/ArraysSupport", name := "hugeLength", desc := "(II)I" } : Jvm.MethodName)) ∈ lw_all := lw_g (lw_at lw_m1 202 rfl) rfl
theorem q322 : (Jvm.Cond.static ({ cls := "jdk/internal/util/ArraysSupport", name := "hugeLength", desc := "(II)I" } : Jvm.MethodName)) ∈ lw_all := lw_g (lw_at lw_m1 203 rfl) rfl
theorem q323 : (Jvm.Cond.code ({ cls := "jdk/internal/util/ArraysSupport", name := "hugeLength", desc := "(II)I" } : Jvm.MethodName) prog_79_method_28_code (3 : Nat) (Option.some Jvm.ClassFile.FieldType.int)) ∈ lw_all := lw_g (lw_at lw_m1 204 rfl) rfl
theorem q792 : (Jvm.Cond.static ({ cls := "jdk/internal/util/ArraysSupport", name := "vectorizedHashCode", desc := "(Ljava/lang/Object;IIII)I" } : Jvm.MethodName)) ∈ lw_all := lw_g (lw_at lw_m3 193 rfl) rfl
theorem q793 : (Jvm.Cond.code ({ cls := "jdk/internal/util/ArraysSupport", name := "vectorizedHashCode", desc := "(Ljava/lang/Object;IIII)I" } : Jvm.MethodName) prog_79_method_4_code (5 : Nat) (Option.some Jvm.ClassFile.FieldType.int)) ∈ lw_all := lw_g (lw_at lw_m3 194 rfl) rfl
theorem q794 : (Jvm.Cond.classLink "jdk/internal/util/ArraysSupport" (60 : Nat) "[B") ∈ lw_all := lw_g (lw_at lw_m3 195 rfl) rfl
theorem q795 : (Jvm.Cond.methodLink "jdk/internal/util/ArraysSupport" (62 : Nat) ({ cls := "jdk/internal/util/ArraysSupport", name := "signedHashCode", desc := "(I[BII)I" } : Jvm.MethodName)) ∈ lw_all := lw_g (lw_at lw_m3 196 rfl) rfl
theorem q796 : (Jvm.Cond.static ({ cls := "jdk/internal/util/ArraysSupport", name := "signedHashCode", desc := "(I[BII)I" } : Jvm.MethodName)) ∈ lw_all := lw_g (lw_at lw_m3 197 rfl) rfl
theorem q797 : (Jvm.Cond.code ({ cls := "jdk/internal/util/ArraysSupport", name := "signedHashCode", desc := "(I[BII)I" } : Jvm.MethodName) prog_79_method_5_code (6 : Nat) (Option.some Jvm.ClassFile.FieldType.int)) ∈ lw_all := lw_g (lw_at lw_m3 198 rfl) rfl
theorem q798 : (Jvm.Cond.methodLink "jdk/internal/util/ArraysSupport" (66 : Nat) ({ cls := "jdk/internal/util/ArraysSupport", name := "utf16hashCode", desc := "(I[BII)I" } : Jvm.MethodName)) ∈ lw_all := lw_g (lw_at lw_m3 199 rfl) rfl
theorem q799 : (Jvm.Cond.static ({ cls := "jdk/internal/util/ArraysSupport", name := "utf16hashCode", desc := "(I[BII)I" } : Jvm.MethodName)) ∈ lw_all := lw_g (lw_at lw_m3 200 rfl) rfl
theorem q800 : (Jvm.Cond.code ({ cls := "jdk/internal/util/ArraysSupport", name := "utf16hashCode", desc := "(I[BII)I" } : Jvm.MethodName) prog_79_method_10_code (6 : Nat) (Option.some Jvm.ClassFile.FieldType.int)) ∈ lw_all := lw_g (lw_at lw_m3 201 rfl) rfl
theorem q801 : (Jvm.Cond.fieldLink "jdk/internal/util/ArraysSupport" (106 : Nat) "jdk/internal/util/ArraysSupport" "JLA" "Ljdk/internal/access/JavaLangAccess;") ∈ lw_all := lw_g (lw_at lw_m3 202 rfl) rfl
theorem q802 : (Jvm.Cond.laysStatic "jdk/internal/util/ArraysSupport" "JLA" "Ljdk/internal/access/JavaLangAccess;") ∈ lw_tbl := lw_at lw_m3 203 rfl
theorem q803 : (Jvm.Cond.interfaceEntry "jdk/internal/util/ArraysSupport" (110 : Nat)) ∈ lw_tbl := lw_at lw_m3 204 rfl
theorem q804 : (Jvm.Cond.methodLink "jdk/internal/util/ArraysSupport" (110 : Nat) ({ cls := "jdk/internal/access/JavaLangAccess", name := "getUTF16Char", desc := "([BI)C" } : Jvm.MethodName)) ∈ lw_all := lw_g (lw_at lw_m3 205 rfl) rfl
theorem q814 : (Jvm.Cond.classLink "jdk/internal/util/ArraysSupport" (69 : Nat) "[C") ∈ lw_all := lw_g (lw_at lw_m3 215 rfl) rfl
theorem q815 : (Jvm.Cond.methodLink "jdk/internal/util/ArraysSupport" (71 : Nat) ({ cls := "jdk/internal/util/ArraysSupport", name := "hashCode", desc := "(I[CII)I" } : Jvm.MethodName)) ∈ lw_all := lw_g (lw_at lw_m3 216 rfl) rfl
theorem q816 : (Jvm.Cond.static ({ cls := "jdk/internal/util/ArraysSupport", name := "hashCode", desc := "(I[CII)I" } : Jvm.MethodName)) ∈ lw_all := lw_g (lw_at lw_m3 217 rfl) rfl
theorem q817 : (Jvm.Cond.code ({ cls := "jdk/internal/util/ArraysSupport", name := "hashCode", desc := "(I[CII)I" } : Jvm.MethodName) prog_79_method_7_code (6 : Nat) (Option.some Jvm.ClassFile.FieldType.int)) ∈ lw_all := lw_g (lw_at lw_m3 218 rfl) rfl
theorem q818 : (Jvm.Cond.methodLink "jdk/internal/util/ArraysSupport" (75 : Nat) ({ cls := "jdk/internal/util/ArraysSupport", name := "hashCode", desc := "(I[BII)I" } : Jvm.MethodName)) ∈ lw_all := lw_g (lw_at lw_m3 219 rfl) rfl
theorem q819 : (Jvm.Cond.static ({ cls := "jdk/internal/util/ArraysSupport", name := "hashCode", desc := "(I[BII)I" } : Jvm.MethodName)) ∈ lw_all := lw_g (lw_at lw_m3 220 rfl) rfl
theorem q820 : (Jvm.Cond.code ({ cls := "jdk/internal/util/ArraysSupport", name := "hashCode", desc := "(I[BII)I" } : Jvm.MethodName) prog_79_method_6_code (6 : Nat) (Option.some Jvm.ClassFile.FieldType.int)) ∈ lw_all := lw_g (lw_at lw_m3 221 rfl) rfl
theorem q821 : (Jvm.Cond.classLink "jdk/internal/util/ArraysSupport" (77 : Nat) "[S") ∈ lw_all := lw_g (lw_at lw_m3 222 rfl) rfl
theorem q822 : (Jvm.Cond.methodLink "jdk/internal/util/ArraysSupport" (79 : Nat) ({ cls := "jdk/internal/util/ArraysSupport", name := "hashCode", desc := "(I[SII)I" } : Jvm.MethodName)) ∈ lw_all := lw_g (lw_at lw_m3 223 rfl) rfl
theorem q823 : (Jvm.Cond.static ({ cls := "jdk/internal/util/ArraysSupport", name := "hashCode", desc := "(I[SII)I" } : Jvm.MethodName)) ∈ lw_all := lw_g (lw_at lw_m3 224 rfl) rfl
theorem q824 : (Jvm.Cond.code ({ cls := "jdk/internal/util/ArraysSupport", name := "hashCode", desc := "(I[SII)I" } : Jvm.MethodName) prog_79_method_8_code (6 : Nat) (Option.some Jvm.ClassFile.FieldType.int)) ∈ lw_all := lw_g (lw_at lw_m3 225 rfl) rfl
theorem q825 : (Jvm.Cond.classLink "jdk/internal/util/ArraysSupport" (82 : Nat) "[I") ∈ lw_all := lw_g (lw_at lw_m3 226 rfl) rfl
theorem q826 : (Jvm.Cond.methodLink "jdk/internal/util/ArraysSupport" (84 : Nat) ({ cls := "jdk/internal/util/ArraysSupport", name := "hashCode", desc := "(I[III)I" } : Jvm.MethodName)) ∈ lw_all := lw_g (lw_at lw_m3 227 rfl) rfl
theorem q827 : (Jvm.Cond.static ({ cls := "jdk/internal/util/ArraysSupport", name := "hashCode", desc := "(I[III)I" } : Jvm.MethodName)) ∈ lw_all := lw_g (lw_at lw_m3 228 rfl) rfl
theorem q828 : (Jvm.Cond.code ({ cls := "jdk/internal/util/ArraysSupport", name := "hashCode", desc := "(I[III)I" } : Jvm.MethodName) prog_79_method_9_code (6 : Nat) (Option.some Jvm.ClassFile.FieldType.int)) ∈ lw_all := lw_g (lw_at lw_m3 229 rfl) rfl
theorem q829 : (Jvm.Cond.classLink "jdk/internal/util/ArraysSupport" (87 : Nat) "java/lang/IllegalArgumentException") ∈ lw_all := lw_g (lw_at lw_m3 230 rfl) rfl
theorem q830 : (Jvm.Cond.classLink "jdk/internal/util/ArraysSupport" (89 : Nat) "java/lang/StringBuilder") ∈ lw_all := lw_g (lw_at lw_m3 231 rfl) rfl
theorem q831 : (Jvm.Cond.methodLink "jdk/internal/util/ArraysSupport" (91 : Nat) ({ cls := "java/lang/StringBuilder", name := "<init>", desc := "()V" } : Jvm.MethodName)) ∈ lw_all := lw_g (lw_at lw_m3 232 rfl) rfl
theorem q832 : (Jvm.Cond.stringRef "jdk/internal/util/ArraysSupport" (92 : Nat) "unrecognized basic type: ") ∈ lw_tbl := lw_at lw_m3 233 rfl
theorem q833 : (Jvm.Cond.methodLink "jdk/internal/util/ArraysSupport" (94 : Nat) ({ cls := "java/lang/StringBuilder", name := "append", desc := "(Ljava/lang/String;)Ljava/lang/StringBuilder;" } : Jvm.MethodName)) ∈ lw_all := lw_g (lw_at lw_m3 234 rfl) rfl
theorem q834 : (Jvm.Cond.methodLink "jdk/internal/util/ArraysSupport" (98 : Nat) ({ cls := "java/lang/StringBuilder", name := "append", desc := "(I)Ljava/lang/StringBuilder;" } : Jvm.MethodName)) ∈ lw_all := lw_g (lw_at lw_m3 235 rfl) rfl
theorem q835 : (Jvm.Cond.methodLink "jdk/internal/util/ArraysSupport" (101 : Nat) ({ cls := "java/lang/StringBuilder", name := "toString", desc := "()Ljava/lang/String;" } : Jvm.MethodName)) ∈ lw_all := lw_g (lw_at lw_m3 236 rfl) rfl
theorem q836 : (Jvm.Cond.methodLink "jdk/internal/util/ArraysSupport" (105 : Nat) ({ cls := "java/lang/IllegalArgumentException", name := "<init>", desc := "(Ljava/lang/String;)V" } : Jvm.MethodName)) ∈ lw_all := lw_g (lw_at lw_m3 237 rfl) rfl
theorem q976 : (Jvm.Cond.static ({ cls := "jdk/internal/util/ArraysSupport", name := "mismatch", desc := "([B[BI)I" } : Jvm.MethodName)) ∈ lw_all := lw_g (lw_at lw_m4 137 rfl) rfl
theorem q977 : (Jvm.Cond.code ({ cls := "jdk/internal/util/ArraysSupport", name := "mismatch", desc := "([B[BI)I" } : Jvm.MethodName) prog_79_method_13_code (4 : Nat) (Option.some Jvm.ClassFile.FieldType.int)) ∈ lw_all := lw_g (lw_at lw_m4 138 rfl) rfl
theorem q978 : (Jvm.Cond.fieldLink "jdk/internal/util/ArraysSupport" (126 : Nat) "jdk/internal/misc/Unsafe" "ARRAY_BYTE_BASE_OFFSET" "I") ∈ lw_all := lw_g (lw_at lw_m4 139 rfl) rfl
theorem q980 : (Jvm.Cond.fieldLink "jdk/internal/util/ArraysSupport" (129 : Nat) "jdk/internal/util/ArraysSupport" "LOG2_ARRAY_BYTE_INDEX_SCALE" "I") ∈ lw_all := lw_g (lw_at lw_m4 141 rfl) rfl
theorem q981 : (Jvm.Cond.laysStatic "jdk/internal/util/ArraysSupport" "LOG2_ARRAY_BYTE_INDEX_SCALE" "I") ∈ lw_tbl := lw_at lw_m4 142 rfl
theorem q982 : (Jvm.Cond.methodLink "jdk/internal/util/ArraysSupport" (122 : Nat) ({ cls := "jdk/internal/util/ArraysSupport", name := "vectorizedMismatch", desc := "(Ljava/lang/Object;JLjava/lang/Object;JII)I" } : Jvm.MethodName)) ∈ lw_all := lw_g (lw_at lw_m4 143 rfl) rfl
theorem q983 : (Jvm.Cond.static ({ cls := "jdk/internal/util/ArraysSupport", name := "vectorizedMismatch", desc := "(Ljava/lang/Object;JLjava/lang/Object;JII)I" } : Jvm.MethodName)) ∈ lw_all := lw_g (lw_at lw_m4 144 rfl) rfl
theorem q984 : (Jvm.Cond.code ({ cls := "jdk/internal/util/ArraysSupport", name := "vectorizedMismatch", desc := "(Ljava/lang/Object;JLjava/lang/Object;JII)I" } : Jvm.MethodName) prog_79_method_3_code (19 : Nat) (Option.some Jvm.ClassFile.FieldType.int)) ∈ lw_all := lw_g (lw_at lw_m4 145 rfl) rfl
theorem q985 : (Jvm.Cond.fieldLink "jdk/internal/util/ArraysSupport" (20 : Nat) "jdk/internal/util/ArraysSupport" "LOG2_ARRAY_LONG_INDEX_SCALE" "I") ∈ lw_all := lw_g (lw_at lw_m4 146 rfl) rfl
theorem q986 : (Jvm.Cond.laysStatic "jdk/internal/util/ArraysSupport" "LOG2_ARRAY_LONG_INDEX_SCALE" "I") ∈ lw_tbl := lw_at lw_m4 147 rfl
theorem q987 : (Jvm.Cond.fieldLink "jdk/internal/util/ArraysSupport" (26 : Nat) "jdk/internal/util/ArraysSupport" "U" "Ljdk/internal/misc/Unsafe;") ∈ lw_all := lw_g (lw_at lw_m4 148 rfl) rfl
theorem q988 : (Jvm.Cond.laysStatic "jdk/internal/util/ArraysSupport" "U" "Ljdk/internal/misc/Unsafe;") ∈ lw_tbl := lw_at lw_m4 149 rfl
theorem q989 : (Jvm.Cond.methodLink "jdk/internal/util/ArraysSupport" (30 : Nat) ({ cls := "jdk/internal/misc/Unsafe", name := "getLongUnaligned", desc := "(Ljava/lang/Object;J)J" } : Jvm.MethodName)) ∈ lw_all := lw_g (lw_at lw_m4 150 rfl) rfl
theorem q1041 : (Jvm.Cond.fieldLink "jdk/internal/util/ArraysSupport" (36 : Nat) "jdk/internal/util/ArraysSupport" "BIG_ENDIAN" "Z") ∈ lw_all := lw_g (lw_at lw_m4 202 rfl) rfl
theorem q1042 : (Jvm.Cond.laysStatic "jdk/internal/util/ArraysSupport" "BIG_ENDIAN" "Z") ∈ lw_tbl := lw_at lw_m4 203 rfl
theorem q1043 : (Jvm.Cond.methodLink "jdk/internal/util/ArraysSupport" (40 : Nat) ({ cls := "java/lang/Long", name := "numberOfLeadingZeros", desc := "(J)I" } : Jvm.MethodName)) ∈ lw_all := lw_g (lw_at lw_m4 204 rfl) rfl
theorem q1050 : (Jvm.Cond.fieldLink "jdk/internal/util/ArraysSupport" (46 : Nat) "jdk/internal/util/ArraysSupport" "LOG2_BYTE_BIT_SIZE" "I") ∈ lw_all := lw_g (lw_at lw_m4 211 rfl) rfl
theorem q1051 : (Jvm.Cond.laysStatic "jdk/internal/util/ArraysSupport" "LOG2_BYTE_BIT_SIZE" "I") ∈ lw_tbl := lw_at lw_m4 212 rfl
theorem q1052 : (Jvm.Cond.methodLink "jdk/internal/util/ArraysSupport" (49 : Nat) ({ cls := "java/lang/Long", name := "numberOfTrailingZeros", desc := "(J)I" } : Jvm.MethodName)) ∈ lw_all := lw_g (lw_at lw_m4 213 rfl) rfl
theorem q1058 : (Jvm.Cond.fieldLink "jdk/internal/util/ArraysSupport" (51 : Nat) "jdk/internal/util/ArraysSupport" "LOG2_ARRAY_INT_INDEX_SCALE" "I") ∈ lw_all := lw_g (lw_at lw_m4 219 rfl) rfl
theorem q1059 : (Jvm.Cond.laysStatic "jdk/internal/util/ArraysSupport" "LOG2_ARRAY_INT_INDEX_SCALE" "I") ∈ lw_tbl := lw_at lw_m4 220 rfl
theorem q1060 : (Jvm.Cond.methodLink "jdk/internal/util/ArraysSupport" (54 : Nat) ({ cls := "jdk/internal/misc/Unsafe", name := "getIntUnaligned", desc := "(Ljava/lang/Object;J)I" } : Jvm.MethodName)) ∈ lw_all := lw_g (lw_at lw_m4 221 rfl) rfl
theorem q1077 : (Jvm.Cond.methodLink "jdk/internal/util/ArraysSupport" (58 : Nat) ({ cls := "java/lang/Integer", name := "numberOfLeadingZeros", desc := "(I)I" } : Jvm.MethodName)) ∈ lw_all := lw_g (lw_at lw_m4 238 rfl) rfl
theorem q1078 : (Jvm.Cond.methodLink "jdk/internal/util/ArraysSupport" (11 : Nat) ({ cls := "java/lang/Integer", name := "numberOfTrailingZeros", desc := "(I)I" } : Jvm.MethodName)) ∈ lw_all := lw_g (lw_at lw_m4 239 rfl) rfl
theorem q1455 : (Jvm.Cond.static ({ cls := "jdk/internal/util/ArraysSupport", name := "mismatch", desc := "([BI[BII)I" } : Jvm.MethodName)) ∈ lw_all := lw_g (lw_at lw_m6 136 rfl) rfl
theorem q1456 : (Jvm.Cond.code ({ cls := "jdk/internal/util/ArraysSupport", name := "mismatch", desc := "([BI[BII)I" } : Jvm.MethodName) prog_79_method_14_code (8 : Nat) (Option.some Jvm.ClassFile.FieldType.int)) ∈ lw_all := lw_g (lw_at lw_m6 137 rfl) rfl
/-! java/lang/Math -/
set_option maxRecDepth 100000
def RJ13 : String := "java/lang/Math"
abbrev cJ13_max : ByteArray := prog_41_method_65_code
def yJ13_max : MethodName := ⟨RJ13, "max", "(II)I"⟩
def dkwJ13_max_0 : List UInt8 := [26, 27, 161, 0, 7, 26, 167, 0, 4, 27, 172]
abbrev dktJ13_max_0 : List UInt8 := dkwJ13_max_0 ++ []
theorem dksJ13_max_0 : cJ13_max.data.toList.drop 0 = dktJ13_max_0 := by decide +kernel
theorem dJ13_max_0 : decode cJ13_max 0 = .ok (.iload_n 0, 1) := dk_26 (dk_at dksJ13_max_0 0 rfl rfl)
theorem dJ13_max_1 : decode cJ13_max 1 = .ok (.iload_n 1, 1) := dk_27 (dk_at dksJ13_max_0 1 rfl rfl)
theorem dJ13_max_2 : decode cJ13_max 2 = .ok (.if_icmp .lt 7, 3) := dk_161 0 7 (dk_at dksJ13_max_0 2 rfl rfl)
theorem dJ13_max_5 : decode cJ13_max 5 = .ok (.iload_n 0, 1) := dk_26 (dk_at dksJ13_max_0 5 rfl rfl)
theorem dJ13_max_6 : decode cJ13_max 6 = .ok (.goto 4, 3) := dk_167 0 4 (dk_at dksJ13_max_0 6 rfl rfl)
theorem dJ13_max_9 : decode cJ13_max 9 = .ok (.iload_n 1, 1) := dk_27 (dk_at dksJ13_max_0 9 rfl rfl)
theorem dJ13_max_10 : decode cJ13_max 10 = .ok (.ireturn, 1) := dk_172 (dk_at dksJ13_max_0 10 rfl rfl)
abbrev cJ13_min : ByteArray := prog_41_method_69_code
def yJ13_min : MethodName := ⟨RJ13, "min", "(II)I"⟩
def dkwJ13_min_0 : List UInt8 := [26, 27, 163, 0, 7, 26, 167, 0, 4, 27, 172]
abbrev dktJ13_min_0 : List UInt8 := dkwJ13_min_0 ++ []
theorem dksJ13_min_0 : cJ13_min.data.toList.drop 0 = dktJ13_min_0 := by decide +kernel
theorem dJ13_min_0 : decode cJ13_min 0 = .ok (.iload_n 0, 1) := dk_26 (dk_at dksJ13_min_0 0 rfl rfl)
theorem dJ13_min_1 : decode cJ13_min 1 = .ok (.iload_n 1, 1) := dk_27 (dk_at dksJ13_min_0 1 rfl rfl)
theorem dJ13_min_2 : decode cJ13_min 2 = .ok (.if_icmp .gt 7, 3) := dk_163 0 7 (dk_at dksJ13_min_0 2 rfl rfl)
theorem dJ13_min_5 : decode cJ13_min 5 = .ok (.iload_n 0, 1) := dk_26 (dk_at dksJ13_min_0 5 rfl rfl)
theorem dJ13_min_6 : decode cJ13_min 6 = .ok (.goto 4, 3) := dk_167 0 4 (dk_at dksJ13_min_0 6 rfl rfl)
theorem dJ13_min_9 : decode cJ13_min 9 = .ok (.iload_n 1, 1) := dk_27 (dk_at dksJ13_min_0 9 rfl rfl)
theorem dJ13_min_10 : decode cJ13_min 10 = .ok (.ireturn, 1) := dk_172 (dk_at dksJ13_min_0 10 rfl rfl)
theorem q135 : (Jvm.Cond.initialized "java/lang/Math") ∈ lw_all := lw_g (lw_at lw_m1 16 rfl) rfl
theorem q318 : (Jvm.Cond.static ({ cls := "java/lang/Math", name := "max", desc := "(II)I" } : Jvm.MethodName)) ∈ lw_all := lw_g (lw_at lw_m1 199 rfl) rfl
theorem q319 : (Jvm.Cond.code ({ cls := "java/lang/Math", name := "max", desc := "(II)I" } : Jvm.MethodName) prog_41_method_65_code (2 : Nat) (Option.some Jvm.ClassFile.FieldType.int)) ∈ lw_all := lw_g (lw_at lw_m1 200 rfl) rfl
theorem q336 : (Jvm.Cond.static ({ cls := "java/lang/Math", name := "min", desc := "(II)I" } : Jvm.MethodName)) ∈ lw_all := lw_g (lw_at lw_m1 217 rfl) rfl
theorem q337 : (Jvm.Cond.code ({ cls := "java/lang/Math", name := "min", desc := "(II)I" } : Jvm.MethodName) prog_41_method_69_code (2 : Nat) (Option.some Jvm.ClassFile.FieldType.int)) ∈ lw_all := lw_g (lw_at lw_m1 218 rfl) rfl
/-! java/util/Arrays -/
set_option maxRecDepth 100000
def RJ14 : String := "java/util/Arrays"
abbrev cJ14_copyOf : ByteArray := prog_59_method_121_code
def yJ14_copyOf : MethodName := ⟨RJ14, "copyOf", "([BI)[B"⟩
def dkwJ14_copyOf_1 : List UInt8 := [27, 184, 1, 48, 184, 0, 150, 44, 176]
abbrev dktJ14_copyOf_1 : List UInt8 := dkwJ14_copyOf_1 ++ []
def dkwJ14_copyOf_0 : List UInt8 := [27, 42, 190, 160, 0, 11, 42, 182, 1, 54, 192, 1, 55, 176, 27, 188, 8, 77, 42, 3, 44, 3, 42, 190]
abbrev dktJ14_copyOf_0 : List UInt8 := dkwJ14_copyOf_0 ++ dktJ14_copyOf_1
theorem dksJ14_copyOf_0 : cJ14_copyOf.data.toList.drop 0 = dktJ14_copyOf_0 := by decide +kernel
theorem dksJ14_copyOf_1 : cJ14_copyOf.data.toList.drop 24 = dktJ14_copyOf_1 := dk_seg dksJ14_copyOf_0 24 rfl rfl
theorem dJ14_copyOf_0 : decode cJ14_copyOf 0 = .ok (.iload_n 1, 1) := dk_27 (dk_at dksJ14_copyOf_0 0 rfl rfl)
theorem dJ14_copyOf_1 : decode cJ14_copyOf 1 = .ok (.aload_n 0, 1) := dk_42 (dk_at dksJ14_copyOf_0 1 rfl rfl)
theorem dJ14_copyOf_2 : decode cJ14_copyOf 2 = .ok (.arraylength, 1) := dk_190 (dk_at dksJ14_copyOf_0 2 rfl rfl)
theorem dJ14_copyOf_3 : decode cJ14_copyOf 3 = .ok (.if_icmp .ne 11, 3) := dk_160 0 11 (dk_at dksJ14_copyOf_0 3 rfl rfl)
theorem dJ14_copyOf_6 : decode cJ14_copyOf 6 = .ok (.aload_n 0, 1) := dk_42 (dk_at dksJ14_copyOf_0 6 rfl rfl)
theorem dJ14_copyOf_7 : decode cJ14_copyOf 7 = .ok (.invokevirtual 310, 3) := dk_182 1 54 (dk_at dksJ14_copyOf_0 7 rfl rfl)
theorem dJ14_copyOf_10 : decode cJ14_copyOf 10 = .ok (.checkcast 311, 3) := dk_192 1 55 (dk_at dksJ14_copyOf_0 10 rfl rfl)
theorem dJ14_copyOf_13 : decode cJ14_copyOf 13 = .ok (.areturn, 1) := dk_176 (dk_at dksJ14_copyOf_0 13 rfl rfl)
theorem dJ14_copyOf_14 : decode cJ14_copyOf 14 = .ok (.iload_n 1, 1) := dk_27 (dk_at dksJ14_copyOf_0 14 rfl rfl)
theorem dJ14_copyOf_15 : decode cJ14_copyOf 15 = .ok (.newarray .byte, 2) := dk_188_8 (dk_at dksJ14_copyOf_0 15 rfl rfl)
theorem dJ14_copyOf_17 : decode cJ14_copyOf 17 = .ok (.astore_n 2, 1) := dk_77 (dk_at dksJ14_copyOf_0 17 rfl rfl)
theorem dJ14_copyOf_18 : decode cJ14_copyOf 18 = .ok (.aload_n 0, 1) := dk_42 (dk_at dksJ14_copyOf_0 18 rfl rfl)
theorem dJ14_copyOf_19 : decode cJ14_copyOf 19 = .ok (.iconst 0, 1) := dk_3 (dk_at dksJ14_copyOf_0 19 rfl rfl)
theorem dJ14_copyOf_20 : decode cJ14_copyOf 20 = .ok (.aload_n 2, 1) := dk_44 (dk_at dksJ14_copyOf_0 20 rfl rfl)
theorem dJ14_copyOf_21 : decode cJ14_copyOf 21 = .ok (.iconst 0, 1) := dk_3 (dk_at dksJ14_copyOf_0 21 rfl rfl)
theorem dJ14_copyOf_22 : decode cJ14_copyOf 22 = .ok (.aload_n 0, 1) := dk_42 (dk_at dksJ14_copyOf_0 22 rfl rfl)
theorem dJ14_copyOf_23 : decode cJ14_copyOf 23 = .ok (.arraylength, 1) := dk_190 (dk_at dksJ14_copyOf_0 23 rfl rfl)
theorem dJ14_copyOf_24 : decode cJ14_copyOf 24 = .ok (.iload_n 1, 1) := dk_27 (dk_at dksJ14_copyOf_1 0 rfl rfl)
theorem dJ14_copyOf_25 : decode cJ14_copyOf 25 = .ok (.invokestatic 304, 3) := dk_184 1 48 (dk_at dksJ14_copyOf_1 1 rfl rfl)
theorem dJ14_copyOf_28 : decode cJ14_copyOf 28 = .ok (.invokestatic 150, 3) := dk_184 0 150 (dk_at dksJ14_copyOf_1 4 rfl rfl)
theorem dJ14_copyOf_31 : decode cJ14_copyOf 31 = .ok (.aload_n 2, 1) := dk_44 (dk_at dksJ14_copyOf_1 7 rfl rfl)
theorem dJ14_copyOf_32 : decode cJ14_copyOf 32 = .ok (.areturn, 1) := dk_176 (dk_at dksJ14_copyOf_1 8 rfl rfl)
abbrev cJ14_copyOfRange : ByteArray := prog_59_method_132_code
def yJ14_copyOfRange : MethodName := ⟨RJ14, "copyOfRange", "([BII)[B"⟩
def dkwJ14_copyOfRange_1 : List UInt8 := [176]
abbrev dktJ14_copyOfRange_1 : List UInt8 := dkwJ14_copyOfRange_1 ++ []
def dkwJ14_copyOfRange_0 : List UInt8 := [27, 154, 0, 9, 28, 42, 190, 159, 0, 10, 42, 27, 28, 184, 1, 83, 176, 42, 182, 1, 54, 192, 1, 55]
abbrev dktJ14_copyOfRange_0 : List UInt8 := dkwJ14_copyOfRange_0 ++ dktJ14_copyOfRange_1
theorem dksJ14_copyOfRange_0 : cJ14_copyOfRange.data.toList.drop 0 = dktJ14_copyOfRange_0 := by decide +kernel
theorem dksJ14_copyOfRange_1 : cJ14_copyOfRange.data.toList.drop 24 = dktJ14_copyOfRange_1 := dk_seg dksJ14_copyOfRange_0 24 rfl rfl
theorem dJ14_copyOfRange_0 : decode cJ14_copyOfRange 0 = .ok (.iload_n 1, 1) := dk_27 (dk_at dksJ14_copyOfRange_0 0 rfl rfl)
theorem dJ14_copyOfRange_1 : decode cJ14_copyOfRange 1 = .ok (.ifCond .ne 9, 3) := dk_154 0 9 (dk_at dksJ14_copyOfRange_0 1 rfl rfl)
theorem dJ14_copyOfRange_4 : decode cJ14_copyOfRange 4 = .ok (.iload_n 2, 1) := dk_28 (dk_at dksJ14_copyOfRange_0 4 rfl rfl)
theorem dJ14_copyOfRange_5 : decode cJ14_copyOfRange 5 = .ok (.aload_n 0, 1) := dk_42 (dk_at dksJ14_copyOfRange_0 5 rfl rfl)
theorem dJ14_copyOfRange_6 : decode cJ14_copyOfRange 6 = .ok (.arraylength, 1) := dk_190 (dk_at dksJ14_copyOfRange_0 6 rfl rfl)
theorem dJ14_copyOfRange_7 : decode cJ14_copyOfRange 7 = .ok (.if_icmp .eq 10, 3) := dk_159 0 10 (dk_at dksJ14_copyOfRange_0 7 rfl rfl)
theorem dJ14_copyOfRange_10 : decode cJ14_copyOfRange 10 = .ok (.aload_n 0, 1) := dk_42 (dk_at dksJ14_copyOfRange_0 10 rfl rfl)
theorem dJ14_copyOfRange_11 : decode cJ14_copyOfRange 11 = .ok (.iload_n 1, 1) := dk_27 (dk_at dksJ14_copyOfRange_0 11 rfl rfl)
theorem dJ14_copyOfRange_12 : decode cJ14_copyOfRange 12 = .ok (.iload_n 2, 1) := dk_28 (dk_at dksJ14_copyOfRange_0 12 rfl rfl)
theorem dJ14_copyOfRange_13 : decode cJ14_copyOfRange 13 = .ok (.invokestatic 339, 3) := dk_184 1 83 (dk_at dksJ14_copyOfRange_0 13 rfl rfl)
theorem dJ14_copyOfRange_16 : decode cJ14_copyOfRange 16 = .ok (.areturn, 1) := dk_176 (dk_at dksJ14_copyOfRange_0 16 rfl rfl)
theorem dJ14_copyOfRange_17 : decode cJ14_copyOfRange 17 = .ok (.aload_n 0, 1) := dk_42 (dk_at dksJ14_copyOfRange_0 17 rfl rfl)
theorem dJ14_copyOfRange_18 : decode cJ14_copyOfRange 18 = .ok (.invokevirtual 310, 3) := dk_182 1 54 (dk_at dksJ14_copyOfRange_0 18 rfl rfl)
theorem dJ14_copyOfRange_21 : decode cJ14_copyOfRange 21 = .ok (.checkcast 311, 3) := dk_192 1 55 (dk_at dksJ14_copyOfRange_0 21 rfl rfl)
theorem dJ14_copyOfRange_24 : decode cJ14_copyOfRange 24 = .ok (.areturn, 1) := dk_176 (dk_at dksJ14_copyOfRange_1 0 rfl rfl)
abbrev cJ14_copyOfRangeByte : ByteArray := prog_59_method_133_code
def yJ14_copyOfRangeByte : MethodName := ⟨RJ14, "copyOfRangeByte", "([BII)[B"⟩
def dkwJ14_copyOfRangeByte_1 : List UInt8 := [184, 1, 48, 184, 0, 150, 25, 4, 176]
abbrev dktJ14_copyOfRangeByte_1 : List UInt8 := dkwJ14_copyOfRangeByte_1 ++ []
def dkwJ14_copyOfRangeByte_0 : List UInt8 := [27, 28, 184, 1, 87, 28, 27, 100, 62, 29, 188, 8, 58, 4, 42, 27, 25, 4, 3, 42, 190, 27, 100, 29]
abbrev dktJ14_copyOfRangeByte_0 : List UInt8 := dkwJ14_copyOfRangeByte_0 ++ dktJ14_copyOfRangeByte_1
theorem dksJ14_copyOfRangeByte_0 : cJ14_copyOfRangeByte.data.toList.drop 0 = dktJ14_copyOfRangeByte_0 := by decide +kernel
theorem dksJ14_copyOfRangeByte_1 : cJ14_copyOfRangeByte.data.toList.drop 24 = dktJ14_copyOfRangeByte_1 := dk_seg dksJ14_copyOfRangeByte_0 24 rfl rfl
theorem dJ14_copyOfRangeByte_0 : decode cJ14_copyOfRangeByte 0 = .ok (.iload_n 1, 1) := dk_27 (dk_at dksJ14_copyOfRangeByte_0 0 rfl rfl)
theorem dJ14_copyOfRangeByte_1 : decode cJ14_copyOfRangeByte 1 = .ok (.iload_n 2, 1) := dk_28 (dk_at dksJ14_copyOfRangeByte_0 1 rfl rfl)
theorem dJ14_copyOfRangeByte_2 : decode cJ14_copyOfRangeByte 2 = .ok (.invokestatic 343, 3) := dk_184 1 87 (dk_at dksJ14_copyOfRangeByte_0 2 rfl rfl)
theorem dJ14_copyOfRangeByte_5 : decode cJ14_copyOfRangeByte 5 = .ok (.iload_n 2, 1) := dk_28 (dk_at dksJ14_copyOfRangeByte_0 5 rfl rfl)
theorem dJ14_copyOfRangeByte_6 : decode cJ14_copyOfRangeByte 6 = .ok (.iload_n 1, 1) := dk_27 (dk_at dksJ14_copyOfRangeByte_0 6 rfl rfl)
theorem dJ14_copyOfRangeByte_7 : decode cJ14_copyOfRangeByte 7 = .ok (.isub, 1) := dk_100 (dk_at dksJ14_copyOfRangeByte_0 7 rfl rfl)
theorem dJ14_copyOfRangeByte_8 : decode cJ14_copyOfRangeByte 8 = .ok (.istore_n 3, 1) := dk_62 (dk_at dksJ14_copyOfRangeByte_0 8 rfl rfl)
theorem dJ14_copyOfRangeByte_9 : decode cJ14_copyOfRangeByte 9 = .ok (.iload_n 3, 1) := dk_29 (dk_at dksJ14_copyOfRangeByte_0 9 rfl rfl)
theorem dJ14_copyOfRangeByte_10 : decode cJ14_copyOfRangeByte 10 = .ok (.newarray .byte, 2) := dk_188_8 (dk_at dksJ14_copyOfRangeByte_0 10 rfl rfl)
theorem dJ14_copyOfRangeByte_12 : decode cJ14_copyOfRangeByte 12 = .ok (.astore 4, 2) := dk_58 4 (dk_at dksJ14_copyOfRangeByte_0 12 rfl rfl)
theorem dJ14_copyOfRangeByte_14 : decode cJ14_copyOfRangeByte 14 = .ok (.aload_n 0, 1) := dk_42 (dk_at dksJ14_copyOfRangeByte_0 14 rfl rfl)
theorem dJ14_copyOfRangeByte_15 : decode cJ14_copyOfRangeByte 15 = .ok (.iload_n 1, 1) := dk_27 (dk_at dksJ14_copyOfRangeByte_0 15 rfl rfl)
theorem dJ14_copyOfRangeByte_16 : decode cJ14_copyOfRangeByte 16 = .ok (.aload 4, 2) := dk_25 4 (dk_at dksJ14_copyOfRangeByte_0 16 rfl rfl)
theorem dJ14_copyOfRangeByte_18 : decode cJ14_copyOfRangeByte 18 = .ok (.iconst 0, 1) := dk_3 (dk_at dksJ14_copyOfRangeByte_0 18 rfl rfl)
theorem dJ14_copyOfRangeByte_19 : decode cJ14_copyOfRangeByte 19 = .ok (.aload_n 0, 1) := dk_42 (dk_at dksJ14_copyOfRangeByte_0 19 rfl rfl)
theorem dJ14_copyOfRangeByte_20 : decode cJ14_copyOfRangeByte 20 = .ok (.arraylength, 1) := dk_190 (dk_at dksJ14_copyOfRangeByte_0 20 rfl rfl)
theorem dJ14_copyOfRangeByte_21 : decode cJ14_copyOfRangeByte 21 = .ok (.iload_n 1, 1) := dk_27 (dk_at dksJ14_copyOfRangeByte_0 21 rfl rfl)
theorem dJ14_copyOfRangeByte_22 : decode cJ14_copyOfRangeByte 22 = .ok (.isub, 1) := dk_100 (dk_at dksJ14_copyOfRangeByte_0 22 rfl rfl)
theorem dJ14_copyOfRangeByte_23 : decode cJ14_copyOfRangeByte 23 = .ok (.iload_n 3, 1) := dk_29 (dk_at dksJ14_copyOfRangeByte_0 23 rfl rfl)
theorem dJ14_copyOfRangeByte_24 : decode cJ14_copyOfRangeByte 24 = .ok (.invokestatic 304, 3) := dk_184 1 48 (dk_at dksJ14_copyOfRangeByte_1 0 rfl rfl)
theorem dJ14_copyOfRangeByte_27 : decode cJ14_copyOfRangeByte 27 = .ok (.invokestatic 150, 3) := dk_184 0 150 (dk_at dksJ14_copyOfRangeByte_1 3 rfl rfl)
theorem dJ14_copyOfRangeByte_30 : decode cJ14_copyOfRangeByte 30 = .ok (.aload 4, 2) := dk_25 4 (dk_at dksJ14_copyOfRangeByte_1 6 rfl rfl)
theorem dJ14_copyOfRangeByte_32 : decode cJ14_copyOfRangeByte 32 = .ok (.areturn, 1) := dk_176 (dk_at dksJ14_copyOfRangeByte_1 8 rfl rfl)
abbrev cJ14_checkLength : ByteArray := prog_59_method_131_code
def yJ14_checkLength : MethodName := ⟨RJ14, "checkLength", "(II)V"⟩
def dkwJ14_checkLength_1 : List UInt8 := [182, 0, 50, 27, 182, 0, 54, 182, 0, 61, 183, 0, 65, 191, 177]
abbrev dktJ14_checkLength_1 : List UInt8 := dkwJ14_checkLength_1 ++ []
def dkwJ14_checkLength_0 : List UInt8 := [27, 26, 162, 0, 35, 187, 0, 43, 89, 187, 0, 45, 89, 183, 0, 47, 26, 182, 0, 54, 19, 1, 81]
abbrev dktJ14_checkLength_0 : List UInt8 := dkwJ14_checkLength_0 ++ dktJ14_checkLength_1
theorem dksJ14_checkLength_0 : cJ14_checkLength.data.toList.drop 0 = dktJ14_checkLength_0 := by decide +kernel
theorem dksJ14_checkLength_1 : cJ14_checkLength.data.toList.drop 23 = dktJ14_checkLength_1 := dk_seg dksJ14_checkLength_0 23 rfl rfl
theorem dJ14_checkLength_0 : decode cJ14_checkLength 0 = .ok (.iload_n 1, 1) := dk_27 (dk_at dksJ14_checkLength_0 0 rfl rfl)
theorem dJ14_checkLength_1 : decode cJ14_checkLength 1 = .ok (.iload_n 0, 1) := dk_26 (dk_at dksJ14_checkLength_0 1 rfl rfl)
theorem dJ14_checkLength_2 : decode cJ14_checkLength 2 = .ok (.if_icmp .ge 35, 3) := dk_162 0 35 (dk_at dksJ14_checkLength_0 2 rfl rfl)
theorem dJ14_checkLength_5 : decode cJ14_checkLength 5 = .ok (.new 43, 3) := dk_187 0 43 (dk_at dksJ14_checkLength_0 5 rfl rfl)
theorem dJ14_checkLength_8 : decode cJ14_checkLength 8 = .ok (.dup, 1) := dk_89 (dk_at dksJ14_checkLength_0 8 rfl rfl)
theorem dJ14_checkLength_9 : decode cJ14_checkLength 9 = .ok (.new 45, 3) := dk_187 0 45 (dk_at dksJ14_checkLength_0 9 rfl rfl)
theorem dJ14_checkLength_12 : decode cJ14_checkLength 12 = .ok (.dup, 1) := dk_89 (dk_at dksJ14_checkLength_0 12 rfl rfl)
theorem dJ14_checkLength_13 : decode cJ14_checkLength 13 = .ok (.invokespecial 47, 3) := dk_183 0 47 (dk_at dksJ14_checkLength_0 13 rfl rfl)
theorem dJ14_checkLength_16 : decode cJ14_checkLength 16 = .ok (.iload_n 0, 1) := dk_26 (dk_at dksJ14_checkLength_0 16 rfl rfl)
theorem dJ14_checkLength_17 : decode cJ14_checkLength 17 = .ok (.invokevirtual 54, 3) := dk_182 0 54 (dk_at dksJ14_checkLength_0 17 rfl rfl)
theorem dJ14_checkLength_20 : decode cJ14_checkLength 20 = .ok (.ldc_w 337, 3) := dk_19 1 81 (dk_at dksJ14_checkLength_0 20 rfl rfl)
theorem dJ14_checkLength_23 : decode cJ14_checkLength 23 = .ok (.invokevirtual 50, 3) := dk_182 0 50 (dk_at dksJ14_checkLength_1 0 rfl rfl)
theorem dJ14_checkLength_26 : decode cJ14_checkLength 26 = .ok (.iload_n 1, 1) := dk_27 (dk_at dksJ14_checkLength_1 3 rfl rfl)
theorem dJ14_checkLength_27 : decode cJ14_checkLength 27 = .ok (.invokevirtual 54, 3) := dk_182 0 54 (dk_at dksJ14_checkLength_1 4 rfl rfl)
theorem dJ14_checkLength_30 : decode cJ14_checkLength 30 = .ok (.invokevirtual 61, 3) := dk_182 0 61 (dk_at dksJ14_checkLength_1 7 rfl rfl)
theorem dJ14_checkLength_33 : decode cJ14_checkLength 33 = .ok (.invokespecial 65, 3) := dk_183 0 65 (dk_at dksJ14_checkLength_1 10 rfl rfl)
theorem dJ14_checkLength_36 : decode cJ14_checkLength 36 = .ok (.athrow, 1) := dk_191 (dk_at dksJ14_checkLength_1 13 rfl rfl)
theorem dJ14_checkLength_37 : decode cJ14_checkLength 37 = .ok (.return_, 1) := dk_177 (dk_at dksJ14_checkLength_1 14 rfl rfl)
abbrev cJ14_copyOf_2 : ByteArray := prog_59_method_119_code
def yJ14_copyOf_2 : MethodName := ⟨RJ14, "copyOf", "([Ljava/lang/Object;I)[Ljava/lang/Object;"⟩
def dkwJ14_copyOf_2_0 : List UInt8 := [42, 27, 42, 182, 0, 86, 184, 1, 44, 176]
abbrev dktJ14_copyOf_2_0 : List UInt8 := dkwJ14_copyOf_2_0 ++ []
theorem dksJ14_copyOf_2_0 : cJ14_copyOf_2.data.toList.drop 0 = dktJ14_copyOf_2_0 := by decide +kernel
theorem dJ14_copyOf_2_0 : decode cJ14_copyOf_2 0 = .ok (.aload_n 0, 1) := dk_42 (dk_at dksJ14_copyOf_2_0 0 rfl rfl)
theorem dJ14_copyOf_2_1 : decode cJ14_copyOf_2 1 = .ok (.iload_n 1, 1) := dk_27 (dk_at dksJ14_copyOf_2_0 1 rfl rfl)
theorem dJ14_copyOf_2_2 : decode cJ14_copyOf_2 2 = .ok (.aload_n 0, 1) := dk_42 (dk_at dksJ14_copyOf_2_0 2 rfl rfl)
theorem dJ14_copyOf_2_3 : decode cJ14_copyOf_2 3 = .ok (.invokevirtual 86, 3) := dk_182 0 86 (dk_at dksJ14_copyOf_2_0 3 rfl rfl)
theorem dJ14_copyOf_2_6 : decode cJ14_copyOf_2 6 = .ok (.invokestatic 300, 3) := dk_184 1 44 (dk_at dksJ14_copyOf_2_0 6 rfl rfl)
theorem dJ14_copyOf_2_9 : decode cJ14_copyOf_2 9 = .ok (.areturn, 1) := dk_176 (dk_at dksJ14_copyOf_2_0 9 rfl rfl)
abbrev cJ14_copyOf_3 : ByteArray := prog_59_method_120_code
def yJ14_copyOf_3 : MethodName := ⟨RJ14, "copyOf", "([Ljava/lang/Object;ILjava/lang/Class;)[Ljava/lang/Object;"⟩
def dkwJ14_copyOf_3_1 : List UInt8 := [78, 42, 3, 45, 3, 42, 190, 27, 184, 1, 48, 184, 0, 150, 45, 176]
abbrev dktJ14_copyOf_3_1 : List UInt8 := dkwJ14_copyOf_3_1 ++ []
def dkwJ14_copyOf_3_0 : List UInt8 := [44, 18, 110, 166, 0, 10, 27, 189, 0, 2, 167, 0, 14, 44, 182, 0, 90, 27, 184, 0, 95, 192, 0, 110]
abbrev dktJ14_copyOf_3_0 : List UInt8 := dkwJ14_copyOf_3_0 ++ dktJ14_copyOf_3_1
theorem dksJ14_copyOf_3_0 : cJ14_copyOf_3.data.toList.drop 0 = dktJ14_copyOf_3_0 := by decide +kernel
theorem dksJ14_copyOf_3_1 : cJ14_copyOf_3.data.toList.drop 24 = dktJ14_copyOf_3_1 := dk_seg dksJ14_copyOf_3_0 24 rfl rfl
theorem dJ14_copyOf_3_0 : decode cJ14_copyOf_3 0 = .ok (.aload_n 2, 1) := dk_44 (dk_at dksJ14_copyOf_3_0 0 rfl rfl)
theorem dJ14_copyOf_3_1 : decode cJ14_copyOf_3 1 = .ok (.ldc 110, 2) := dk_18 110 (dk_at dksJ14_copyOf_3_0 1 rfl rfl)
theorem dJ14_copyOf_3_3 : decode cJ14_copyOf_3 3 = .ok (.if_acmp .ne 10, 3) := dk_166 0 10 (dk_at dksJ14_copyOf_3_0 3 rfl rfl)
theorem dJ14_copyOf_3_6 : decode cJ14_copyOf_3 6 = .ok (.iload_n 1, 1) := dk_27 (dk_at dksJ14_copyOf_3_0 6 rfl rfl)
theorem dJ14_copyOf_3_7 : decode cJ14_copyOf_3 7 = .ok (.anewarray 2, 3) := dk_189 0 2 (dk_at dksJ14_copyOf_3_0 7 rfl rfl)
theorem dJ14_copyOf_3_10 : decode cJ14_copyOf_3 10 = .ok (.goto 14, 3) := dk_167 0 14 (dk_at dksJ14_copyOf_3_0 10 rfl rfl)
theorem dJ14_copyOf_3_13 : decode cJ14_copyOf_3 13 = .ok (.aload_n 2, 1) := dk_44 (dk_at dksJ14_copyOf_3_0 13 rfl rfl)
theorem dJ14_copyOf_3_14 : decode cJ14_copyOf_3 14 = .ok (.invokevirtual 90, 3) := dk_182 0 90 (dk_at dksJ14_copyOf_3_0 14 rfl rfl)
theorem dJ14_copyOf_3_17 : decode cJ14_copyOf_3 17 = .ok (.iload_n 1, 1) := dk_27 (dk_at dksJ14_copyOf_3_0 17 rfl rfl)
theorem dJ14_copyOf_3_18 : decode cJ14_copyOf_3 18 = .ok (.invokestatic 95, 3) := dk_184 0 95 (dk_at dksJ14_copyOf_3_0 18 rfl rfl)
theorem dJ14_copyOf_3_21 : decode cJ14_copyOf_3 21 = .ok (.checkcast 110, 3) := dk_192 0 110 (dk_at dksJ14_copyOf_3_0 21 rfl rfl)
theorem dJ14_copyOf_3_24 : decode cJ14_copyOf_3 24 = .ok (.astore_n 3, 1) := dk_78 (dk_at dksJ14_copyOf_3_1 0 rfl rfl)
theorem dJ14_copyOf_3_25 : decode cJ14_copyOf_3 25 = .ok (.aload_n 0, 1) := dk_42 (dk_at dksJ14_copyOf_3_1 1 rfl rfl)
theorem dJ14_copyOf_3_26 : decode cJ14_copyOf_3 26 = .ok (.iconst 0, 1) := dk_3 (dk_at dksJ14_copyOf_3_1 2 rfl rfl)
theorem dJ14_copyOf_3_27 : decode cJ14_copyOf_3 27 = .ok (.aload_n 3, 1) := dk_45 (dk_at dksJ14_copyOf_3_1 3 rfl rfl)
theorem dJ14_copyOf_3_28 : decode cJ14_copyOf_3 28 = .ok (.iconst 0, 1) := dk_3 (dk_at dksJ14_copyOf_3_1 4 rfl rfl)
theorem dJ14_copyOf_3_29 : decode cJ14_copyOf_3 29 = .ok (.aload_n 0, 1) := dk_42 (dk_at dksJ14_copyOf_3_1 5 rfl rfl)
theorem dJ14_copyOf_3_30 : decode cJ14_copyOf_3 30 = .ok (.arraylength, 1) := dk_190 (dk_at dksJ14_copyOf_3_1 6 rfl rfl)
theorem dJ14_copyOf_3_31 : decode cJ14_copyOf_3 31 = .ok (.iload_n 1, 1) := dk_27 (dk_at dksJ14_copyOf_3_1 7 rfl rfl)
theorem dJ14_copyOf_3_32 : decode cJ14_copyOf_3 32 = .ok (.invokestatic 304, 3) := dk_184 1 48 (dk_at dksJ14_copyOf_3_1 8 rfl rfl)
theorem dJ14_copyOf_3_35 : decode cJ14_copyOf_3 35 = .ok (.invokestatic 150, 3) := dk_184 0 150 (dk_at dksJ14_copyOf_3_1 11 rfl rfl)
theorem dJ14_copyOf_3_38 : decode cJ14_copyOf_3 38 = .ok (.aload_n 3, 1) := dk_45 (dk_at dksJ14_copyOf_3_1 14 rfl rfl)
theorem dJ14_copyOf_3_39 : decode cJ14_copyOf_3 39 = .ok (.areturn, 1) := dk_176 (dk_at dksJ14_copyOf_3_1 15 rfl rfl)
abbrev cJ14_copyOfRange_2 : ByteArray := prog_59_method_130_code
def yJ14_copyOfRange_2 : MethodName := ⟨RJ14, "copyOfRange", "([Ljava/lang/Object;IILjava/lang/Class;)[Ljava/lang/Object;"⟩
def dkwJ14_copyOfRange_2_3 : List UInt8 := [58, 5, 42, 27, 25, 5, 3, 42, 190, 27, 100, 21, 4, 184, 1, 48, 184, 0, 150, 25, 5, 176]
abbrev dktJ14_copyOfRange_2_3 : List UInt8 := dkwJ14_copyOfRange_2_3 ++ []
def dkwJ14_copyOfRange_2_2 : List UInt8 := [166, 0, 11, 21, 4, 189, 0, 2, 167, 0, 15, 45, 182, 0, 90, 21, 4, 184, 0, 95, 192, 0, 110]
abbrev dktJ14_copyOfRange_2_2 : List UInt8 := dkwJ14_copyOfRange_2_2 ++ dktJ14_copyOfRange_2_3
def dkwJ14_copyOfRange_2_1 : List UInt8 := [182, 0, 54, 19, 1, 81, 182, 0, 50, 28, 182, 0, 54, 182, 0, 61, 183, 0, 65, 191, 45, 18, 110]
abbrev dktJ14_copyOfRange_2_1 : List UInt8 := dkwJ14_copyOfRange_2_1 ++ dktJ14_copyOfRange_2_2
def dkwJ14_copyOfRange_2_0 : List UInt8 := [28, 27, 100, 54, 4, 21, 4, 156, 0, 35, 187, 0, 43, 89, 187, 0, 45, 89, 183, 0, 47, 27]
abbrev dktJ14_copyOfRange_2_0 : List UInt8 := dkwJ14_copyOfRange_2_0 ++ dktJ14_copyOfRange_2_1
theorem dksJ14_copyOfRange_2_0 : cJ14_copyOfRange_2.data.toList.drop 0 = dktJ14_copyOfRange_2_0 := by decide +kernel
theorem dksJ14_copyOfRange_2_1 : cJ14_copyOfRange_2.data.toList.drop 22 = dktJ14_copyOfRange_2_1 := dk_seg dksJ14_copyOfRange_2_0 22 rfl rfl
theorem dksJ14_copyOfRange_2_2 : cJ14_copyOfRange_2.data.toList.drop 45 = dktJ14_copyOfRange_2_2 := dk_seg dksJ14_copyOfRange_2_1 23 rfl rfl
theorem dksJ14_copyOfRange_2_3 : cJ14_copyOfRange_2.data.toList.drop 68 = dktJ14_copyOfRange_2_3 := dk_seg dksJ14_copyOfRange_2_2 23 rfl rfl
theorem dJ14_copyOfRange_2_0 : decode cJ14_copyOfRange_2 0 = .ok (.iload_n 2, 1) := dk_28 (dk_at dksJ14_copyOfRange_2_0 0 rfl rfl)
theorem dJ14_copyOfRange_2_1 : decode cJ14_copyOfRange_2 1 = .ok (.iload_n 1, 1) := dk_27 (dk_at dksJ14_copyOfRange_2_0 1 rfl rfl)
theorem dJ14_copyOfRange_2_2 : decode cJ14_copyOfRange_2 2 = .ok (.isub, 1) := dk_100 (dk_at dksJ14_copyOfRange_2_0 2 rfl rfl)
theorem dJ14_copyOfRange_2_3 : decode cJ14_copyOfRange_2 3 = .ok (.istore 4, 2) := dk_54 4 (dk_at dksJ14_copyOfRange_2_0 3 rfl rfl)
theorem dJ14_copyOfRange_2_5 : decode cJ14_copyOfRange_2 5 = .ok (.iload 4, 2) := dk_21 4 (dk_at dksJ14_copyOfRange_2_0 5 rfl rfl)
theorem dJ14_copyOfRange_2_7 : decode cJ14_copyOfRange_2 7 = .ok (.ifCond .ge 35, 3) := dk_156 0 35 (dk_at dksJ14_copyOfRange_2_0 7 rfl rfl)
theorem dJ14_copyOfRange_2_10 : decode cJ14_copyOfRange_2 10 = .ok (.new 43, 3) := dk_187 0 43 (dk_at dksJ14_copyOfRange_2_0 10 rfl rfl)
theorem dJ14_copyOfRange_2_13 : decode cJ14_copyOfRange_2 13 = .ok (.dup, 1) := dk_89 (dk_at dksJ14_copyOfRange_2_0 13 rfl rfl)
theorem dJ14_copyOfRange_2_14 : decode cJ14_copyOfRange_2 14 = .ok (.new 45, 3) := dk_187 0 45 (dk_at dksJ14_copyOfRange_2_0 14 rfl rfl)
theorem dJ14_copyOfRange_2_17 : decode cJ14_copyOfRange_2 17 = .ok (.dup, 1) := dk_89 (dk_at dksJ14_copyOfRange_2_0 17 rfl rfl)
theorem dJ14_copyOfRange_2_18 : decode cJ14_copyOfRange_2 18 = .ok (.invokespecial 47, 3) := dk_183 0 47 (dk_at dksJ14_copyOfRange_2_0 18 rfl rfl)
theorem dJ14_copyOfRange_2_21 : decode cJ14_copyOfRange_2 21 = .ok (.iload_n 1, 1) := dk_27 (dk_at dksJ14_copyOfRange_2_0 21 rfl rfl)
theorem dJ14_copyOfRange_2_22 : decode cJ14_copyOfRange_2 22 = .ok (.invokevirtual 54, 3) := dk_182 0 54 (dk_at dksJ14_copyOfRange_2_1 0 rfl rfl)
theorem dJ14_copyOfRange_2_25 : decode cJ14_copyOfRange_2 25 = .ok (.ldc_w 337, 3) := dk_19 1 81 (dk_at dksJ14_copyOfRange_2_1 3 rfl rfl)
theorem dJ14_copyOfRange_2_28 : decode cJ14_copyOfRange_2 28 = .ok (.invokevirtual 50, 3) := dk_182 0 50 (dk_at dksJ14_copyOfRange_2_1 6 rfl rfl)
theorem dJ14_copyOfRange_2_31 : decode cJ14_copyOfRange_2 31 = .ok (.iload_n 2, 1) := dk_28 (dk_at dksJ14_copyOfRange_2_1 9 rfl rfl)
theorem dJ14_copyOfRange_2_32 : decode cJ14_copyOfRange_2 32 = .ok (.invokevirtual 54, 3) := dk_182 0 54 (dk_at dksJ14_copyOfRange_2_1 10 rfl rfl)
theorem dJ14_copyOfRange_2_35 : decode cJ14_copyOfRange_2 35 = .ok (.invokevirtual 61, 3) := dk_182 0 61 (dk_at dksJ14_copyOfRange_2_1 13 rfl rfl)
theorem dJ14_copyOfRange_2_38 : decode cJ14_copyOfRange_2 38 = .ok (.invokespecial 65, 3) := dk_183 0 65 (dk_at dksJ14_copyOfRange_2_1 16 rfl rfl)
theorem dJ14_copyOfRange_2_41 : decode cJ14_copyOfRange_2 41 = .ok (.athrow, 1) := dk_191 (dk_at dksJ14_copyOfRange_2_1 19 rfl rfl)
theorem dJ14_copyOfRange_2_42 : decode cJ14_copyOfRange_2 42 = .ok (.aload_n 3, 1) := dk_45 (dk_at dksJ14_copyOfRange_2_1 20 rfl rfl)
theorem dJ14_copyOfRange_2_43 : decode cJ14_copyOfRange_2 43 = .ok (.ldc 110, 2) := dk_18 110 (dk_at dksJ14_copyOfRange_2_1 21 rfl rfl)
theorem dJ14_copyOfRange_2_45 : decode cJ14_copyOfRange_2 45 = .ok (.if_acmp .ne 11, 3) := dk_166 0 11 (dk_at dksJ14_copyOfRange_2_2 0 rfl rfl)
theorem dJ14_copyOfRange_2_48 : decode cJ14_copyOfRange_2 48 = .ok (.iload 4, 2) := dk_21 4 (dk_at dksJ14_copyOfRange_2_2 3 rfl rfl)
theorem dJ14_copyOfRange_2_50 : decode cJ14_copyOfRange_2 50 = .ok (.anewarray 2, 3) := dk_189 0 2 (dk_at dksJ14_copyOfRange_2_2 5 rfl rfl)
theorem dJ14_copyOfRange_2_53 : decode cJ14_copyOfRange_2 53 = .ok (.goto 15, 3) := dk_167 0 15 (dk_at dksJ14_copyOfRange_2_2 8 rfl rfl)
theorem dJ14_copyOfRange_2_56 : decode cJ14_copyOfRange_2 56 = .ok (.aload_n 3, 1) := dk_45 (dk_at dksJ14_copyOfRange_2_2 11 rfl rfl)
theorem dJ14_copyOfRange_2_57 : decode cJ14_copyOfRange_2 57 = .ok (.invokevirtual 90, 3) := dk_182 0 90 (dk_at dksJ14_copyOfRange_2_2 12 rfl rfl)
theorem dJ14_copyOfRange_2_60 : decode cJ14_copyOfRange_2 60 = .ok (.iload 4, 2) := dk_21 4 (dk_at dksJ14_copyOfRange_2_2 15 rfl rfl)
theorem dJ14_copyOfRange_2_62 : decode cJ14_copyOfRange_2 62 = .ok (.invokestatic 95, 3) := dk_184 0 95 (dk_at dksJ14_copyOfRange_2_2 17 rfl rfl)
theorem dJ14_copyOfRange_2_65 : decode cJ14_copyOfRange_2 65 = .ok (.checkcast 110, 3) := dk_192 0 110 (dk_at dksJ14_copyOfRange_2_2 20 rfl rfl)
theorem dJ14_copyOfRange_2_68 : decode cJ14_copyOfRange_2 68 = .ok (.astore 5, 2) := dk_58 5 (dk_at dksJ14_copyOfRange_2_3 0 rfl rfl)
theorem dJ14_copyOfRange_2_70 : decode cJ14_copyOfRange_2 70 = .ok (.aload_n 0, 1) := dk_42 (dk_at dksJ14_copyOfRange_2_3 2 rfl rfl)
theorem dJ14_copyOfRange_2_71 : decode cJ14_copyOfRange_2 71 = .ok (.iload_n 1, 1) := dk_27 (dk_at dksJ14_copyOfRange_2_3 3 rfl rfl)
theorem dJ14_copyOfRange_2_72 : decode cJ14_copyOfRange_2 72 = .ok (.aload 5, 2) := dk_25 5 (dk_at dksJ14_copyOfRange_2_3 4 rfl rfl)
theorem dJ14_copyOfRange_2_74 : decode cJ14_copyOfRange_2 74 = .ok (.iconst 0, 1) := dk_3 (dk_at dksJ14_copyOfRange_2_3 6 rfl rfl)
theorem dJ14_copyOfRange_2_75 : decode cJ14_copyOfRange_2 75 = .ok (.aload_n 0, 1) := dk_42 (dk_at dksJ14_copyOfRange_2_3 7 rfl rfl)
theorem dJ14_copyOfRange_2_76 : decode cJ14_copyOfRange_2 76 = .ok (.arraylength, 1) := dk_190 (dk_at dksJ14_copyOfRange_2_3 8 rfl rfl)
theorem dJ14_copyOfRange_2_77 : decode cJ14_copyOfRange_2 77 = .ok (.iload_n 1, 1) := dk_27 (dk_at dksJ14_copyOfRange_2_3 9 rfl rfl)
theorem dJ14_copyOfRange_2_78 : decode cJ14_copyOfRange_2 78 = .ok (.isub, 1) := dk_100 (dk_at dksJ14_copyOfRange_2_3 10 rfl rfl)
theorem dJ14_copyOfRange_2_79 : decode cJ14_copyOfRange_2 79 = .ok (.iload 4, 2) := dk_21 4 (dk_at dksJ14_copyOfRange_2_3 11 rfl rfl)
theorem dJ14_copyOfRange_2_81 : decode cJ14_copyOfRange_2 81 = .ok (.invokestatic 304, 3) := dk_184 1 48 (dk_at dksJ14_copyOfRange_2_3 13 rfl rfl)
theorem dJ14_copyOfRange_2_84 : decode cJ14_copyOfRange_2 84 = .ok (.invokestatic 150, 3) := dk_184 0 150 (dk_at dksJ14_copyOfRange_2_3 16 rfl rfl)
theorem dJ14_copyOfRange_2_87 : decode cJ14_copyOfRange_2 87 = .ok (.aload 5, 2) := dk_25 5 (dk_at dksJ14_copyOfRange_2_3 19 rfl rfl)
theorem dJ14_copyOfRange_2_89 : decode cJ14_copyOfRange_2 89 = .ok (.areturn, 1) := dk_176 (dk_at dksJ14_copyOfRange_2_3 21 rfl rfl)
theorem q136 : (Jvm.Cond.initialized "java/util/Arrays") ∈ lw_all := lw_g (lw_at lw_m1 17 rfl) rfl
theorem q326 : (Jvm.Cond.static ({ cls := "java/util/Arrays", name := "copyOf", desc := "([BI)[B" } : Jvm.MethodName)) ∈ lw_all := lw_g (lw_at lw_m1 207 rfl) rfl
theorem q327 : (Jvm.Cond.code ({ cls := "java/util/Arrays", name := "copyOf", desc := "([BI)[B" } : Jvm.MethodName) prog_59_method_121_code (3 : Nat) (Option.some (Jvm.ClassFile.FieldType.array Jvm.ClassFile.FieldType.byte))) ∈ lw_all := lw_g (lw_at lw_m1 208 rfl) rfl
theorem q328 : (Jvm.Cond.methodLink "java/util/Arrays" (310 : Nat) ({ cls := "[B", name := "clone", desc := "()Ljava/lang/Object;" } : Jvm.MethodName)) ∈ lw_all := lw_g (lw_at lw_m1 209 rfl) rfl
theorem q334 : (Jvm.Cond.classLink "java/util/Arrays" (311 : Nat) "[B") ∈ lw_all := lw_g (lw_at lw_m1 215 rfl) rfl
theorem q335 : (Jvm.Cond.methodLink "java/util/Arrays" (304 : Nat) ({ cls := "java/lang/Math", name := "min", desc := "(II)I" } : Jvm.MethodName)) ∈ lw_all := lw_g (lw_at lw_m1 216 rfl) rfl
theorem q338 : (Jvm.Cond.methodLink "java/util/Arrays" (150 : Nat) ({ cls := "java/lang/System", name := "arraycopy", desc := "(Ljava/lang/Object;ILjava/lang/Object;II)V" } : Jvm.MethodName)) ∈ lw_all := lw_g (lw_at lw_m1 219 rfl) rfl
theorem q468 : (Jvm.Cond.static ({ cls := "java/util/Arrays", name := "copyOfRange", desc := "([BII)[B" } : Jvm.MethodName)) ∈ lw_all := lw_g (lw_at lw_m2 109 rfl) rfl
theorem q469 : (Jvm.Cond.code ({ cls := "java/util/Arrays", name := "copyOfRange", desc := "([BII)[B" } : Jvm.MethodName) prog_59_method_132_code (3 : Nat) (Option.some (Jvm.ClassFile.FieldType.array Jvm.ClassFile.FieldType.byte))) ∈ lw_all := lw_g (lw_at lw_m2 110 rfl) rfl
theorem q470 : (Jvm.Cond.methodLink "java/util/Arrays" (339 : Nat) ({ cls := "java/util/Arrays", name := "copyOfRangeByte", desc := "([BII)[B" } : Jvm.MethodName)) ∈ lw_all := lw_g (lw_at lw_m2 111 rfl) rfl
theorem q471 : (Jvm.Cond.static ({ cls := "java/util/Arrays", name := "copyOfRangeByte", desc := "([BII)[B" } : Jvm.MethodName)) ∈ lw_all := lw_g (lw_at lw_m2 112 rfl) rfl
theorem q472 : (Jvm.Cond.code ({ cls := "java/util/Arrays", name := "copyOfRangeByte", desc := "([BII)[B" } : Jvm.MethodName) prog_59_method_133_code (5 : Nat) (Option.some (Jvm.ClassFile.FieldType.array Jvm.ClassFile.FieldType.byte))) ∈ lw_all := lw_g (lw_at lw_m2 113 rfl) rfl
theorem q473 : (Jvm.Cond.methodLink "java/util/Arrays" (343 : Nat) ({ cls := "java/util/Arrays", name := "checkLength", desc := "(II)V" } : Jvm.MethodName)) ∈ lw_all := lw_g (lw_at lw_m2 114 rfl) rfl
theorem q474 : (Jvm.Cond.static ({ cls := "java/util/Arrays", name := "checkLength", desc := "(II)V" } : Jvm.MethodName)) ∈ lw_all := lw_g (lw_at lw_m2 115 rfl) rfl
theorem q475 : (Jvm.Cond.code ({ cls := "java/util/Arrays", name := "checkLength", desc := "(II)V" } : Jvm.MethodName) prog_59_method_131_code (2 : Nat) (Option.none : Option Jvm.ClassFile.FieldType)) ∈ lw_all := lw_g (lw_at lw_m2 116 rfl) rfl
theorem q476 : (Jvm.Cond.classLink "java/util/Arrays" (43 : Nat) "java/lang/IllegalArgumentException") ∈ lw_all := lw_g (lw_at lw_m2 117 rfl) rfl
theorem q477 : (Jvm.Cond.classLink "java/util/Arrays" (45 : Nat) "java/lang/StringBuilder") ∈ lw_all := lw_g (lw_at lw_m2 118 rfl) rfl
theorem q478 : (Jvm.Cond.methodLink "java/util/Arrays" (47 : Nat) ({ cls := "java/lang/StringBuilder", name := "<init>", desc := "()V" } : Jvm.MethodName)) ∈ lw_all := lw_g (lw_at lw_m2 119 rfl) rfl
theorem q479 : (Jvm.Cond.methodLink "java/util/Arrays" (54 : Nat) ({ cls := "java/lang/StringBuilder", name := "append", desc := "(I)Ljava/lang/StringBuilder;" } : Jvm.MethodName)) ∈ lw_all := lw_g (lw_at lw_m2 120 rfl) rfl
theorem q480 : (Jvm.Cond.stringRef "java/util/Arrays" (337 : Nat) " > ") ∈ lw_tbl := lw_at lw_m2 121 rfl
theorem q481 : (Jvm.Cond.methodLink "java/util/Arrays" (50 : Nat) ({ cls := "java/lang/StringBuilder", name := "append", desc := "(Ljava/lang/String;)Ljava/lang/StringBuilder;" } : Jvm.MethodName)) ∈ lw_all := lw_g (lw_at lw_m2 122 rfl) rfl
theorem q482 : (Jvm.Cond.methodLink "java/util/Arrays" (61 : Nat) ({ cls := "java/lang/StringBuilder", name := "toString", desc := "()Ljava/lang/String;" } : Jvm.MethodName)) ∈ lw_all := lw_g (lw_at lw_m2 123 rfl) rfl
theorem q483 : (Jvm.Cond.methodLink "java/util/Arrays" (65 : Nat) ({ cls := "java/lang/IllegalArgumentException", name := "<init>", desc := "(Ljava/lang/String;)V" } : Jvm.MethodName)) ∈ lw_all := lw_g (lw_at lw_m2 124 rfl) rfl
theorem q686 : (Jvm.Cond.static ({ cls := "java/util/Arrays", name := "copyOf", desc := "([Ljava/lang/Object;I)[Ljava/lang/Object;" } : Jvm.MethodName)) ∈ lw_all := lw_g (lw_at lw_m3 87 rfl) rfl
theorem q687 : (Jvm.Cond.code ({ cls := "java/util/Arrays", name := "copyOf", desc := "([Ljava/lang/Object;I)[Ljava/lang/Object;" } : Jvm.MethodName) prog_59_method_119_code (2 : Nat) (Option.some (Jvm.ClassFile.FieldType.array (Jvm.ClassFile.FieldType.object "java/lang/Object")))) ∈ lw_all := lw_g (lw_at lw_m3 88 rfl) rfl
theorem q688 : (Jvm.Cond.methodLink "java/util/Arrays" (86 : Nat) ({ cls := "java/lang/Object", name := "getClass", desc := "()Ljava/lang/Class;" } : Jvm.MethodName)) ∈ lw_all := lw_g (lw_at lw_m3 89 rfl) rfl
theorem q728 : (Jvm.Cond.methodLink "java/util/Arrays" (300 : Nat) ({ cls := "java/util/Arrays", name := "copyOf", desc := "([Ljava/lang/Object;ILjava/lang/Class;)[Ljava/lang/Object;" } : Jvm.MethodName)) ∈ lw_all := lw_g (lw_at lw_m3 129 rfl) rfl
theorem q729 : (Jvm.Cond.static ({ cls := "java/util/Arrays", name := "copyOf", desc := "([Ljava/lang/Object;ILjava/lang/Class;)[Ljava/lang/Object;" } : Jvm.MethodName)) ∈ lw_all := lw_g (lw_at lw_m3 130 rfl) rfl
theorem q730 : (Jvm.Cond.code ({ cls := "java/util/Arrays", name := "copyOf", desc := "([Ljava/lang/Object;ILjava/lang/Class;)[Ljava/lang/Object;" } : Jvm.MethodName) prog_59_method_120_code (4 : Nat) (Option.some (Jvm.ClassFile.FieldType.array (Jvm.ClassFile.FieldType.object "java/lang/Object")))) ∈ lw_all := lw_g (lw_at lw_m3 131 rfl) rfl
theorem q731 : (Jvm.Cond.classLink "java/util/Arrays" (110 : Nat) "[Ljava/lang/Object;") ∈ lw_all := lw_g (lw_at lw_m3 132 rfl) rfl
theorem q732 : (Jvm.Cond.classLink "java/util/Arrays" (2 : Nat) "java/lang/Object") ∈ lw_all := lw_g (lw_at lw_m3 133 rfl) rfl
theorem q1285 : (Jvm.Cond.static ({ cls := "java/util/Arrays", name := "copyOfRange", desc := "([Ljava/lang/Object;IILjava/lang/Class;)[Ljava/lang/Object;" } : Jvm.MethodName)) ∈ lw_all := lw_g (lw_at lw_m5 206 rfl) rfl
theorem q1286 : (Jvm.Cond.code ({ cls := "java/util/Arrays", name := "copyOfRange", desc := "([Ljava/lang/Object;IILjava/lang/Class;)[Ljava/lang/Object;" } : Jvm.MethodName) prog_59_method_130_code (6 : Nat) (Option.some (Jvm.ClassFile.FieldType.array (Jvm.ClassFile.FieldType.object "java/lang/Object")))) ∈ lw_all := lw_g (lw_at lw_m5 207 rfl) rfl
/-! jdk/internal/util/Preconditions -/
set_option maxRecDepth 100000
def RJ15 : String := "jdk/internal/util/Preconditions"
abbrev cJ15_checkFromToIndex : ByteArray := prog_80_method_12_code
def yJ15_checkFromToIndex : MethodName := ⟨RJ15, "checkFromToIndex", "(IIILjava/util/function/BiFunction;)I"⟩
def dkwJ15_checkFromToIndex_0 : List UInt8 := [26, 155, 0, 13, 26, 27, 163, 0, 8, 27, 28, 164, 0, 11, 45, 26, 27, 28, 184, 0, 99, 191, 26, 172]
abbrev dktJ15_checkFromToIndex_0 : List UInt8 := dkwJ15_checkFromToIndex_0 ++ []
theorem dksJ15_checkFromToIndex_0 : cJ15_checkFromToIndex.data.toList.drop 0 = dktJ15_checkFromToIndex_0 := by decide +kernel
theorem dJ15_checkFromToIndex_0 : decode cJ15_checkFromToIndex 0 = .ok (.iload_n 0, 1) := dk_26 (dk_at dksJ15_checkFromToIndex_0 0 rfl rfl)
theorem dJ15_checkFromToIndex_1 : decode cJ15_checkFromToIndex 1 = .ok (.ifCond .lt 13, 3) := dk_155 0 13 (dk_at dksJ15_checkFromToIndex_0 1 rfl rfl)
theorem dJ15_checkFromToIndex_4 : decode cJ15_checkFromToIndex 4 = .ok (.iload_n 0, 1) := dk_26 (dk_at dksJ15_checkFromToIndex_0 4 rfl rfl)
theorem dJ15_checkFromToIndex_5 : decode cJ15_checkFromToIndex 5 = .ok (.iload_n 1, 1) := dk_27 (dk_at dksJ15_checkFromToIndex_0 5 rfl rfl)
theorem dJ15_checkFromToIndex_6 : decode cJ15_checkFromToIndex 6 = .ok (.if_icmp .gt 8, 3) := dk_163 0 8 (dk_at dksJ15_checkFromToIndex_0 6 rfl rfl)
theorem dJ15_checkFromToIndex_9 : decode cJ15_checkFromToIndex 9 = .ok (.iload_n 1, 1) := dk_27 (dk_at dksJ15_checkFromToIndex_0 9 rfl rfl)
theorem dJ15_checkFromToIndex_10 : decode cJ15_checkFromToIndex 10 = .ok (.iload_n 2, 1) := dk_28 (dk_at dksJ15_checkFromToIndex_0 10 rfl rfl)
theorem dJ15_checkFromToIndex_11 : decode cJ15_checkFromToIndex 11 = .ok (.if_icmp .le 11, 3) := dk_164 0 11 (dk_at dksJ15_checkFromToIndex_0 11 rfl rfl)
theorem dJ15_checkFromToIndex_14 : decode cJ15_checkFromToIndex 14 = .ok (.aload_n 3, 1) := dk_45 (dk_at dksJ15_checkFromToIndex_0 14 rfl rfl)
theorem dJ15_checkFromToIndex_15 : decode cJ15_checkFromToIndex 15 = .ok (.iload_n 0, 1) := dk_26 (dk_at dksJ15_checkFromToIndex_0 15 rfl rfl)
theorem dJ15_checkFromToIndex_16 : decode cJ15_checkFromToIndex 16 = .ok (.iload_n 1, 1) := dk_27 (dk_at dksJ15_checkFromToIndex_0 16 rfl rfl)
theorem dJ15_checkFromToIndex_17 : decode cJ15_checkFromToIndex 17 = .ok (.iload_n 2, 1) := dk_28 (dk_at dksJ15_checkFromToIndex_0 17 rfl rfl)
theorem dJ15_checkFromToIndex_18 : decode cJ15_checkFromToIndex 18 = .ok (.invokestatic 99, 3) := dk_184 0 99 (dk_at dksJ15_checkFromToIndex_0 18 rfl rfl)
theorem dJ15_checkFromToIndex_21 : decode cJ15_checkFromToIndex 21 = .ok (.athrow, 1) := dk_191 (dk_at dksJ15_checkFromToIndex_0 21 rfl rfl)
theorem dJ15_checkFromToIndex_22 : decode cJ15_checkFromToIndex 22 = .ok (.iload_n 0, 1) := dk_26 (dk_at dksJ15_checkFromToIndex_0 22 rfl rfl)
theorem dJ15_checkFromToIndex_23 : decode cJ15_checkFromToIndex 23 = .ok (.ireturn, 1) := dk_172 (dk_at dksJ15_checkFromToIndex_0 23 rfl rfl)
abbrev cJ15_checkFromIndexSize : ByteArray := prog_80_method_13_code
def yJ15_checkFromIndexSize : MethodName := ⟨RJ15, "checkFromIndexSize", "(IIILjava/util/function/BiFunction;)I"⟩
def dkwJ15_checkFromIndexSize_1 : List UInt8 := [172]
abbrev dktJ15_checkFromIndexSize_1 : List UInt8 := dkwJ15_checkFromIndexSize_1 ++ []
def dkwJ15_checkFromIndexSize_0 : List UInt8 := [28, 26, 128, 27, 128, 155, 0, 10, 27, 28, 26, 100, 164, 0, 11, 45, 26, 27, 28, 184, 0, 103, 191, 26]
abbrev dktJ15_checkFromIndexSize_0 : List UInt8 := dkwJ15_checkFromIndexSize_0 ++ dktJ15_checkFromIndexSize_1
theorem dksJ15_checkFromIndexSize_0 : cJ15_checkFromIndexSize.data.toList.drop 0 = dktJ15_checkFromIndexSize_0 := by decide +kernel
theorem dksJ15_checkFromIndexSize_1 : cJ15_checkFromIndexSize.data.toList.drop 24 = dktJ15_checkFromIndexSize_1 := dk_seg dksJ15_checkFromIndexSize_0 24 rfl rfl
theorem dJ15_checkFromIndexSize_0 : decode cJ15_checkFromIndexSize 0 = .ok (.iload_n 2, 1) := dk_28 (dk_at dksJ15_checkFromIndexSize_0 0 rfl rfl)
theorem dJ15_checkFromIndexSize_1 : decode cJ15_checkFromIndexSize 1 = .ok (.iload_n 0, 1) := dk_26 (dk_at dksJ15_checkFromIndexSize_0 1 rfl rfl)
theorem dJ15_checkFromIndexSize_2 : decode cJ15_checkFromIndexSize 2 = .ok (.ior, 1) := dk_128 (dk_at dksJ15_checkFromIndexSize_0 2 rfl rfl)
theorem dJ15_checkFromIndexSize_3 : decode cJ15_checkFromIndexSize 3 = .ok (.iload_n 1, 1) := dk_27 (dk_at dksJ15_checkFromIndexSize_0 3 rfl rfl)
theorem dJ15_checkFromIndexSize_4 : decode cJ15_checkFromIndexSize 4 = .ok (.ior, 1) := dk_128 (dk_at dksJ15_checkFromIndexSize_0 4 rfl rfl)
theorem dJ15_checkFromIndexSize_5 : decode cJ15_checkFromIndexSize 5 = .ok (.ifCond .lt 10, 3) := dk_155 0 10 (dk_at dksJ15_checkFromIndexSize_0 5 rfl rfl)
theorem dJ15_checkFromIndexSize_8 : decode cJ15_checkFromIndexSize 8 = .ok (.iload_n 1, 1) := dk_27 (dk_at dksJ15_checkFromIndexSize_0 8 rfl rfl)
theorem dJ15_checkFromIndexSize_9 : decode cJ15_checkFromIndexSize 9 = .ok (.iload_n 2, 1) := dk_28 (dk_at dksJ15_checkFromIndexSize_0 9 rfl rfl)
theorem dJ15_checkFromIndexSize_10 : decode cJ15_checkFromIndexSize 10 = .ok (.iload_n 0, 1) := dk_26 (dk_at dksJ15_checkFromIndexSize_0 10 rfl rfl)
theorem dJ15_checkFromIndexSize_11 : decode cJ15_checkFromIndexSize 11 = .ok (.isub, 1) := dk_100 (dk_at dksJ15_checkFromIndexSize_0 11 rfl rfl)
theorem dJ15_checkFromIndexSize_12 : decode cJ15_checkFromIndexSize 12 = .ok (.if_icmp .le 11, 3) := dk_164 0 11 (dk_at dksJ15_checkFromIndexSize_0 12 rfl rfl)
theorem dJ15_checkFromIndexSize_15 : decode cJ15_checkFromIndexSize 15 = .ok (.aload_n 3, 1) := dk_45 (dk_at dksJ15_checkFromIndexSize_0 15 rfl rfl)
theorem dJ15_checkFromIndexSize_16 : decode cJ15_checkFromIndexSize 16 = .ok (.iload_n 0, 1) := dk_26 (dk_at dksJ15_checkFromIndexSize_0 16 rfl rfl)
theorem dJ15_checkFromIndexSize_17 : decode cJ15_checkFromIndexSize 17 = .ok (.iload_n 1, 1) := dk_27 (dk_at dksJ15_checkFromIndexSize_0 17 rfl rfl)
theorem dJ15_checkFromIndexSize_18 : decode cJ15_checkFromIndexSize 18 = .ok (.iload_n 2, 1) := dk_28 (dk_at dksJ15_checkFromIndexSize_0 18 rfl rfl)
theorem dJ15_checkFromIndexSize_19 : decode cJ15_checkFromIndexSize 19 = .ok (.invokestatic 103, 3) := dk_184 0 103 (dk_at dksJ15_checkFromIndexSize_0 19 rfl rfl)
theorem dJ15_checkFromIndexSize_22 : decode cJ15_checkFromIndexSize 22 = .ok (.athrow, 1) := dk_191 (dk_at dksJ15_checkFromIndexSize_0 22 rfl rfl)
theorem dJ15_checkFromIndexSize_23 : decode cJ15_checkFromIndexSize 23 = .ok (.iload_n 0, 1) := dk_26 (dk_at dksJ15_checkFromIndexSize_0 23 rfl rfl)
theorem dJ15_checkFromIndexSize_24 : decode cJ15_checkFromIndexSize 24 = .ok (.ireturn, 1) := dk_172 (dk_at dksJ15_checkFromIndexSize_1 0 rfl rfl)
abbrev cJ15_checkIndex : ByteArray := prog_80_method_11_code
def yJ15_checkIndex : MethodName := ⟨RJ15, "checkIndex", "(IILjava/util/function/BiFunction;)I"⟩
def dkwJ15_checkIndex_0 : List UInt8 := [26, 155, 0, 8, 26, 27, 161, 0, 10, 44, 26, 27, 184, 0, 95, 191, 26, 172]
abbrev dktJ15_checkIndex_0 : List UInt8 := dkwJ15_checkIndex_0 ++ []
theorem dksJ15_checkIndex_0 : cJ15_checkIndex.data.toList.drop 0 = dktJ15_checkIndex_0 := by decide +kernel
theorem dJ15_checkIndex_0 : decode cJ15_checkIndex 0 = .ok (.iload_n 0, 1) := dk_26 (dk_at dksJ15_checkIndex_0 0 rfl rfl)
theorem dJ15_checkIndex_1 : decode cJ15_checkIndex 1 = .ok (.ifCond .lt 8, 3) := dk_155 0 8 (dk_at dksJ15_checkIndex_0 1 rfl rfl)
theorem dJ15_checkIndex_4 : decode cJ15_checkIndex 4 = .ok (.iload_n 0, 1) := dk_26 (dk_at dksJ15_checkIndex_0 4 rfl rfl)
theorem dJ15_checkIndex_5 : decode cJ15_checkIndex 5 = .ok (.iload_n 1, 1) := dk_27 (dk_at dksJ15_checkIndex_0 5 rfl rfl)
theorem dJ15_checkIndex_6 : decode cJ15_checkIndex 6 = .ok (.if_icmp .lt 10, 3) := dk_161 0 10 (dk_at dksJ15_checkIndex_0 6 rfl rfl)
theorem dJ15_checkIndex_9 : decode cJ15_checkIndex 9 = .ok (.aload_n 2, 1) := dk_44 (dk_at dksJ15_checkIndex_0 9 rfl rfl)
theorem dJ15_checkIndex_10 : decode cJ15_checkIndex 10 = .ok (.iload_n 0, 1) := dk_26 (dk_at dksJ15_checkIndex_0 10 rfl rfl)
theorem dJ15_checkIndex_11 : decode cJ15_checkIndex 11 = .ok (.iload_n 1, 1) := dk_27 (dk_at dksJ15_checkIndex_0 11 rfl rfl)
theorem dJ15_checkIndex_12 : decode cJ15_checkIndex 12 = .ok (.invokestatic 95, 3) := dk_184 0 95 (dk_at dksJ15_checkIndex_0 12 rfl rfl)
theorem dJ15_checkIndex_15 : decode cJ15_checkIndex 15 = .ok (.athrow, 1) := dk_191 (dk_at dksJ15_checkIndex_0 15 rfl rfl)
theorem dJ15_checkIndex_16 : decode cJ15_checkIndex 16 = .ok (.iload_n 0, 1) := dk_26 (dk_at dksJ15_checkIndex_0 16 rfl rfl)
theorem dJ15_checkIndex_17 : decode cJ15_checkIndex 17 = .ok (.ireturn, 1) := dk_172 (dk_at dksJ15_checkIndex_0 17 rfl rfl)
theorem q138 : (Jvm.Cond.initialized "jdk/internal/util/Preconditions") ∈ lw_all := lw_g (lw_at lw_m1 19 rfl) rfl
theorem q359 : (Jvm.Cond.laysStatic "jdk/internal/util/Preconditions" "SIOOBE_FORMATTER" "Ljava/util/function/BiFunction;") ∈ lw_tbl := lw_at lw_m2 0 rfl
theorem q361 : (Jvm.Cond.static ({ cls := "jdk/internal/util/Preconditions", name := "checkFromToIndex", desc := "(IIILjava/util/function/BiFunction;)I" } : Jvm.MethodName)) ∈ lw_all := lw_g (lw_at lw_m2 2 rfl) rfl
theorem q362 : (Jvm.Cond.code ({ cls := "jdk/internal/util/Preconditions", name := "checkFromToIndex", desc := "(IIILjava/util/function/BiFunction;)I" } : Jvm.MethodName) prog_80_method_12_code (4 : Nat) (Option.some Jvm.ClassFile.FieldType.int)) ∈ lw_all := lw_g (lw_at lw_m2 3 rfl) rfl
theorem q407 : (Jvm.Cond.static ({ cls := "jdk/internal/util/Preconditions", name := "checkFromIndexSize", desc := "(IIILjava/util/function/BiFunction;)I" } : Jvm.MethodName)) ∈ lw_all := lw_g (lw_at lw_m2 48 rfl) rfl
theorem q408 : (Jvm.Cond.code ({ cls := "jdk/internal/util/Preconditions", name := "checkFromIndexSize", desc := "(IIILjava/util/function/BiFunction;)I" } : Jvm.MethodName) prog_80_method_13_code (4 : Nat) (Option.some Jvm.ClassFile.FieldType.int)) ∈ lw_all := lw_g (lw_at lw_m2 49 rfl) rfl
theorem q1469 : (Jvm.Cond.static ({ cls := "jdk/internal/util/Preconditions", name := "checkIndex", desc := "(IILjava/util/function/BiFunction;)I" } : Jvm.MethodName)) ∈ lw_all := lw_g (lw_at lw_m6 150 rfl) rfl
theorem q1470 : (Jvm.Cond.code ({ cls := "jdk/internal/util/Preconditions", name := "checkIndex", desc := "(IILjava/util/function/BiFunction;)I" } : Jvm.MethodName) prog_80_method_11_code (3 : Nat) (Option.some Jvm.ClassFile.FieldType.int)) ∈ lw_all := lw_g (lw_at lw_m6 151 rfl) rfl
/-! java/lang/StringLatin1 -/
set_option maxRecDepth 100000
def RJ16 : String := "java/lang/StringLatin1"
abbrev cJ16_inflate : ByteArray := prog_46_method_50_code
def yJ16_inflate : MethodName := ⟨RJ16, "inflate", "([BI[BII)V"⟩
def dkwJ16_inflate_0 : List UInt8 := [42, 27, 44, 29, 21, 4, 184, 0, 240, 177]
abbrev dktJ16_inflate_0 : List UInt8 := dkwJ16_inflate_0 ++ []
theorem dksJ16_inflate_0 : cJ16_inflate.data.toList.drop 0 = dktJ16_inflate_0 := by decide +kernel
theorem dJ16_inflate_0 : decode cJ16_inflate 0 = .ok (.aload_n 0, 1) := dk_42 (dk_at dksJ16_inflate_0 0 rfl rfl)
theorem dJ16_inflate_1 : decode cJ16_inflate 1 = .ok (.iload_n 1, 1) := dk_27 (dk_at dksJ16_inflate_0 1 rfl rfl)
theorem dJ16_inflate_2 : decode cJ16_inflate 2 = .ok (.aload_n 2, 1) := dk_44 (dk_at dksJ16_inflate_0 2 rfl rfl)
theorem dJ16_inflate_3 : decode cJ16_inflate 3 = .ok (.iload_n 3, 1) := dk_29 (dk_at dksJ16_inflate_0 3 rfl rfl)
theorem dJ16_inflate_4 : decode cJ16_inflate 4 = .ok (.iload 4, 2) := dk_21 4 (dk_at dksJ16_inflate_0 4 rfl rfl)
theorem dJ16_inflate_6 : decode cJ16_inflate 6 = .ok (.invokestatic 240, 3) := dk_184 0 240 (dk_at dksJ16_inflate_0 6 rfl rfl)
theorem dJ16_inflate_9 : decode cJ16_inflate 9 = .ok (.return_, 1) := dk_177 (dk_at dksJ16_inflate_0 9 rfl rfl)
abbrev cJ16_hashCode : ByteArray := prog_46_method_21_code
def yJ16_hashCode : MethodName := ⟨RJ16, "hashCode", "([B)I"⟩
def dkwJ16_hashCode_2 : List UInt8 := [3, 167, 0, 22, 42, 3, 51, 17, 0, 255, 126, 167, 0, 12, 42, 3, 42, 190, 3, 7, 184, 0, 84, 172]
abbrev dktJ16_hashCode_2 : List UInt8 := dkwJ16_hashCode_2 ++ []
def dkwJ16_hashCode_1 : List UInt8 := [171, 0, 0, 0, 0, 40, 0, 0, 0, 2, 0, 0, 0, 0, 0, 0, 0, 26, 0, 0, 0, 1, 0, 0, 0, 30]
abbrev dktJ16_hashCode_1 : List UInt8 := dkwJ16_hashCode_1 ++ dktJ16_hashCode_2
def dkwJ16_hashCode_0 : List UInt8 := [42, 190]
abbrev dktJ16_hashCode_0 : List UInt8 := dkwJ16_hashCode_0 ++ dktJ16_hashCode_1
theorem dksJ16_hashCode_0 : cJ16_hashCode.data.toList.drop 0 = dktJ16_hashCode_0 := by decide +kernel
theorem dksJ16_hashCode_1 : cJ16_hashCode.data.toList.drop 2 = dktJ16_hashCode_1 := dk_seg dksJ16_hashCode_0 2 rfl rfl
theorem dksJ16_hashCode_2 : cJ16_hashCode.data.toList.drop 28 = dktJ16_hashCode_2 := dk_seg dksJ16_hashCode_1 26 rfl rfl
theorem dJ16_hashCode_0 : decode cJ16_hashCode 0 = .ok (.aload_n 0, 1) := dk_42 (dk_at dksJ16_hashCode_0 0 rfl rfl)
theorem dJ16_hashCode_1 : decode cJ16_hashCode 1 = .ok (.arraylength, 1) := dk_190 (dk_at dksJ16_hashCode_0 1 rfl rfl)
theorem dJ16_hashCode_2 : decode cJ16_hashCode 2 = .ok (.lookupswitch 40 #[(0, 26), (1, 30)], 26) := by decide +kernel
theorem dJ16_hashCode_28 : decode cJ16_hashCode 28 = .ok (.iconst 0, 1) := dk_3 (dk_at dksJ16_hashCode_2 0 rfl rfl)
theorem dJ16_hashCode_29 : decode cJ16_hashCode 29 = .ok (.goto 22, 3) := dk_167 0 22 (dk_at dksJ16_hashCode_2 1 rfl rfl)
theorem dJ16_hashCode_32 : decode cJ16_hashCode 32 = .ok (.aload_n 0, 1) := dk_42 (dk_at dksJ16_hashCode_2 4 rfl rfl)
theorem dJ16_hashCode_33 : decode cJ16_hashCode 33 = .ok (.iconst 0, 1) := dk_3 (dk_at dksJ16_hashCode_2 5 rfl rfl)
theorem dJ16_hashCode_34 : decode cJ16_hashCode 34 = .ok (.baload, 1) := dk_51 (dk_at dksJ16_hashCode_2 6 rfl rfl)
theorem dJ16_hashCode_35 : decode cJ16_hashCode 35 = .ok (.sipush 255, 3) := dk_17 0 255 (dk_at dksJ16_hashCode_2 7 rfl rfl)
theorem dJ16_hashCode_38 : decode cJ16_hashCode 38 = .ok (.iand, 1) := dk_126 (dk_at dksJ16_hashCode_2 10 rfl rfl)
theorem dJ16_hashCode_39 : decode cJ16_hashCode 39 = .ok (.goto 12, 3) := dk_167 0 12 (dk_at dksJ16_hashCode_2 11 rfl rfl)
theorem dJ16_hashCode_42 : decode cJ16_hashCode 42 = .ok (.aload_n 0, 1) := dk_42 (dk_at dksJ16_hashCode_2 14 rfl rfl)
theorem dJ16_hashCode_43 : decode cJ16_hashCode 43 = .ok (.iconst 0, 1) := dk_3 (dk_at dksJ16_hashCode_2 15 rfl rfl)
theorem dJ16_hashCode_44 : decode cJ16_hashCode 44 = .ok (.aload_n 0, 1) := dk_42 (dk_at dksJ16_hashCode_2 16 rfl rfl)
theorem dJ16_hashCode_45 : decode cJ16_hashCode 45 = .ok (.arraylength, 1) := dk_190 (dk_at dksJ16_hashCode_2 17 rfl rfl)
theorem dJ16_hashCode_46 : decode cJ16_hashCode 46 = .ok (.iconst 0, 1) := dk_3 (dk_at dksJ16_hashCode_2 18 rfl rfl)
theorem dJ16_hashCode_47 : decode cJ16_hashCode 47 = .ok (.iconst 4, 1) := dk_7 (dk_at dksJ16_hashCode_2 19 rfl rfl)
theorem dJ16_hashCode_48 : decode cJ16_hashCode 48 = .ok (.invokestatic 84, 3) := dk_184 0 84 (dk_at dksJ16_hashCode_2 20 rfl rfl)
theorem dJ16_hashCode_51 : decode cJ16_hashCode 51 = .ok (.ireturn, 1) := dk_172 (dk_at dksJ16_hashCode_2 23 rfl rfl)
abbrev cJ16_compareTo : ByteArray := prog_46_method_14_code
def yJ16_compareTo : MethodName := ⟨RJ16, "compareTo", "([B[B)I"⟩
def dkwJ16_compareTo_0 : List UInt8 := [42, 190, 61, 43, 190, 62, 42, 43, 28, 29, 184, 0, 34, 172]
abbrev dktJ16_compareTo_0 : List UInt8 := dkwJ16_compareTo_0 ++ []
theorem dksJ16_compareTo_0 : cJ16_compareTo.data.toList.drop 0 = dktJ16_compareTo_0 := by decide +kernel
theorem dJ16_compareTo_0 : decode cJ16_compareTo 0 = .ok (.aload_n 0, 1) := dk_42 (dk_at dksJ16_compareTo_0 0 rfl rfl)
theorem dJ16_compareTo_1 : decode cJ16_compareTo 1 = .ok (.arraylength, 1) := dk_190 (dk_at dksJ16_compareTo_0 1 rfl rfl)
theorem dJ16_compareTo_2 : decode cJ16_compareTo 2 = .ok (.istore_n 2, 1) := dk_61 (dk_at dksJ16_compareTo_0 2 rfl rfl)
theorem dJ16_compareTo_3 : decode cJ16_compareTo 3 = .ok (.aload_n 1, 1) := dk_43 (dk_at dksJ16_compareTo_0 3 rfl rfl)
theorem dJ16_compareTo_4 : decode cJ16_compareTo 4 = .ok (.arraylength, 1) := dk_190 (dk_at dksJ16_compareTo_0 4 rfl rfl)
theorem dJ16_compareTo_5 : decode cJ16_compareTo 5 = .ok (.istore_n 3, 1) := dk_62 (dk_at dksJ16_compareTo_0 5 rfl rfl)
theorem dJ16_compareTo_6 : decode cJ16_compareTo 6 = .ok (.aload_n 0, 1) := dk_42 (dk_at dksJ16_compareTo_0 6 rfl rfl)
theorem dJ16_compareTo_7 : decode cJ16_compareTo 7 = .ok (.aload_n 1, 1) := dk_43 (dk_at dksJ16_compareTo_0 7 rfl rfl)
theorem dJ16_compareTo_8 : decode cJ16_compareTo 8 = .ok (.iload_n 2, 1) := dk_28 (dk_at dksJ16_compareTo_0 8 rfl rfl)
theorem dJ16_compareTo_9 : decode cJ16_compareTo 9 = .ok (.iload_n 3, 1) := dk_29 (dk_at dksJ16_compareTo_0 9 rfl rfl)
theorem dJ16_compareTo_10 : decode cJ16_compareTo 10 = .ok (.invokestatic 34, 3) := dk_184 0 34 (dk_at dksJ16_compareTo_0 10 rfl rfl)
theorem dJ16_compareTo_13 : decode cJ16_compareTo 13 = .ok (.ireturn, 1) := dk_172 (dk_at dksJ16_compareTo_0 13 rfl rfl)
abbrev cJ16_compareTo_2 : ByteArray := prog_46_method_15_code
def yJ16_compareTo_2 : MethodName := ⟨RJ16, "compareTo", "([B[BII)I"⟩
def dkwJ16_compareTo_2_1 : List UInt8 := [167, 0, 16, 42, 21, 5, 184, 0, 50, 43, 21, 5, 184, 0, 50, 100, 172]
abbrev dktJ16_compareTo_2_1 : List UInt8 := dkwJ16_compareTo_2_1 ++ []
def dkwJ16_compareTo_2_0 : List UInt8 := [28, 29, 184, 0, 38, 54, 4, 42, 43, 21, 4, 184, 0, 44, 54, 5, 21, 5, 156, 0, 9, 28, 29, 100]
abbrev dktJ16_compareTo_2_0 : List UInt8 := dkwJ16_compareTo_2_0 ++ dktJ16_compareTo_2_1
theorem dksJ16_compareTo_2_0 : cJ16_compareTo_2.data.toList.drop 0 = dktJ16_compareTo_2_0 := by decide +kernel
theorem dksJ16_compareTo_2_1 : cJ16_compareTo_2.data.toList.drop 24 = dktJ16_compareTo_2_1 := dk_seg dksJ16_compareTo_2_0 24 rfl rfl
theorem dJ16_compareTo_2_0 : decode cJ16_compareTo_2 0 = .ok (.iload_n 2, 1) := dk_28 (dk_at dksJ16_compareTo_2_0 0 rfl rfl)
theorem dJ16_compareTo_2_1 : decode cJ16_compareTo_2 1 = .ok (.iload_n 3, 1) := dk_29 (dk_at dksJ16_compareTo_2_0 1 rfl rfl)
theorem dJ16_compareTo_2_2 : decode cJ16_compareTo_2 2 = .ok (.invokestatic 38, 3) := dk_184 0 38 (dk_at dksJ16_compareTo_2_0 2 rfl rfl)
theorem dJ16_compareTo_2_5 : decode cJ16_compareTo_2 5 = .ok (.istore 4, 2) := dk_54 4 (dk_at dksJ16_compareTo_2_0 5 rfl rfl)
theorem dJ16_compareTo_2_7 : decode cJ16_compareTo_2 7 = .ok (.aload_n 0, 1) := dk_42 (dk_at dksJ16_compareTo_2_0 7 rfl rfl)
theorem dJ16_compareTo_2_8 : decode cJ16_compareTo_2 8 = .ok (.aload_n 1, 1) := dk_43 (dk_at dksJ16_compareTo_2_0 8 rfl rfl)
theorem dJ16_compareTo_2_9 : decode cJ16_compareTo_2 9 = .ok (.iload 4, 2) := dk_21 4 (dk_at dksJ16_compareTo_2_0 9 rfl rfl)
theorem dJ16_compareTo_2_11 : decode cJ16_compareTo_2 11 = .ok (.invokestatic 44, 3) := dk_184 0 44 (dk_at dksJ16_compareTo_2_0 11 rfl rfl)
theorem dJ16_compareTo_2_14 : decode cJ16_compareTo_2 14 = .ok (.istore 5, 2) := dk_54 5 (dk_at dksJ16_compareTo_2_0 14 rfl rfl)
theorem dJ16_compareTo_2_16 : decode cJ16_compareTo_2 16 = .ok (.iload 5, 2) := dk_21 5 (dk_at dksJ16_compareTo_2_0 16 rfl rfl)
theorem dJ16_compareTo_2_18 : decode cJ16_compareTo_2 18 = .ok (.ifCond .ge 9, 3) := dk_156 0 9 (dk_at dksJ16_compareTo_2_0 18 rfl rfl)
theorem dJ16_compareTo_2_21 : decode cJ16_compareTo_2 21 = .ok (.iload_n 2, 1) := dk_28 (dk_at dksJ16_compareTo_2_0 21 rfl rfl)
theorem dJ16_compareTo_2_22 : decode cJ16_compareTo_2 22 = .ok (.iload_n 3, 1) := dk_29 (dk_at dksJ16_compareTo_2_0 22 rfl rfl)
theorem dJ16_compareTo_2_23 : decode cJ16_compareTo_2 23 = .ok (.isub, 1) := dk_100 (dk_at dksJ16_compareTo_2_0 23 rfl rfl)
theorem dJ16_compareTo_2_24 : decode cJ16_compareTo_2 24 = .ok (.goto 16, 3) := dk_167 0 16 (dk_at dksJ16_compareTo_2_1 0 rfl rfl)
theorem dJ16_compareTo_2_27 : decode cJ16_compareTo_2 27 = .ok (.aload_n 0, 1) := dk_42 (dk_at dksJ16_compareTo_2_1 3 rfl rfl)
theorem dJ16_compareTo_2_28 : decode cJ16_compareTo_2 28 = .ok (.iload 5, 2) := dk_21 5 (dk_at dksJ16_compareTo_2_1 4 rfl rfl)
theorem dJ16_compareTo_2_30 : decode cJ16_compareTo_2 30 = .ok (.invokestatic 50, 3) := dk_184 0 50 (dk_at dksJ16_compareTo_2_1 6 rfl rfl)
theorem dJ16_compareTo_2_33 : decode cJ16_compareTo_2 33 = .ok (.aload_n 1, 1) := dk_43 (dk_at dksJ16_compareTo_2_1 9 rfl rfl)
theorem dJ16_compareTo_2_34 : decode cJ16_compareTo_2 34 = .ok (.iload 5, 2) := dk_21 5 (dk_at dksJ16_compareTo_2_1 10 rfl rfl)
theorem dJ16_compareTo_2_36 : decode cJ16_compareTo_2 36 = .ok (.invokestatic 50, 3) := dk_184 0 50 (dk_at dksJ16_compareTo_2_1 12 rfl rfl)
theorem dJ16_compareTo_2_39 : decode cJ16_compareTo_2 39 = .ok (.isub, 1) := dk_100 (dk_at dksJ16_compareTo_2_1 15 rfl rfl)
theorem dJ16_compareTo_2_40 : decode cJ16_compareTo_2 40 = .ok (.ireturn, 1) := dk_172 (dk_at dksJ16_compareTo_2_1 16 rfl rfl)
abbrev cJ16_getChar : ByteArray := prog_46_method_44_code
def yJ16_getChar : MethodName := ⟨RJ16, "getChar", "([BI)C"⟩
def dkwJ16_getChar_0 : List UInt8 := [42, 27, 51, 17, 0, 255, 126, 146, 172]
abbrev dktJ16_getChar_0 : List UInt8 := dkwJ16_getChar_0 ++ []
theorem dksJ16_getChar_0 : cJ16_getChar.data.toList.drop 0 = dktJ16_getChar_0 := by decide +kernel
theorem dJ16_getChar_0 : decode cJ16_getChar 0 = .ok (.aload_n 0, 1) := dk_42 (dk_at dksJ16_getChar_0 0 rfl rfl)
theorem dJ16_getChar_1 : decode cJ16_getChar 1 = .ok (.iload_n 1, 1) := dk_27 (dk_at dksJ16_getChar_0 1 rfl rfl)
theorem dJ16_getChar_2 : decode cJ16_getChar 2 = .ok (.baload, 1) := dk_51 (dk_at dksJ16_getChar_0 2 rfl rfl)
theorem dJ16_getChar_3 : decode cJ16_getChar 3 = .ok (.sipush 255, 3) := dk_17 0 255 (dk_at dksJ16_getChar_0 3 rfl rfl)
theorem dJ16_getChar_6 : decode cJ16_getChar 6 = .ok (.iand, 1) := dk_126 (dk_at dksJ16_getChar_0 6 rfl rfl)
theorem dJ16_getChar_7 : decode cJ16_getChar 7 = .ok (.i2c, 1) := dk_146 (dk_at dksJ16_getChar_0 7 rfl rfl)
theorem dJ16_getChar_8 : decode cJ16_getChar 8 = .ok (.ireturn, 1) := dk_172 (dk_at dksJ16_getChar_0 8 rfl rfl)
abbrev cJ16_compareToUTF16 : ByteArray := prog_46_method_16_code
def yJ16_compareToUTF16 : MethodName := ⟨RJ16, "compareToUTF16", "([B[B)I"⟩
def dkwJ16_compareToUTF16_0 : List UInt8 := [42, 184, 0, 54, 61, 43, 184, 0, 58, 62, 42, 43, 28, 29, 184, 0, 59, 172]
abbrev dktJ16_compareToUTF16_0 : List UInt8 := dkwJ16_compareToUTF16_0 ++ []
theorem dksJ16_compareToUTF16_0 : cJ16_compareToUTF16.data.toList.drop 0 = dktJ16_compareToUTF16_0 := by decide +kernel
theorem dJ16_compareToUTF16_0 : decode cJ16_compareToUTF16 0 = .ok (.aload_n 0, 1) := dk_42 (dk_at dksJ16_compareToUTF16_0 0 rfl rfl)
theorem dJ16_compareToUTF16_1 : decode cJ16_compareToUTF16 1 = .ok (.invokestatic 54, 3) := dk_184 0 54 (dk_at dksJ16_compareToUTF16_0 1 rfl rfl)
theorem dJ16_compareToUTF16_4 : decode cJ16_compareToUTF16 4 = .ok (.istore_n 2, 1) := dk_61 (dk_at dksJ16_compareToUTF16_0 4 rfl rfl)
theorem dJ16_compareToUTF16_5 : decode cJ16_compareToUTF16 5 = .ok (.aload_n 1, 1) := dk_43 (dk_at dksJ16_compareToUTF16_0 5 rfl rfl)
theorem dJ16_compareToUTF16_6 : decode cJ16_compareToUTF16 6 = .ok (.invokestatic 58, 3) := dk_184 0 58 (dk_at dksJ16_compareToUTF16_0 6 rfl rfl)
theorem dJ16_compareToUTF16_9 : decode cJ16_compareToUTF16 9 = .ok (.istore_n 3, 1) := dk_62 (dk_at dksJ16_compareToUTF16_0 9 rfl rfl)
theorem dJ16_compareToUTF16_10 : decode cJ16_compareToUTF16 10 = .ok (.aload_n 0, 1) := dk_42 (dk_at dksJ16_compareToUTF16_0 10 rfl rfl)
theorem dJ16_compareToUTF16_11 : decode cJ16_compareToUTF16 11 = .ok (.aload_n 1, 1) := dk_43 (dk_at dksJ16_compareToUTF16_0 11 rfl rfl)
theorem dJ16_compareToUTF16_12 : decode cJ16_compareToUTF16 12 = .ok (.iload_n 2, 1) := dk_28 (dk_at dksJ16_compareToUTF16_0 12 rfl rfl)
theorem dJ16_compareToUTF16_13 : decode cJ16_compareToUTF16 13 = .ok (.iload_n 3, 1) := dk_29 (dk_at dksJ16_compareToUTF16_0 13 rfl rfl)
theorem dJ16_compareToUTF16_14 : decode cJ16_compareToUTF16 14 = .ok (.invokestatic 59, 3) := dk_184 0 59 (dk_at dksJ16_compareToUTF16_0 14 rfl rfl)
theorem dJ16_compareToUTF16_17 : decode cJ16_compareToUTF16 17 = .ok (.ireturn, 1) := dk_172 (dk_at dksJ16_compareToUTF16_0 17 rfl rfl)
abbrev cJ16_length : ByteArray := prog_46_method_5_code
def yJ16_length : MethodName := ⟨RJ16, "length", "([B)I"⟩
theorem dJ16_length_0 : decode cJ16_length 0 = .ok (.aload_n 0, 1) := by decide +kernel
theorem dJ16_length_1 : decode cJ16_length 1 = .ok (.arraylength, 1) := by decide +kernel
theorem dJ16_length_2 : decode cJ16_length 2 = .ok (.ireturn, 1) := by decide +kernel
abbrev cJ16_compareToUTF16Values : ByteArray := prog_46_method_18_code
def yJ16_compareToUTF16Values : MethodName := ⟨RJ16, "compareToUTF16Values", "([B[BII)I"⟩
def dkwJ16_compareToUTF16Values_2 : List UInt8 := [132, 5, 1, 167, 255, 217, 28, 29, 100, 172]
abbrev dktJ16_compareToUTF16Values_2 : List UInt8 := dkwJ16_compareToUTF16Values_2 ++ []
def dkwJ16_compareToUTF16Values_1 : List UInt8 := [54, 6, 43, 21, 5, 184, 0, 65, 54, 7, 21, 6, 21, 7, 159, 0, 9, 21, 6, 21, 7, 100, 172]
abbrev dktJ16_compareToUTF16Values_1 : List UInt8 := dkwJ16_compareToUTF16Values_1 ++ dktJ16_compareToUTF16Values_2
def dkwJ16_compareToUTF16Values_0 : List UInt8 := [28, 29, 184, 0, 38, 54, 4, 3, 54, 5, 21, 5, 21, 4, 162, 0, 38, 42, 21, 5, 184, 0, 50]
abbrev dktJ16_compareToUTF16Values_0 : List UInt8 := dkwJ16_compareToUTF16Values_0 ++ dktJ16_compareToUTF16Values_1
theorem dksJ16_compareToUTF16Values_0 : cJ16_compareToUTF16Values.data.toList.drop 0 = dktJ16_compareToUTF16Values_0 := by decide +kernel
theorem dksJ16_compareToUTF16Values_1 : cJ16_compareToUTF16Values.data.toList.drop 23 = dktJ16_compareToUTF16Values_1 := dk_seg dksJ16_compareToUTF16Values_0 23 rfl rfl
theorem dksJ16_compareToUTF16Values_2 : cJ16_compareToUTF16Values.data.toList.drop 46 = dktJ16_compareToUTF16Values_2 := dk_seg dksJ16_compareToUTF16Values_1 23 rfl rfl
theorem dJ16_compareToUTF16Values_0 : decode cJ16_compareToUTF16Values 0 = .ok (.iload_n 2, 1) := dk_28 (dk_at dksJ16_compareToUTF16Values_0 0 rfl rfl)
theorem dJ16_compareToUTF16Values_1 : decode cJ16_compareToUTF16Values 1 = .ok (.iload_n 3, 1) := dk_29 (dk_at dksJ16_compareToUTF16Values_0 1 rfl rfl)
theorem dJ16_compareToUTF16Values_2 : decode cJ16_compareToUTF16Values 2 = .ok (.invokestatic 38, 3) := dk_184 0 38 (dk_at dksJ16_compareToUTF16Values_0 2 rfl rfl)
theorem dJ16_compareToUTF16Values_5 : decode cJ16_compareToUTF16Values 5 = .ok (.istore 4, 2) := dk_54 4 (dk_at dksJ16_compareToUTF16Values_0 5 rfl rfl)
theorem dJ16_compareToUTF16Values_7 : decode cJ16_compareToUTF16Values 7 = .ok (.iconst 0, 1) := dk_3 (dk_at dksJ16_compareToUTF16Values_0 7 rfl rfl)
theorem dJ16_compareToUTF16Values_8 : decode cJ16_compareToUTF16Values 8 = .ok (.istore 5, 2) := dk_54 5 (dk_at dksJ16_compareToUTF16Values_0 8 rfl rfl)
theorem dJ16_compareToUTF16Values_10 : decode cJ16_compareToUTF16Values 10 = .ok (.iload 5, 2) := dk_21 5 (dk_at dksJ16_compareToUTF16Values_0 10 rfl rfl)
theorem dJ16_compareToUTF16Values_12 : decode cJ16_compareToUTF16Values 12 = .ok (.iload 4, 2) := dk_21 4 (dk_at dksJ16_compareToUTF16Values_0 12 rfl rfl)
theorem dJ16_compareToUTF16Values_14 : decode cJ16_compareToUTF16Values 14 = .ok (.if_icmp .ge 38, 3) := dk_162 0 38 (dk_at dksJ16_compareToUTF16Values_0 14 rfl rfl)
theorem dJ16_compareToUTF16Values_17 : decode cJ16_compareToUTF16Values 17 = .ok (.aload_n 0, 1) := dk_42 (dk_at dksJ16_compareToUTF16Values_0 17 rfl rfl)
theorem dJ16_compareToUTF16Values_18 : decode cJ16_compareToUTF16Values 18 = .ok (.iload 5, 2) := dk_21 5 (dk_at dksJ16_compareToUTF16Values_0 18 rfl rfl)
theorem dJ16_compareToUTF16Values_20 : decode cJ16_compareToUTF16Values 20 = .ok (.invokestatic 50, 3) := dk_184 0 50 (dk_at dksJ16_compareToUTF16Values_0 20 rfl rfl)
theorem dJ16_compareToUTF16Values_23 : decode cJ16_compareToUTF16Values 23 = .ok (.istore 6, 2) := dk_54 6 (dk_at dksJ16_compareToUTF16Values_1 0 rfl rfl)
theorem dJ16_compareToUTF16Values_25 : decode cJ16_compareToUTF16Values 25 = .ok (.aload_n 1, 1) := dk_43 (dk_at dksJ16_compareToUTF16Values_1 2 rfl rfl)
theorem dJ16_compareToUTF16Values_26 : decode cJ16_compareToUTF16Values 26 = .ok (.iload 5, 2) := dk_21 5 (dk_at dksJ16_compareToUTF16Values_1 3 rfl rfl)
theorem dJ16_compareToUTF16Values_28 : decode cJ16_compareToUTF16Values 28 = .ok (.invokestatic 65, 3) := dk_184 0 65 (dk_at dksJ16_compareToUTF16Values_1 5 rfl rfl)
theorem dJ16_compareToUTF16Values_31 : decode cJ16_compareToUTF16Values 31 = .ok (.istore 7, 2) := dk_54 7 (dk_at dksJ16_compareToUTF16Values_1 8 rfl rfl)
theorem dJ16_compareToUTF16Values_33 : decode cJ16_compareToUTF16Values 33 = .ok (.iload 6, 2) := dk_21 6 (dk_at dksJ16_compareToUTF16Values_1 10 rfl rfl)
theorem dJ16_compareToUTF16Values_35 : decode cJ16_compareToUTF16Values 35 = .ok (.iload 7, 2) := dk_21 7 (dk_at dksJ16_compareToUTF16Values_1 12 rfl rfl)
theorem dJ16_compareToUTF16Values_37 : decode cJ16_compareToUTF16Values 37 = .ok (.if_icmp .eq 9, 3) := dk_159 0 9 (dk_at dksJ16_compareToUTF16Values_1 14 rfl rfl)
theorem dJ16_compareToUTF16Values_40 : decode cJ16_compareToUTF16Values 40 = .ok (.iload 6, 2) := dk_21 6 (dk_at dksJ16_compareToUTF16Values_1 17 rfl rfl)
theorem dJ16_compareToUTF16Values_42 : decode cJ16_compareToUTF16Values 42 = .ok (.iload 7, 2) := dk_21 7 (dk_at dksJ16_compareToUTF16Values_1 19 rfl rfl)
theorem dJ16_compareToUTF16Values_44 : decode cJ16_compareToUTF16Values 44 = .ok (.isub, 1) := dk_100 (dk_at dksJ16_compareToUTF16Values_1 21 rfl rfl)
theorem dJ16_compareToUTF16Values_45 : decode cJ16_compareToUTF16Values 45 = .ok (.ireturn, 1) := dk_172 (dk_at dksJ16_compareToUTF16Values_1 22 rfl rfl)
theorem dJ16_compareToUTF16Values_46 : decode cJ16_compareToUTF16Values 46 = .ok (.iinc 5 1, 3) := dk_132 5 1 (dk_at dksJ16_compareToUTF16Values_2 0 rfl rfl)
theorem dJ16_compareToUTF16Values_49 : decode cJ16_compareToUTF16Values 49 = .ok (.goto (-39), 3) := dk_167 255 217 (dk_at dksJ16_compareToUTF16Values_2 3 rfl rfl)
theorem dJ16_compareToUTF16Values_52 : decode cJ16_compareToUTF16Values 52 = .ok (.iload_n 2, 1) := dk_28 (dk_at dksJ16_compareToUTF16Values_2 6 rfl rfl)
theorem dJ16_compareToUTF16Values_53 : decode cJ16_compareToUTF16Values 53 = .ok (.iload_n 3, 1) := dk_29 (dk_at dksJ16_compareToUTF16Values_2 7 rfl rfl)
theorem dJ16_compareToUTF16Values_54 : decode cJ16_compareToUTF16Values 54 = .ok (.isub, 1) := dk_100 (dk_at dksJ16_compareToUTF16Values_2 8 rfl rfl)
theorem dJ16_compareToUTF16Values_55 : decode cJ16_compareToUTF16Values 55 = .ok (.ireturn, 1) := dk_172 (dk_at dksJ16_compareToUTF16Values_2 9 rfl rfl)
abbrev cJ16_compareToUTF16_2 : ByteArray := prog_46_method_17_code
def yJ16_compareToUTF16_2 : MethodName := ⟨RJ16, "compareToUTF16", "([B[BII)I"⟩
def dkwJ16_compareToUTF16_2_0 : List UInt8 := [28, 42, 184, 0, 54, 184, 0, 62, 29, 43, 184, 0, 58, 184, 0, 62, 42, 43, 28, 29, 184, 0, 59, 172]
abbrev dktJ16_compareToUTF16_2_0 : List UInt8 := dkwJ16_compareToUTF16_2_0 ++ []
theorem dksJ16_compareToUTF16_2_0 : cJ16_compareToUTF16_2.data.toList.drop 0 = dktJ16_compareToUTF16_2_0 := by decide +kernel
theorem dJ16_compareToUTF16_2_0 : decode cJ16_compareToUTF16_2 0 = .ok (.iload_n 2, 1) := dk_28 (dk_at dksJ16_compareToUTF16_2_0 0 rfl rfl)
theorem dJ16_compareToUTF16_2_1 : decode cJ16_compareToUTF16_2 1 = .ok (.aload_n 0, 1) := dk_42 (dk_at dksJ16_compareToUTF16_2_0 1 rfl rfl)
theorem dJ16_compareToUTF16_2_2 : decode cJ16_compareToUTF16_2 2 = .ok (.invokestatic 54, 3) := dk_184 0 54 (dk_at dksJ16_compareToUTF16_2_0 2 rfl rfl)
theorem dJ16_compareToUTF16_2_5 : decode cJ16_compareToUTF16_2 5 = .ok (.invokestatic 62, 3) := dk_184 0 62 (dk_at dksJ16_compareToUTF16_2_0 5 rfl rfl)
theorem dJ16_compareToUTF16_2_8 : decode cJ16_compareToUTF16_2 8 = .ok (.iload_n 3, 1) := dk_29 (dk_at dksJ16_compareToUTF16_2_0 8 rfl rfl)
theorem dJ16_compareToUTF16_2_9 : decode cJ16_compareToUTF16_2 9 = .ok (.aload_n 1, 1) := dk_43 (dk_at dksJ16_compareToUTF16_2_0 9 rfl rfl)
theorem dJ16_compareToUTF16_2_10 : decode cJ16_compareToUTF16_2 10 = .ok (.invokestatic 58, 3) := dk_184 0 58 (dk_at dksJ16_compareToUTF16_2_0 10 rfl rfl)
theorem dJ16_compareToUTF16_2_13 : decode cJ16_compareToUTF16_2 13 = .ok (.invokestatic 62, 3) := dk_184 0 62 (dk_at dksJ16_compareToUTF16_2_0 13 rfl rfl)
theorem dJ16_compareToUTF16_2_16 : decode cJ16_compareToUTF16_2 16 = .ok (.aload_n 0, 1) := dk_42 (dk_at dksJ16_compareToUTF16_2_0 16 rfl rfl)
theorem dJ16_compareToUTF16_2_17 : decode cJ16_compareToUTF16_2 17 = .ok (.aload_n 1, 1) := dk_43 (dk_at dksJ16_compareToUTF16_2_0 17 rfl rfl)
theorem dJ16_compareToUTF16_2_18 : decode cJ16_compareToUTF16_2 18 = .ok (.iload_n 2, 1) := dk_28 (dk_at dksJ16_compareToUTF16_2_0 18 rfl rfl)
theorem dJ16_compareToUTF16_2_19 : decode cJ16_compareToUTF16_2 19 = .ok (.iload_n 3, 1) := dk_29 (dk_at dksJ16_compareToUTF16_2_0 19 rfl rfl)
theorem dJ16_compareToUTF16_2_20 : decode cJ16_compareToUTF16_2 20 = .ok (.invokestatic 59, 3) := dk_184 0 59 (dk_at dksJ16_compareToUTF16_2_0 20 rfl rfl)
theorem dJ16_compareToUTF16_2_23 : decode cJ16_compareToUTF16_2 23 = .ok (.ireturn, 1) := dk_172 (dk_at dksJ16_compareToUTF16_2_0 23 rfl rfl)
abbrev cJ16_equals : ByteArray := prog_46_method_13_code
def yJ16_equals : MethodName := ⟨RJ16, "equals", "([B[B)Z"⟩
def dkwJ16_equals_1 : List UInt8 := [3, 172, 132, 2, 1, 167, 255, 236, 4, 172, 3, 172]
abbrev dktJ16_equals_1 : List UInt8 := dkwJ16_equals_1 ++ []
def dkwJ16_equals_0 : List UInt8 := [42, 190, 43, 190, 160, 0, 30, 3, 61, 28, 42, 190, 162, 0, 20, 42, 28, 51, 43, 28, 51, 159, 0, 5]
abbrev dktJ16_equals_0 : List UInt8 := dkwJ16_equals_0 ++ dktJ16_equals_1
theorem dksJ16_equals_0 : cJ16_equals.data.toList.drop 0 = dktJ16_equals_0 := by decide +kernel
theorem dksJ16_equals_1 : cJ16_equals.data.toList.drop 24 = dktJ16_equals_1 := dk_seg dksJ16_equals_0 24 rfl rfl
theorem dJ16_equals_0 : decode cJ16_equals 0 = .ok (.aload_n 0, 1) := dk_42 (dk_at dksJ16_equals_0 0 rfl rfl)
theorem dJ16_equals_1 : decode cJ16_equals 1 = .ok (.arraylength, 1) := dk_190 (dk_at dksJ16_equals_0 1 rfl rfl)
theorem dJ16_equals_2 : decode cJ16_equals 2 = .ok (.aload_n 1, 1) := dk_43 (dk_at dksJ16_equals_0 2 rfl rfl)
theorem dJ16_equals_3 : decode cJ16_equals 3 = .ok (.arraylength, 1) := dk_190 (dk_at dksJ16_equals_0 3 rfl rfl)
theorem dJ16_equals_4 : decode cJ16_equals 4 = .ok (.if_icmp .ne 30, 3) := dk_160 0 30 (dk_at dksJ16_equals_0 4 rfl rfl)
theorem dJ16_equals_7 : decode cJ16_equals 7 = .ok (.iconst 0, 1) := dk_3 (dk_at dksJ16_equals_0 7 rfl rfl)
theorem dJ16_equals_8 : decode cJ16_equals 8 = .ok (.istore_n 2, 1) := dk_61 (dk_at dksJ16_equals_0 8 rfl rfl)
theorem dJ16_equals_9 : decode cJ16_equals 9 = .ok (.iload_n 2, 1) := dk_28 (dk_at dksJ16_equals_0 9 rfl rfl)
theorem dJ16_equals_10 : decode cJ16_equals 10 = .ok (.aload_n 0, 1) := dk_42 (dk_at dksJ16_equals_0 10 rfl rfl)
theorem dJ16_equals_11 : decode cJ16_equals 11 = .ok (.arraylength, 1) := dk_190 (dk_at dksJ16_equals_0 11 rfl rfl)
theorem dJ16_equals_12 : decode cJ16_equals 12 = .ok (.if_icmp .ge 20, 3) := dk_162 0 20 (dk_at dksJ16_equals_0 12 rfl rfl)
theorem dJ16_equals_15 : decode cJ16_equals 15 = .ok (.aload_n 0, 1) := dk_42 (dk_at dksJ16_equals_0 15 rfl rfl)
theorem dJ16_equals_16 : decode cJ16_equals 16 = .ok (.iload_n 2, 1) := dk_28 (dk_at dksJ16_equals_0 16 rfl rfl)
theorem dJ16_equals_17 : decode cJ16_equals 17 = .ok (.baload, 1) := dk_51 (dk_at dksJ16_equals_0 17 rfl rfl)
theorem dJ16_equals_18 : decode cJ16_equals 18 = .ok (.aload_n 1, 1) := dk_43 (dk_at dksJ16_equals_0 18 rfl rfl)
theorem dJ16_equals_19 : decode cJ16_equals 19 = .ok (.iload_n 2, 1) := dk_28 (dk_at dksJ16_equals_0 19 rfl rfl)
theorem dJ16_equals_20 : decode cJ16_equals 20 = .ok (.baload, 1) := dk_51 (dk_at dksJ16_equals_0 20 rfl rfl)
theorem dJ16_equals_21 : decode cJ16_equals 21 = .ok (.if_icmp .eq 5, 3) := dk_159 0 5 (dk_at dksJ16_equals_0 21 rfl rfl)
theorem dJ16_equals_24 : decode cJ16_equals 24 = .ok (.iconst 0, 1) := dk_3 (dk_at dksJ16_equals_1 0 rfl rfl)
theorem dJ16_equals_25 : decode cJ16_equals 25 = .ok (.ireturn, 1) := dk_172 (dk_at dksJ16_equals_1 1 rfl rfl)
theorem dJ16_equals_26 : decode cJ16_equals 26 = .ok (.iinc 2 1, 3) := dk_132 2 1 (dk_at dksJ16_equals_1 2 rfl rfl)
theorem dJ16_equals_29 : decode cJ16_equals 29 = .ok (.goto (-20), 3) := dk_167 255 236 (dk_at dksJ16_equals_1 5 rfl rfl)
theorem dJ16_equals_32 : decode cJ16_equals 32 = .ok (.iconst 1, 1) := dk_4 (dk_at dksJ16_equals_1 8 rfl rfl)
theorem dJ16_equals_33 : decode cJ16_equals 33 = .ok (.ireturn, 1) := dk_172 (dk_at dksJ16_equals_1 9 rfl rfl)
theorem dJ16_equals_34 : decode cJ16_equals 34 = .ok (.iconst 0, 1) := dk_3 (dk_at dksJ16_equals_1 10 rfl rfl)
theorem dJ16_equals_35 : decode cJ16_equals 35 = .ok (.ireturn, 1) := dk_172 (dk_at dksJ16_equals_1 11 rfl rfl)
abbrev cJ16_charAt : ByteArray := prog_46_method_2_code
def yJ16_charAt : MethodName := ⟨RJ16, "charAt", "([BI)C"⟩
def dkwJ16_charAt_0 : List UInt8 := [27, 42, 190, 184, 0, 9, 42, 27, 51, 17, 0, 255, 126, 146, 172]
abbrev dktJ16_charAt_0 : List UInt8 := dkwJ16_charAt_0 ++ []
theorem dksJ16_charAt_0 : cJ16_charAt.data.toList.drop 0 = dktJ16_charAt_0 := by decide +kernel
theorem dJ16_charAt_0 : decode cJ16_charAt 0 = .ok (.iload_n 1, 1) := dk_27 (dk_at dksJ16_charAt_0 0 rfl rfl)
theorem dJ16_charAt_1 : decode cJ16_charAt 1 = .ok (.aload_n 0, 1) := dk_42 (dk_at dksJ16_charAt_0 1 rfl rfl)
theorem dJ16_charAt_2 : decode cJ16_charAt 2 = .ok (.arraylength, 1) := dk_190 (dk_at dksJ16_charAt_0 2 rfl rfl)
theorem dJ16_charAt_3 : decode cJ16_charAt 3 = .ok (.invokestatic 9, 3) := dk_184 0 9 (dk_at dksJ16_charAt_0 3 rfl rfl)
theorem dJ16_charAt_6 : decode cJ16_charAt 6 = .ok (.aload_n 0, 1) := dk_42 (dk_at dksJ16_charAt_0 6 rfl rfl)
theorem dJ16_charAt_7 : decode cJ16_charAt 7 = .ok (.iload_n 1, 1) := dk_27 (dk_at dksJ16_charAt_0 7 rfl rfl)
theorem dJ16_charAt_8 : decode cJ16_charAt 8 = .ok (.baload, 1) := dk_51 (dk_at dksJ16_charAt_0 8 rfl rfl)
theorem dJ16_charAt_9 : decode cJ16_charAt 9 = .ok (.sipush 255, 3) := dk_17 0 255 (dk_at dksJ16_charAt_0 9 rfl rfl)
theorem dJ16_charAt_12 : decode cJ16_charAt 12 = .ok (.iand, 1) := dk_126 (dk_at dksJ16_charAt_0 12 rfl rfl)
theorem dJ16_charAt_13 : decode cJ16_charAt 13 = .ok (.i2c, 1) := dk_146 (dk_at dksJ16_charAt_0 13 rfl rfl)
theorem dJ16_charAt_14 : decode cJ16_charAt 14 = .ok (.ireturn, 1) := dk_172 (dk_at dksJ16_charAt_0 14 rfl rfl)
abbrev cJ16_canEncode : ByteArray := prog_46_method_3_code
def yJ16_canEncode : MethodName := ⟨RJ16, "canEncode", "(C)Z"⟩
def dkwJ16_canEncode_0 : List UInt8 := [26, 17, 0, 255, 163, 0, 7, 4, 167, 0, 4, 3, 172]
abbrev dktJ16_canEncode_0 : List UInt8 := dkwJ16_canEncode_0 ++ []
theorem dksJ16_canEncode_0 : cJ16_canEncode.data.toList.drop 0 = dktJ16_canEncode_0 := by decide +kernel
theorem dJ16_canEncode_0 : decode cJ16_canEncode 0 = .ok (.iload_n 0, 1) := dk_26 (dk_at dksJ16_canEncode_0 0 rfl rfl)
theorem dJ16_canEncode_1 : decode cJ16_canEncode 1 = .ok (.sipush 255, 3) := dk_17 0 255 (dk_at dksJ16_canEncode_0 1 rfl rfl)
theorem dJ16_canEncode_4 : decode cJ16_canEncode 4 = .ok (.if_icmp .gt 7, 3) := dk_163 0 7 (dk_at dksJ16_canEncode_0 4 rfl rfl)
theorem dJ16_canEncode_7 : decode cJ16_canEncode 7 = .ok (.iconst 1, 1) := dk_4 (dk_at dksJ16_canEncode_0 7 rfl rfl)
theorem dJ16_canEncode_8 : decode cJ16_canEncode 8 = .ok (.goto 4, 3) := dk_167 0 4 (dk_at dksJ16_canEncode_0 8 rfl rfl)
theorem dJ16_canEncode_11 : decode cJ16_canEncode 11 = .ok (.iconst 0, 1) := dk_3 (dk_at dksJ16_canEncode_0 11 rfl rfl)
theorem dJ16_canEncode_12 : decode cJ16_canEncode 12 = .ok (.ireturn, 1) := dk_172 (dk_at dksJ16_canEncode_0 12 rfl rfl)
theorem q139 : (Jvm.Cond.initialized "java/lang/StringLatin1") ∈ lw_all := lw_g (lw_at lw_m1 20 rfl) rfl
theorem q395 : (Jvm.Cond.static ({ cls := "java/lang/StringLatin1", name := "inflate", desc := "([BI[BII)V" } : Jvm.MethodName)) ∈ lw_all := lw_g (lw_at lw_m2 36 rfl) rfl
theorem q396 : (Jvm.Cond.code ({ cls := "java/lang/StringLatin1", name := "inflate", desc := "([BI[BII)V" } : Jvm.MethodName) prog_46_method_50_code (5 : Nat) (Option.none : Option Jvm.ClassFile.FieldType)) ∈ lw_all := lw_g (lw_at lw_m2 37 rfl) rfl
theorem q397 : (Jvm.Cond.methodLink "java/lang/StringLatin1" (240 : Nat) ({ cls := "java/lang/StringUTF16", name := "inflate", desc := "([BI[BII)V" } : Jvm.MethodName)) ∈ lw_all := lw_g (lw_at lw_m2 38 rfl) rfl
theorem q789 : (Jvm.Cond.static ({ cls := "java/lang/StringLatin1", name := "hashCode", desc := "([B)I" } : Jvm.MethodName)) ∈ lw_all := lw_g (lw_at lw_m3 190 rfl) rfl
theorem q790 : (Jvm.Cond.code ({ cls := "java/lang/StringLatin1", name := "hashCode", desc := "([B)I" } : Jvm.MethodName) prog_46_method_21_code (1 : Nat) (Option.some Jvm.ClassFile.FieldType.int)) ∈ lw_all := lw_g (lw_at lw_m3 191 rfl) rfl
theorem q791 : (Jvm.Cond.methodLink "java/lang/StringLatin1" (84 : Nat) ({ cls := "jdk/internal/util/ArraysSupport", name := "vectorizedHashCode", desc := "(Ljava/lang/Object;IIII)I" } : Jvm.MethodName)) ∈ lw_all := lw_g (lw_at lw_m3 192 rfl) rfl
theorem q969 : (Jvm.Cond.static ({ cls := "java/lang/StringLatin1", name := "compareTo", desc := "([B[B)I" } : Jvm.MethodName)) ∈ lw_all := lw_g (lw_at lw_m4 130 rfl) rfl
theorem q970 : (Jvm.Cond.code ({ cls := "java/lang/StringLatin1", name := "compareTo", desc := "([B[B)I" } : Jvm.MethodName) prog_46_method_14_code (4 : Nat) (Option.some Jvm.ClassFile.FieldType.int)) ∈ lw_all := lw_g (lw_at lw_m4 131 rfl) rfl
theorem q971 : (Jvm.Cond.methodLink "java/lang/StringLatin1" (34 : Nat) ({ cls := "java/lang/StringLatin1", name := "compareTo", desc := "([B[BII)I" } : Jvm.MethodName)) ∈ lw_all := lw_g (lw_at lw_m4 132 rfl) rfl
theorem q972 : (Jvm.Cond.static ({ cls := "java/lang/StringLatin1", name := "compareTo", desc := "([B[BII)I" } : Jvm.MethodName)) ∈ lw_all := lw_g (lw_at lw_m4 133 rfl) rfl
theorem q973 : (Jvm.Cond.code ({ cls := "java/lang/StringLatin1", name := "compareTo", desc := "([B[BII)I" } : Jvm.MethodName) prog_46_method_15_code (6 : Nat) (Option.some Jvm.ClassFile.FieldType.int)) ∈ lw_all := lw_g (lw_at lw_m4 134 rfl) rfl
theorem q974 : (Jvm.Cond.methodLink "java/lang/StringLatin1" (38 : Nat) ({ cls := "java/lang/Math", name := "min", desc := "(II)I" } : Jvm.MethodName)) ∈ lw_all := lw_g (lw_at lw_m4 135 rfl) rfl
theorem q975 : (Jvm.Cond.methodLink "java/lang/StringLatin1" (44 : Nat) ({ cls := "jdk/internal/util/ArraysSupport", name := "mismatch", desc := "([B[BI)I" } : Jvm.MethodName)) ∈ lw_all := lw_g (lw_at lw_m4 136 rfl) rfl
theorem q1079 : (Jvm.Cond.methodLink "java/lang/StringLatin1" (50 : Nat) ({ cls := "java/lang/StringLatin1", name := "getChar", desc := "([BI)C" } : Jvm.MethodName)) ∈ lw_all := lw_g (lw_at lw_m5 0 rfl) rfl
theorem q1080 : (Jvm.Cond.static ({ cls := "java/lang/StringLatin1", name := "getChar", desc := "([BI)C" } : Jvm.MethodName)) ∈ lw_all := lw_g (lw_at lw_m5 1 rfl) rfl
theorem q1081 : (Jvm.Cond.code ({ cls := "java/lang/StringLatin1", name := "getChar", desc := "([BI)C" } : Jvm.MethodName) prog_46_method_44_code (2 : Nat) (Option.some Jvm.ClassFile.FieldType.char)) ∈ lw_all := lw_g (lw_at lw_m5 2 rfl) rfl
theorem q1090 : (Jvm.Cond.static ({ cls := "java/lang/StringLatin1", name := "compareToUTF16", desc := "([B[B)I" } : Jvm.MethodName)) ∈ lw_all := lw_g (lw_at lw_m5 11 rfl) rfl
theorem q1091 : (Jvm.Cond.code ({ cls := "java/lang/StringLatin1", name := "compareToUTF16", desc := "([B[B)I" } : Jvm.MethodName) prog_46_method_16_code (4 : Nat) (Option.some Jvm.ClassFile.FieldType.int)) ∈ lw_all := lw_g (lw_at lw_m5 12 rfl) rfl
theorem q1092 : (Jvm.Cond.methodLink "java/lang/StringLatin1" (54 : Nat) ({ cls := "java/lang/StringLatin1", name := "length", desc := "([B)I" } : Jvm.MethodName)) ∈ lw_all := lw_g (lw_at lw_m5 13 rfl) rfl
theorem q1093 : (Jvm.Cond.static ({ cls := "java/lang/StringLatin1", name := "length", desc := "([B)I" } : Jvm.MethodName)) ∈ lw_all := lw_g (lw_at lw_m5 14 rfl) rfl
theorem q1094 : (Jvm.Cond.code ({ cls := "java/lang/StringLatin1", name := "length", desc := "([B)I" } : Jvm.MethodName) prog_46_method_5_code (1 : Nat) (Option.some Jvm.ClassFile.FieldType.int)) ∈ lw_all := lw_g (lw_at lw_m5 15 rfl) rfl
theorem q1095 : (Jvm.Cond.methodLink "java/lang/StringLatin1" (58 : Nat) ({ cls := "java/lang/StringUTF16", name := "length", desc := "([B)I" } : Jvm.MethodName)) ∈ lw_all := lw_g (lw_at lw_m5 16 rfl) rfl
theorem q1096 : (Jvm.Cond.methodLink "java/lang/StringLatin1" (59 : Nat) ({ cls := "java/lang/StringLatin1", name := "compareToUTF16Values", desc := "([B[BII)I" } : Jvm.MethodName)) ∈ lw_all := lw_g (lw_at lw_m5 17 rfl) rfl
theorem q1097 : (Jvm.Cond.static ({ cls := "java/lang/StringLatin1", name := "compareToUTF16Values", desc := "([B[BII)I" } : Jvm.MethodName)) ∈ lw_all := lw_g (lw_at lw_m5 18 rfl) rfl
theorem q1098 : (Jvm.Cond.code ({ cls := "java/lang/StringLatin1", name := "compareToUTF16Values", desc := "([B[BII)I" } : Jvm.MethodName) prog_46_method_18_code (8 : Nat) (Option.some Jvm.ClassFile.FieldType.int)) ∈ lw_all := lw_g (lw_at lw_m5 19 rfl) rfl
theorem q1099 : (Jvm.Cond.methodLink "java/lang/StringLatin1" (65 : Nat) ({ cls := "java/lang/StringUTF16", name := "getChar", desc := "([BI)C" } : Jvm.MethodName)) ∈ lw_all := lw_g (lw_at lw_m5 20 rfl) rfl
theorem q1129 : (Jvm.Cond.static ({ cls := "java/lang/StringLatin1", name := "compareToUTF16", desc := "([B[BII)I" } : Jvm.MethodName)) ∈ lw_all := lw_g (lw_at lw_m5 50 rfl) rfl
theorem q1130 : (Jvm.Cond.code ({ cls := "java/lang/StringLatin1", name := "compareToUTF16", desc := "([B[BII)I" } : Jvm.MethodName) prog_46_method_17_code (4 : Nat) (Option.some Jvm.ClassFile.FieldType.int)) ∈ lw_all := lw_g (lw_at lw_m5 51 rfl) rfl
theorem q1131 : (Jvm.Cond.methodLink "java/lang/StringLatin1" (62 : Nat) ({ cls := "java/lang/String", name := "checkOffset", desc := "(II)V" } : Jvm.MethodName)) ∈ lw_all := lw_g (lw_at lw_m5 52 rfl) rfl
theorem q1189 : (Jvm.Cond.static ({ cls := "java/lang/StringLatin1", name := "equals", desc := "([B[B)Z" } : Jvm.MethodName)) ∈ lw_all := lw_g (lw_at lw_m5 110 rfl) rfl
theorem q1190 : (Jvm.Cond.code ({ cls := "java/lang/StringLatin1", name := "equals", desc := "([B[B)Z" } : Jvm.MethodName) prog_46_method_13_code (3 : Nat) (Option.some Jvm.ClassFile.FieldType.boolean)) ∈ lw_all := lw_g (lw_at lw_m5 111 rfl) rfl
theorem q1463 : (Jvm.Cond.static ({ cls := "java/lang/StringLatin1", name := "charAt", desc := "([BI)C" } : Jvm.MethodName)) ∈ lw_all := lw_g (lw_at lw_m6 144 rfl) rfl
theorem q1464 : (Jvm.Cond.code ({ cls := "java/lang/StringLatin1", name := "charAt", desc := "([BI)C" } : Jvm.MethodName) prog_46_method_2_code (2 : Nat) (Option.some Jvm.ClassFile.FieldType.char)) ∈ lw_all := lw_g (lw_at lw_m6 145 rfl) rfl
theorem q1465 : (Jvm.Cond.methodLink "java/lang/StringLatin1" (9 : Nat) ({ cls := "java/lang/String", name := "checkIndex", desc := "(II)V" } : Jvm.MethodName)) ∈ lw_all := lw_g (lw_at lw_m6 146 rfl) rfl
theorem q1486 : (Jvm.Cond.static ({ cls := "java/lang/StringLatin1", name := "canEncode", desc := "(C)Z" } : Jvm.MethodName)) ∈ lw_all := lw_g (lw_at lw_m6 167 rfl) rfl
theorem q1487 : (Jvm.Cond.code ({ cls := "java/lang/StringLatin1", name := "canEncode", desc := "(C)Z" } : Jvm.MethodName) prog_46_method_3_code (1 : Nat) (Option.some Jvm.ClassFile.FieldType.boolean)) ∈ lw_all := lw_g (lw_at lw_m6 168 rfl) rfl
/-! java/lang/Integer -/
set_option maxRecDepth 100000
def RJ17 : String := "java/lang/Integer"
abbrev cJ17_stringSize : ByteArray := prog_38_method_13_code
def yJ17_stringSize : MethodName := ⟨RJ17, "stringSize", "(I)I"⟩
def dkwJ17_stringSize_1 : List UInt8 := [164, 0, 7, 29, 27, 96, 172, 16, 10, 28, 104, 61, 132, 3, 1, 167, 255, 233, 16, 10, 27, 96, 172]
abbrev dktJ17_stringSize_1 : List UInt8 := dkwJ17_stringSize_1 ++ []
def dkwJ17_stringSize_0 : List UInt8 := [4, 60, 26, 155, 0, 8, 3, 60, 26, 116, 59, 16, 246, 61, 4, 62, 29, 16, 10, 162, 0, 23, 26, 28]
abbrev dktJ17_stringSize_0 : List UInt8 := dkwJ17_stringSize_0 ++ dktJ17_stringSize_1
theorem dksJ17_stringSize_0 : cJ17_stringSize.data.toList.drop 0 = dktJ17_stringSize_0 := by decide +kernel
theorem dksJ17_stringSize_1 : cJ17_stringSize.data.toList.drop 24 = dktJ17_stringSize_1 := dk_seg dksJ17_stringSize_0 24 rfl rfl
theorem dJ17_stringSize_0 : decode cJ17_stringSize 0 = .ok (.iconst 1, 1) := dk_4 (dk_at dksJ17_stringSize_0 0 rfl rfl)
theorem dJ17_stringSize_1 : decode cJ17_stringSize 1 = .ok (.istore_n 1, 1) := dk_60 (dk_at dksJ17_stringSize_0 1 rfl rfl)
theorem dJ17_stringSize_2 : decode cJ17_stringSize 2 = .ok (.iload_n 0, 1) := dk_26 (dk_at dksJ17_stringSize_0 2 rfl rfl)
theorem dJ17_stringSize_3 : decode cJ17_stringSize 3 = .ok (.ifCond .lt 8, 3) := dk_155 0 8 (dk_at dksJ17_stringSize_0 3 rfl rfl)
theorem dJ17_stringSize_6 : decode cJ17_stringSize 6 = .ok (.iconst 0, 1) := dk_3 (dk_at dksJ17_stringSize_0 6 rfl rfl)
theorem dJ17_stringSize_7 : decode cJ17_stringSize 7 = .ok (.istore_n 1, 1) := dk_60 (dk_at dksJ17_stringSize_0 7 rfl rfl)
theorem dJ17_stringSize_8 : decode cJ17_stringSize 8 = .ok (.iload_n 0, 1) := dk_26 (dk_at dksJ17_stringSize_0 8 rfl rfl)
theorem dJ17_stringSize_9 : decode cJ17_stringSize 9 = .ok (.ineg, 1) := dk_116 (dk_at dksJ17_stringSize_0 9 rfl rfl)
theorem dJ17_stringSize_10 : decode cJ17_stringSize 10 = .ok (.istore_n 0, 1) := dk_59 (dk_at dksJ17_stringSize_0 10 rfl rfl)
theorem dJ17_stringSize_11 : decode cJ17_stringSize 11 = .ok (.bipush (-10), 2) := dk_16 246 (dk_at dksJ17_stringSize_0 11 rfl rfl)
theorem dJ17_stringSize_13 : decode cJ17_stringSize 13 = .ok (.istore_n 2, 1) := dk_61 (dk_at dksJ17_stringSize_0 13 rfl rfl)
theorem dJ17_stringSize_14 : decode cJ17_stringSize 14 = .ok (.iconst 1, 1) := dk_4 (dk_at dksJ17_stringSize_0 14 rfl rfl)
theorem dJ17_stringSize_15 : decode cJ17_stringSize 15 = .ok (.istore_n 3, 1) := dk_62 (dk_at dksJ17_stringSize_0 15 rfl rfl)
theorem dJ17_stringSize_16 : decode cJ17_stringSize 16 = .ok (.iload_n 3, 1) := dk_29 (dk_at dksJ17_stringSize_0 16 rfl rfl)
theorem dJ17_stringSize_17 : decode cJ17_stringSize 17 = .ok (.bipush 10, 2) := dk_16 10 (dk_at dksJ17_stringSize_0 17 rfl rfl)
theorem dJ17_stringSize_19 : decode cJ17_stringSize 19 = .ok (.if_icmp .ge 23, 3) := dk_162 0 23 (dk_at dksJ17_stringSize_0 19 rfl rfl)
theorem dJ17_stringSize_22 : decode cJ17_stringSize 22 = .ok (.iload_n 0, 1) := dk_26 (dk_at dksJ17_stringSize_0 22 rfl rfl)
theorem dJ17_stringSize_23 : decode cJ17_stringSize 23 = .ok (.iload_n 2, 1) := dk_28 (dk_at dksJ17_stringSize_0 23 rfl rfl)
theorem dJ17_stringSize_24 : decode cJ17_stringSize 24 = .ok (.if_icmp .le 7, 3) := dk_164 0 7 (dk_at dksJ17_stringSize_1 0 rfl rfl)
theorem dJ17_stringSize_27 : decode cJ17_stringSize 27 = .ok (.iload_n 3, 1) := dk_29 (dk_at dksJ17_stringSize_1 3 rfl rfl)
theorem dJ17_stringSize_28 : decode cJ17_stringSize 28 = .ok (.iload_n 1, 1) := dk_27 (dk_at dksJ17_stringSize_1 4 rfl rfl)
theorem dJ17_stringSize_29 : decode cJ17_stringSize 29 = .ok (.iadd, 1) := dk_96 (dk_at dksJ17_stringSize_1 5 rfl rfl)
theorem dJ17_stringSize_30 : decode cJ17_stringSize 30 = .ok (.ireturn, 1) := dk_172 (dk_at dksJ17_stringSize_1 6 rfl rfl)
theorem dJ17_stringSize_31 : decode cJ17_stringSize 31 = .ok (.bipush 10, 2) := dk_16 10 (dk_at dksJ17_stringSize_1 7 rfl rfl)
theorem dJ17_stringSize_33 : decode cJ17_stringSize 33 = .ok (.iload_n 2, 1) := dk_28 (dk_at dksJ17_stringSize_1 9 rfl rfl)
theorem dJ17_stringSize_34 : decode cJ17_stringSize 34 = .ok (.imul, 1) := dk_104 (dk_at dksJ17_stringSize_1 10 rfl rfl)
theorem dJ17_stringSize_35 : decode cJ17_stringSize 35 = .ok (.istore_n 2, 1) := dk_61 (dk_at dksJ17_stringSize_1 11 rfl rfl)
theorem dJ17_stringSize_36 : decode cJ17_stringSize 36 = .ok (.iinc 3 1, 3) := dk_132 3 1 (dk_at dksJ17_stringSize_1 12 rfl rfl)
theorem dJ17_stringSize_39 : decode cJ17_stringSize 39 = .ok (.goto (-23), 3) := dk_167 255 233 (dk_at dksJ17_stringSize_1 15 rfl rfl)
theorem dJ17_stringSize_42 : decode cJ17_stringSize 42 = .ok (.bipush 10, 2) := dk_16 10 (dk_at dksJ17_stringSize_1 18 rfl rfl)
theorem dJ17_stringSize_44 : decode cJ17_stringSize 44 = .ok (.iload_n 1, 1) := dk_27 (dk_at dksJ17_stringSize_1 20 rfl rfl)
theorem dJ17_stringSize_45 : decode cJ17_stringSize 45 = .ok (.iadd, 1) := dk_96 (dk_at dksJ17_stringSize_1 21 rfl rfl)
theorem dJ17_stringSize_46 : decode cJ17_stringSize 46 = .ok (.ireturn, 1) := dk_172 (dk_at dksJ17_stringSize_1 22 rfl rfl)
abbrev cJ17_getChars : ByteArray := prog_38_method_12_code
def yJ17_getChars : MethodName := ⟨RJ17, "getChars", "(II[B)I"⟩
def dkwJ17_getChars_5 : List UInt8 := [16, 45, 84, 21, 5, 172]
abbrev dktJ17_getChars_5 : List UInt8 := dkwJ17_getChars_5 ++ []
def dkwJ17_getChars_4 : List UInt8 := [132, 5, 255, 21, 5, 178, 0, 87, 26, 116, 51, 84, 21, 6, 153, 0, 12, 44, 132, 5, 255, 21, 5]
abbrev dktJ17_getChars_4 : List UInt8 := dkwJ17_getChars_4 ++ dktJ17_getChars_5
def dkwJ17_getChars_3 : List UInt8 := [167, 255, 209, 44, 132, 5, 255, 21, 5, 178, 0, 83, 26, 116, 51, 84, 26, 16, 247, 162, 0, 16, 44]
abbrev dktJ17_getChars_3 : List UInt8 := dkwJ17_getChars_3 ++ dktJ17_getChars_4
def dkwJ17_getChars_2 : List UInt8 := [21, 5, 178, 0, 83, 21, 4, 51, 84, 44, 132, 5, 255, 21, 5, 178, 0, 87, 21, 4, 51, 84]
abbrev dktJ17_getChars_2 : List UInt8 := dkwJ17_getChars_2 ++ dktJ17_getChars_3
def dkwJ17_getChars_1 : List UInt8 := [16, 156, 163, 0, 47, 26, 16, 100, 108, 62, 29, 16, 100, 104, 26, 100, 54, 4, 29, 59, 44, 132, 5, 255]
abbrev dktJ17_getChars_1 : List UInt8 := dkwJ17_getChars_1 ++ dktJ17_getChars_2
def dkwJ17_getChars_0 : List UInt8 := [27, 54, 5, 26, 156, 0, 7, 4, 167, 0, 4, 3, 54, 6, 21, 6, 154, 0, 6, 26, 116, 59, 26]
abbrev dktJ17_getChars_0 : List UInt8 := dkwJ17_getChars_0 ++ dktJ17_getChars_1
theorem dksJ17_getChars_0 : cJ17_getChars.data.toList.drop 0 = dktJ17_getChars_0 := by decide +kernel
theorem dksJ17_getChars_1 : cJ17_getChars.data.toList.drop 23 = dktJ17_getChars_1 := dk_seg dksJ17_getChars_0 23 rfl rfl
theorem dksJ17_getChars_2 : cJ17_getChars.data.toList.drop 47 = dktJ17_getChars_2 := dk_seg dksJ17_getChars_1 24 rfl rfl
theorem dksJ17_getChars_3 : cJ17_getChars.data.toList.drop 69 = dktJ17_getChars_3 := dk_seg dksJ17_getChars_2 22 rfl rfl
theorem dksJ17_getChars_4 : cJ17_getChars.data.toList.drop 92 = dktJ17_getChars_4 := dk_seg dksJ17_getChars_3 23 rfl rfl
theorem dksJ17_getChars_5 : cJ17_getChars.data.toList.drop 115 = dktJ17_getChars_5 := dk_seg dksJ17_getChars_4 23 rfl rfl
theorem dJ17_getChars_0 : decode cJ17_getChars 0 = .ok (.iload_n 1, 1) := dk_27 (dk_at dksJ17_getChars_0 0 rfl rfl)
theorem dJ17_getChars_1 : decode cJ17_getChars 1 = .ok (.istore 5, 2) := dk_54 5 (dk_at dksJ17_getChars_0 1 rfl rfl)
theorem dJ17_getChars_3 : decode cJ17_getChars 3 = .ok (.iload_n 0, 1) := dk_26 (dk_at dksJ17_getChars_0 3 rfl rfl)
theorem dJ17_getChars_4 : decode cJ17_getChars 4 = .ok (.ifCond .ge 7, 3) := dk_156 0 7 (dk_at dksJ17_getChars_0 4 rfl rfl)
theorem dJ17_getChars_7 : decode cJ17_getChars 7 = .ok (.iconst 1, 1) := dk_4 (dk_at dksJ17_getChars_0 7 rfl rfl)
theorem dJ17_getChars_8 : decode cJ17_getChars 8 = .ok (.goto 4, 3) := dk_167 0 4 (dk_at dksJ17_getChars_0 8 rfl rfl)
theorem dJ17_getChars_11 : decode cJ17_getChars 11 = .ok (.iconst 0, 1) := dk_3 (dk_at dksJ17_getChars_0 11 rfl rfl)
theorem dJ17_getChars_12 : decode cJ17_getChars 12 = .ok (.istore 6, 2) := dk_54 6 (dk_at dksJ17_getChars_0 12 rfl rfl)
theorem dJ17_getChars_14 : decode cJ17_getChars 14 = .ok (.iload 6, 2) := dk_21 6 (dk_at dksJ17_getChars_0 14 rfl rfl)
theorem dJ17_getChars_16 : decode cJ17_getChars 16 = .ok (.ifCond .ne 6, 3) := dk_154 0 6 (dk_at dksJ17_getChars_0 16 rfl rfl)
theorem dJ17_getChars_19 : decode cJ17_getChars 19 = .ok (.iload_n 0, 1) := dk_26 (dk_at dksJ17_getChars_0 19 rfl rfl)
theorem dJ17_getChars_20 : decode cJ17_getChars 20 = .ok (.ineg, 1) := dk_116 (dk_at dksJ17_getChars_0 20 rfl rfl)
theorem dJ17_getChars_21 : decode cJ17_getChars 21 = .ok (.istore_n 0, 1) := dk_59 (dk_at dksJ17_getChars_0 21 rfl rfl)
theorem dJ17_getChars_22 : decode cJ17_getChars 22 = .ok (.iload_n 0, 1) := dk_26 (dk_at dksJ17_getChars_0 22 rfl rfl)
theorem dJ17_getChars_23 : decode cJ17_getChars 23 = .ok (.bipush (-100), 2) := dk_16 156 (dk_at dksJ17_getChars_1 0 rfl rfl)
theorem dJ17_getChars_25 : decode cJ17_getChars 25 = .ok (.if_icmp .gt 47, 3) := dk_163 0 47 (dk_at dksJ17_getChars_1 2 rfl rfl)
theorem dJ17_getChars_28 : decode cJ17_getChars 28 = .ok (.iload_n 0, 1) := dk_26 (dk_at dksJ17_getChars_1 5 rfl rfl)
theorem dJ17_getChars_29 : decode cJ17_getChars 29 = .ok (.bipush 100, 2) := dk_16 100 (dk_at dksJ17_getChars_1 6 rfl rfl)
theorem dJ17_getChars_31 : decode cJ17_getChars 31 = .ok (.idiv, 1) := dk_108 (dk_at dksJ17_getChars_1 8 rfl rfl)
theorem dJ17_getChars_32 : decode cJ17_getChars 32 = .ok (.istore_n 3, 1) := dk_62 (dk_at dksJ17_getChars_1 9 rfl rfl)
theorem dJ17_getChars_33 : decode cJ17_getChars 33 = .ok (.iload_n 3, 1) := dk_29 (dk_at dksJ17_getChars_1 10 rfl rfl)
theorem dJ17_getChars_34 : decode cJ17_getChars 34 = .ok (.bipush 100, 2) := dk_16 100 (dk_at dksJ17_getChars_1 11 rfl rfl)
theorem dJ17_getChars_36 : decode cJ17_getChars 36 = .ok (.imul, 1) := dk_104 (dk_at dksJ17_getChars_1 13 rfl rfl)
theorem dJ17_getChars_37 : decode cJ17_getChars 37 = .ok (.iload_n 0, 1) := dk_26 (dk_at dksJ17_getChars_1 14 rfl rfl)
theorem dJ17_getChars_38 : decode cJ17_getChars 38 = .ok (.isub, 1) := dk_100 (dk_at dksJ17_getChars_1 15 rfl rfl)
theorem dJ17_getChars_39 : decode cJ17_getChars 39 = .ok (.istore 4, 2) := dk_54 4 (dk_at dksJ17_getChars_1 16 rfl rfl)
theorem dJ17_getChars_41 : decode cJ17_getChars 41 = .ok (.iload_n 3, 1) := dk_29 (dk_at dksJ17_getChars_1 18 rfl rfl)
theorem dJ17_getChars_42 : decode cJ17_getChars 42 = .ok (.istore_n 0, 1) := dk_59 (dk_at dksJ17_getChars_1 19 rfl rfl)
theorem dJ17_getChars_43 : decode cJ17_getChars 43 = .ok (.aload_n 2, 1) := dk_44 (dk_at dksJ17_getChars_1 20 rfl rfl)
theorem dJ17_getChars_44 : decode cJ17_getChars 44 = .ok (.iinc 5 (-1), 3) := dk_132 5 255 (dk_at dksJ17_getChars_1 21 rfl rfl)
theorem dJ17_getChars_47 : decode cJ17_getChars 47 = .ok (.iload 5, 2) := dk_21 5 (dk_at dksJ17_getChars_2 0 rfl rfl)
theorem dJ17_getChars_49 : decode cJ17_getChars 49 = .ok (.getstatic 83, 3) := dk_178 0 83 (dk_at dksJ17_getChars_2 2 rfl rfl)
theorem dJ17_getChars_52 : decode cJ17_getChars 52 = .ok (.iload 4, 2) := dk_21 4 (dk_at dksJ17_getChars_2 5 rfl rfl)
theorem dJ17_getChars_54 : decode cJ17_getChars 54 = .ok (.baload, 1) := dk_51 (dk_at dksJ17_getChars_2 7 rfl rfl)
theorem dJ17_getChars_55 : decode cJ17_getChars 55 = .ok (.bastore, 1) := dk_84 (dk_at dksJ17_getChars_2 8 rfl rfl)
theorem dJ17_getChars_56 : decode cJ17_getChars 56 = .ok (.aload_n 2, 1) := dk_44 (dk_at dksJ17_getChars_2 9 rfl rfl)
theorem dJ17_getChars_57 : decode cJ17_getChars 57 = .ok (.iinc 5 (-1), 3) := dk_132 5 255 (dk_at dksJ17_getChars_2 10 rfl rfl)
theorem dJ17_getChars_60 : decode cJ17_getChars 60 = .ok (.iload 5, 2) := dk_21 5 (dk_at dksJ17_getChars_2 13 rfl rfl)
theorem dJ17_getChars_62 : decode cJ17_getChars 62 = .ok (.getstatic 87, 3) := dk_178 0 87 (dk_at dksJ17_getChars_2 15 rfl rfl)
theorem dJ17_getChars_65 : decode cJ17_getChars 65 = .ok (.iload 4, 2) := dk_21 4 (dk_at dksJ17_getChars_2 18 rfl rfl)
theorem dJ17_getChars_67 : decode cJ17_getChars 67 = .ok (.baload, 1) := dk_51 (dk_at dksJ17_getChars_2 20 rfl rfl)
theorem dJ17_getChars_68 : decode cJ17_getChars 68 = .ok (.bastore, 1) := dk_84 (dk_at dksJ17_getChars_2 21 rfl rfl)
theorem dJ17_getChars_69 : decode cJ17_getChars 69 = .ok (.goto (-47), 3) := dk_167 255 209 (dk_at dksJ17_getChars_3 0 rfl rfl)
theorem dJ17_getChars_72 : decode cJ17_getChars 72 = .ok (.aload_n 2, 1) := dk_44 (dk_at dksJ17_getChars_3 3 rfl rfl)
theorem dJ17_getChars_73 : decode cJ17_getChars 73 = .ok (.iinc 5 (-1), 3) := dk_132 5 255 (dk_at dksJ17_getChars_3 4 rfl rfl)
theorem dJ17_getChars_76 : decode cJ17_getChars 76 = .ok (.iload 5, 2) := dk_21 5 (dk_at dksJ17_getChars_3 7 rfl rfl)
theorem dJ17_getChars_78 : decode cJ17_getChars 78 = .ok (.getstatic 83, 3) := dk_178 0 83 (dk_at dksJ17_getChars_3 9 rfl rfl)
theorem dJ17_getChars_81 : decode cJ17_getChars 81 = .ok (.iload_n 0, 1) := dk_26 (dk_at dksJ17_getChars_3 12 rfl rfl)
theorem dJ17_getChars_82 : decode cJ17_getChars 82 = .ok (.ineg, 1) := dk_116 (dk_at dksJ17_getChars_3 13 rfl rfl)
theorem dJ17_getChars_83 : decode cJ17_getChars 83 = .ok (.baload, 1) := dk_51 (dk_at dksJ17_getChars_3 14 rfl rfl)
theorem dJ17_getChars_84 : decode cJ17_getChars 84 = .ok (.bastore, 1) := dk_84 (dk_at dksJ17_getChars_3 15 rfl rfl)
theorem dJ17_getChars_85 : decode cJ17_getChars 85 = .ok (.iload_n 0, 1) := dk_26 (dk_at dksJ17_getChars_3 16 rfl rfl)
theorem dJ17_getChars_86 : decode cJ17_getChars 86 = .ok (.bipush (-9), 2) := dk_16 247 (dk_at dksJ17_getChars_3 17 rfl rfl)
theorem dJ17_getChars_88 : decode cJ17_getChars 88 = .ok (.if_icmp .ge 16, 3) := dk_162 0 16 (dk_at dksJ17_getChars_3 19 rfl rfl)
theorem dJ17_getChars_91 : decode cJ17_getChars 91 = .ok (.aload_n 2, 1) := dk_44 (dk_at dksJ17_getChars_3 22 rfl rfl)
theorem dJ17_getChars_92 : decode cJ17_getChars 92 = .ok (.iinc 5 (-1), 3) := dk_132 5 255 (dk_at dksJ17_getChars_4 0 rfl rfl)
theorem dJ17_getChars_95 : decode cJ17_getChars 95 = .ok (.iload 5, 2) := dk_21 5 (dk_at dksJ17_getChars_4 3 rfl rfl)
theorem dJ17_getChars_97 : decode cJ17_getChars 97 = .ok (.getstatic 87, 3) := dk_178 0 87 (dk_at dksJ17_getChars_4 5 rfl rfl)
theorem dJ17_getChars_100 : decode cJ17_getChars 100 = .ok (.iload_n 0, 1) := dk_26 (dk_at dksJ17_getChars_4 8 rfl rfl)
theorem dJ17_getChars_101 : decode cJ17_getChars 101 = .ok (.ineg, 1) := dk_116 (dk_at dksJ17_getChars_4 9 rfl rfl)
theorem dJ17_getChars_102 : decode cJ17_getChars 102 = .ok (.baload, 1) := dk_51 (dk_at dksJ17_getChars_4 10 rfl rfl)
theorem dJ17_getChars_103 : decode cJ17_getChars 103 = .ok (.bastore, 1) := dk_84 (dk_at dksJ17_getChars_4 11 rfl rfl)
theorem dJ17_getChars_104 : decode cJ17_getChars 104 = .ok (.iload 6, 2) := dk_21 6 (dk_at dksJ17_getChars_4 12 rfl rfl)
theorem dJ17_getChars_106 : decode cJ17_getChars 106 = .ok (.ifCond .eq 12, 3) := dk_153 0 12 (dk_at dksJ17_getChars_4 14 rfl rfl)
theorem dJ17_getChars_109 : decode cJ17_getChars 109 = .ok (.aload_n 2, 1) := dk_44 (dk_at dksJ17_getChars_4 17 rfl rfl)
theorem dJ17_getChars_110 : decode cJ17_getChars 110 = .ok (.iinc 5 (-1), 3) := dk_132 5 255 (dk_at dksJ17_getChars_4 18 rfl rfl)
theorem dJ17_getChars_113 : decode cJ17_getChars 113 = .ok (.iload 5, 2) := dk_21 5 (dk_at dksJ17_getChars_4 21 rfl rfl)
theorem dJ17_getChars_115 : decode cJ17_getChars 115 = .ok (.bipush 45, 2) := dk_16 45 (dk_at dksJ17_getChars_5 0 rfl rfl)
theorem dJ17_getChars_117 : decode cJ17_getChars 117 = .ok (.bastore, 1) := dk_84 (dk_at dksJ17_getChars_5 2 rfl rfl)
theorem dJ17_getChars_118 : decode cJ17_getChars 118 = .ok (.iload 5, 2) := dk_21 5 (dk_at dksJ17_getChars_5 3 rfl rfl)
theorem dJ17_getChars_120 : decode cJ17_getChars 120 = .ok (.ireturn, 1) := dk_172 (dk_at dksJ17_getChars_5 5 rfl rfl)
abbrev cJ17_numberOfLeadingZeros : ByteArray := prog_38_method_47_code
def yJ17_numberOfLeadingZeros : MethodName := ⟨RJ17, "numberOfLeadingZeros", "(I)I"⟩
def dkwJ17_numberOfLeadingZeros_3 : List UInt8 := [5, 124, 59, 27, 26, 4, 124, 100, 172]
abbrev dktJ17_numberOfLeadingZeros_3 : List UInt8 := dkwJ17_numberOfLeadingZeros_3 ++ []
def dkwJ17_numberOfLeadingZeros_2 : List UInt8 := [124, 59, 26, 16, 16, 161, 0, 10, 132, 1, 252, 26, 7, 124, 59, 26, 7, 161, 0, 10, 132, 1, 254, 26]
abbrev dktJ17_numberOfLeadingZeros_2 : List UInt8 := dkwJ17_numberOfLeadingZeros_2 ++ dktJ17_numberOfLeadingZeros_3
def dkwJ17_numberOfLeadingZeros_1 : List UInt8 := [161, 0, 11, 132, 1, 240, 26, 16, 16, 124, 59, 26, 17, 1, 0, 161, 0, 11, 132, 1, 248, 26, 16, 8]
abbrev dktJ17_numberOfLeadingZeros_1 : List UInt8 := dkwJ17_numberOfLeadingZeros_1 ++ dktJ17_numberOfLeadingZeros_2
def dkwJ17_numberOfLeadingZeros_0 : List UInt8 := [26, 157, 0, 14, 26, 154, 0, 8, 16, 32, 167, 0, 4, 3, 172, 16, 31, 60, 26, 19, 1, 8]
abbrev dktJ17_numberOfLeadingZeros_0 : List UInt8 := dkwJ17_numberOfLeadingZeros_0 ++ dktJ17_numberOfLeadingZeros_1
theorem dksJ17_numberOfLeadingZeros_0 : cJ17_numberOfLeadingZeros.data.toList.drop 0 = dktJ17_numberOfLeadingZeros_0 := by decide +kernel
theorem dksJ17_numberOfLeadingZeros_1 : cJ17_numberOfLeadingZeros.data.toList.drop 22 = dktJ17_numberOfLeadingZeros_1 := dk_seg dksJ17_numberOfLeadingZeros_0 22 rfl rfl
theorem dksJ17_numberOfLeadingZeros_2 : cJ17_numberOfLeadingZeros.data.toList.drop 46 = dktJ17_numberOfLeadingZeros_2 := dk_seg dksJ17_numberOfLeadingZeros_1 24 rfl rfl
theorem dksJ17_numberOfLeadingZeros_3 : cJ17_numberOfLeadingZeros.data.toList.drop 70 = dktJ17_numberOfLeadingZeros_3 := dk_seg dksJ17_numberOfLeadingZeros_2 24 rfl rfl
theorem dJ17_numberOfLeadingZeros_0 : decode cJ17_numberOfLeadingZeros 0 = .ok (.iload_n 0, 1) := dk_26 (dk_at dksJ17_numberOfLeadingZeros_0 0 rfl rfl)
theorem dJ17_numberOfLeadingZeros_1 : decode cJ17_numberOfLeadingZeros 1 = .ok (.ifCond .gt 14, 3) := dk_157 0 14 (dk_at dksJ17_numberOfLeadingZeros_0 1 rfl rfl)
theorem dJ17_numberOfLeadingZeros_4 : decode cJ17_numberOfLeadingZeros 4 = .ok (.iload_n 0, 1) := dk_26 (dk_at dksJ17_numberOfLeadingZeros_0 4 rfl rfl)
theorem dJ17_numberOfLeadingZeros_5 : decode cJ17_numberOfLeadingZeros 5 = .ok (.ifCond .ne 8, 3) := dk_154 0 8 (dk_at dksJ17_numberOfLeadingZeros_0 5 rfl rfl)
theorem dJ17_numberOfLeadingZeros_8 : decode cJ17_numberOfLeadingZeros 8 = .ok (.bipush 32, 2) := dk_16 32 (dk_at dksJ17_numberOfLeadingZeros_0 8 rfl rfl)
theorem dJ17_numberOfLeadingZeros_10 : decode cJ17_numberOfLeadingZeros 10 = .ok (.goto 4, 3) := dk_167 0 4 (dk_at dksJ17_numberOfLeadingZeros_0 10 rfl rfl)
theorem dJ17_numberOfLeadingZeros_13 : decode cJ17_numberOfLeadingZeros 13 = .ok (.iconst 0, 1) := dk_3 (dk_at dksJ17_numberOfLeadingZeros_0 13 rfl rfl)
theorem dJ17_numberOfLeadingZeros_14 : decode cJ17_numberOfLeadingZeros 14 = .ok (.ireturn, 1) := dk_172 (dk_at dksJ17_numberOfLeadingZeros_0 14 rfl rfl)
theorem dJ17_numberOfLeadingZeros_15 : decode cJ17_numberOfLeadingZeros 15 = .ok (.bipush 31, 2) := dk_16 31 (dk_at dksJ17_numberOfLeadingZeros_0 15 rfl rfl)
theorem dJ17_numberOfLeadingZeros_17 : decode cJ17_numberOfLeadingZeros 17 = .ok (.istore_n 1, 1) := dk_60 (dk_at dksJ17_numberOfLeadingZeros_0 17 rfl rfl)
theorem dJ17_numberOfLeadingZeros_18 : decode cJ17_numberOfLeadingZeros 18 = .ok (.iload_n 0, 1) := dk_26 (dk_at dksJ17_numberOfLeadingZeros_0 18 rfl rfl)
theorem dJ17_numberOfLeadingZeros_19 : decode cJ17_numberOfLeadingZeros 19 = .ok (.ldc_w 264, 3) := dk_19 1 8 (dk_at dksJ17_numberOfLeadingZeros_0 19 rfl rfl)
theorem dJ17_numberOfLeadingZeros_22 : decode cJ17_numberOfLeadingZeros 22 = .ok (.if_icmp .lt 11, 3) := dk_161 0 11 (dk_at dksJ17_numberOfLeadingZeros_1 0 rfl rfl)
theorem dJ17_numberOfLeadingZeros_25 : decode cJ17_numberOfLeadingZeros 25 = .ok (.iinc 1 (-16), 3) := dk_132 1 240 (dk_at dksJ17_numberOfLeadingZeros_1 3 rfl rfl)
theorem dJ17_numberOfLeadingZeros_28 : decode cJ17_numberOfLeadingZeros 28 = .ok (.iload_n 0, 1) := dk_26 (dk_at dksJ17_numberOfLeadingZeros_1 6 rfl rfl)
theorem dJ17_numberOfLeadingZeros_29 : decode cJ17_numberOfLeadingZeros 29 = .ok (.bipush 16, 2) := dk_16 16 (dk_at dksJ17_numberOfLeadingZeros_1 7 rfl rfl)
theorem dJ17_numberOfLeadingZeros_31 : decode cJ17_numberOfLeadingZeros 31 = .ok (.iushr, 1) := dk_124 (dk_at dksJ17_numberOfLeadingZeros_1 9 rfl rfl)
theorem dJ17_numberOfLeadingZeros_32 : decode cJ17_numberOfLeadingZeros 32 = .ok (.istore_n 0, 1) := dk_59 (dk_at dksJ17_numberOfLeadingZeros_1 10 rfl rfl)
theorem dJ17_numberOfLeadingZeros_33 : decode cJ17_numberOfLeadingZeros 33 = .ok (.iload_n 0, 1) := dk_26 (dk_at dksJ17_numberOfLeadingZeros_1 11 rfl rfl)
theorem dJ17_numberOfLeadingZeros_34 : decode cJ17_numberOfLeadingZeros 34 = .ok (.sipush 256, 3) := dk_17 1 0 (dk_at dksJ17_numberOfLeadingZeros_1 12 rfl rfl)
theorem dJ17_numberOfLeadingZeros_37 : decode cJ17_numberOfLeadingZeros 37 = .ok (.if_icmp .lt 11, 3) := dk_161 0 11 (dk_at dksJ17_numberOfLeadingZeros_1 15 rfl rfl)
theorem dJ17_numberOfLeadingZeros_40 : decode cJ17_numberOfLeadingZeros 40 = .ok (.iinc 1 (-8), 3) := dk_132 1 248 (dk_at dksJ17_numberOfLeadingZeros_1 18 rfl rfl)
theorem dJ17_numberOfLeadingZeros_43 : decode cJ17_numberOfLeadingZeros 43 = .ok (.iload_n 0, 1) := dk_26 (dk_at dksJ17_numberOfLeadingZeros_1 21 rfl rfl)
theorem dJ17_numberOfLeadingZeros_44 : decode cJ17_numberOfLeadingZeros 44 = .ok (.bipush 8, 2) := dk_16 8 (dk_at dksJ17_numberOfLeadingZeros_1 22 rfl rfl)
theorem dJ17_numberOfLeadingZeros_46 : decode cJ17_numberOfLeadingZeros 46 = .ok (.iushr, 1) := dk_124 (dk_at dksJ17_numberOfLeadingZeros_2 0 rfl rfl)
theorem dJ17_numberOfLeadingZeros_47 : decode cJ17_numberOfLeadingZeros 47 = .ok (.istore_n 0, 1) := dk_59 (dk_at dksJ17_numberOfLeadingZeros_2 1 rfl rfl)
theorem dJ17_numberOfLeadingZeros_48 : decode cJ17_numberOfLeadingZeros 48 = .ok (.iload_n 0, 1) := dk_26 (dk_at dksJ17_numberOfLeadingZeros_2 2 rfl rfl)
theorem dJ17_numberOfLeadingZeros_49 : decode cJ17_numberOfLeadingZeros 49 = .ok (.bipush 16, 2) := dk_16 16 (dk_at dksJ17_numberOfLeadingZeros_2 3 rfl rfl)
theorem dJ17_numberOfLeadingZeros_51 : decode cJ17_numberOfLeadingZeros 51 = .ok (.if_icmp .lt 10, 3) := dk_161 0 10 (dk_at dksJ17_numberOfLeadingZeros_2 5 rfl rfl)
theorem dJ17_numberOfLeadingZeros_54 : decode cJ17_numberOfLeadingZeros 54 = .ok (.iinc 1 (-4), 3) := dk_132 1 252 (dk_at dksJ17_numberOfLeadingZeros_2 8 rfl rfl)
theorem dJ17_numberOfLeadingZeros_57 : decode cJ17_numberOfLeadingZeros 57 = .ok (.iload_n 0, 1) := dk_26 (dk_at dksJ17_numberOfLeadingZeros_2 11 rfl rfl)
theorem dJ17_numberOfLeadingZeros_58 : decode cJ17_numberOfLeadingZeros 58 = .ok (.iconst 4, 1) := dk_7 (dk_at dksJ17_numberOfLeadingZeros_2 12 rfl rfl)
theorem dJ17_numberOfLeadingZeros_59 : decode cJ17_numberOfLeadingZeros 59 = .ok (.iushr, 1) := dk_124 (dk_at dksJ17_numberOfLeadingZeros_2 13 rfl rfl)
theorem dJ17_numberOfLeadingZeros_60 : decode cJ17_numberOfLeadingZeros 60 = .ok (.istore_n 0, 1) := dk_59 (dk_at dksJ17_numberOfLeadingZeros_2 14 rfl rfl)
theorem dJ17_numberOfLeadingZeros_61 : decode cJ17_numberOfLeadingZeros 61 = .ok (.iload_n 0, 1) := dk_26 (dk_at dksJ17_numberOfLeadingZeros_2 15 rfl rfl)
theorem dJ17_numberOfLeadingZeros_62 : decode cJ17_numberOfLeadingZeros 62 = .ok (.iconst 4, 1) := dk_7 (dk_at dksJ17_numberOfLeadingZeros_2 16 rfl rfl)
theorem dJ17_numberOfLeadingZeros_63 : decode cJ17_numberOfLeadingZeros 63 = .ok (.if_icmp .lt 10, 3) := dk_161 0 10 (dk_at dksJ17_numberOfLeadingZeros_2 17 rfl rfl)
theorem dJ17_numberOfLeadingZeros_66 : decode cJ17_numberOfLeadingZeros 66 = .ok (.iinc 1 (-2), 3) := dk_132 1 254 (dk_at dksJ17_numberOfLeadingZeros_2 20 rfl rfl)
theorem dJ17_numberOfLeadingZeros_69 : decode cJ17_numberOfLeadingZeros 69 = .ok (.iload_n 0, 1) := dk_26 (dk_at dksJ17_numberOfLeadingZeros_2 23 rfl rfl)
theorem dJ17_numberOfLeadingZeros_70 : decode cJ17_numberOfLeadingZeros 70 = .ok (.iconst 2, 1) := dk_5 (dk_at dksJ17_numberOfLeadingZeros_3 0 rfl rfl)
theorem dJ17_numberOfLeadingZeros_71 : decode cJ17_numberOfLeadingZeros 71 = .ok (.iushr, 1) := dk_124 (dk_at dksJ17_numberOfLeadingZeros_3 1 rfl rfl)
theorem dJ17_numberOfLeadingZeros_72 : decode cJ17_numberOfLeadingZeros 72 = .ok (.istore_n 0, 1) := dk_59 (dk_at dksJ17_numberOfLeadingZeros_3 2 rfl rfl)
theorem dJ17_numberOfLeadingZeros_73 : decode cJ17_numberOfLeadingZeros 73 = .ok (.iload_n 1, 1) := dk_27 (dk_at dksJ17_numberOfLeadingZeros_3 3 rfl rfl)
theorem dJ17_numberOfLeadingZeros_74 : decode cJ17_numberOfLeadingZeros 74 = .ok (.iload_n 0, 1) := dk_26 (dk_at dksJ17_numberOfLeadingZeros_3 4 rfl rfl)
theorem dJ17_numberOfLeadingZeros_75 : decode cJ17_numberOfLeadingZeros 75 = .ok (.iconst 1, 1) := dk_4 (dk_at dksJ17_numberOfLeadingZeros_3 5 rfl rfl)
theorem dJ17_numberOfLeadingZeros_76 : decode cJ17_numberOfLeadingZeros 76 = .ok (.iushr, 1) := dk_124 (dk_at dksJ17_numberOfLeadingZeros_3 6 rfl rfl)
theorem dJ17_numberOfLeadingZeros_77 : decode cJ17_numberOfLeadingZeros 77 = .ok (.isub, 1) := dk_100 (dk_at dksJ17_numberOfLeadingZeros_3 7 rfl rfl)
theorem dJ17_numberOfLeadingZeros_78 : decode cJ17_numberOfLeadingZeros 78 = .ok (.ireturn, 1) := dk_172 (dk_at dksJ17_numberOfLeadingZeros_3 8 rfl rfl)
abbrev cJ17_numberOfTrailingZeros : ByteArray := prog_38_method_48_code
def yJ17_numberOfTrailingZeros : MethodName := ⟨RJ17, "numberOfTrailingZeros", "(I)I"⟩
def dkwJ17_numberOfTrailingZeros_3 : List UInt8 := [5, 124, 59, 27, 26, 4, 124, 96, 172]
abbrev dktJ17_numberOfTrailingZeros_3 : List UInt8 := dkwJ17_numberOfTrailingZeros_3 ++ []
def dkwJ17_numberOfTrailingZeros_2 : List UInt8 := [124, 59, 26, 16, 16, 164, 0, 10, 132, 1, 4, 26, 7, 124, 59, 26, 7, 164, 0, 10, 132, 1, 2, 26]
abbrev dktJ17_numberOfTrailingZeros_2 : List UInt8 := dkwJ17_numberOfTrailingZeros_2 ++ dktJ17_numberOfTrailingZeros_3
def dkwJ17_numberOfTrailingZeros_1 : List UInt8 := [164, 0, 11, 132, 1, 16, 26, 16, 16, 124, 59, 26, 17, 1, 0, 164, 0, 11, 132, 1, 8, 26, 16, 8]
abbrev dktJ17_numberOfTrailingZeros_1 : List UInt8 := dkwJ17_numberOfTrailingZeros_1 ++ dktJ17_numberOfTrailingZeros_2
def dkwJ17_numberOfTrailingZeros_0 : List UInt8 := [26, 2, 130, 26, 4, 100, 126, 59, 26, 157, 0, 8, 26, 16, 32, 126, 172, 4, 60, 26, 19, 1, 8]
abbrev dktJ17_numberOfTrailingZeros_0 : List UInt8 := dkwJ17_numberOfTrailingZeros_0 ++ dktJ17_numberOfTrailingZeros_1
theorem dksJ17_numberOfTrailingZeros_0 : cJ17_numberOfTrailingZeros.data.toList.drop 0 = dktJ17_numberOfTrailingZeros_0 := by decide +kernel
theorem dksJ17_numberOfTrailingZeros_1 : cJ17_numberOfTrailingZeros.data.toList.drop 23 = dktJ17_numberOfTrailingZeros_1 := dk_seg dksJ17_numberOfTrailingZeros_0 23 rfl rfl
theorem dksJ17_numberOfTrailingZeros_2 : cJ17_numberOfTrailingZeros.data.toList.drop 47 = dktJ17_numberOfTrailingZeros_2 := dk_seg dksJ17_numberOfTrailingZeros_1 24 rfl rfl
theorem dksJ17_numberOfTrailingZeros_3 : cJ17_numberOfTrailingZeros.data.toList.drop 71 = dktJ17_numberOfTrailingZeros_3 := dk_seg dksJ17_numberOfTrailingZeros_2 24 rfl rfl
theorem dJ17_numberOfTrailingZeros_0 : decode cJ17_numberOfTrailingZeros 0 = .ok (.iload_n 0, 1) := dk_26 (dk_at dksJ17_numberOfTrailingZeros_0 0 rfl rfl)
theorem dJ17_numberOfTrailingZeros_1 : decode cJ17_numberOfTrailingZeros 1 = .ok (.iconst (-1), 1) := dk_2 (dk_at dksJ17_numberOfTrailingZeros_0 1 rfl rfl)
theorem dJ17_numberOfTrailingZeros_2 : decode cJ17_numberOfTrailingZeros 2 = .ok (.ixor, 1) := dk_130 (dk_at dksJ17_numberOfTrailingZeros_0 2 rfl rfl)
theorem dJ17_numberOfTrailingZeros_3 : decode cJ17_numberOfTrailingZeros 3 = .ok (.iload_n 0, 1) := dk_26 (dk_at dksJ17_numberOfTrailingZeros_0 3 rfl rfl)
theorem dJ17_numberOfTrailingZeros_4 : decode cJ17_numberOfTrailingZeros 4 = .ok (.iconst 1, 1) := dk_4 (dk_at dksJ17_numberOfTrailingZeros_0 4 rfl rfl)
theorem dJ17_numberOfTrailingZeros_5 : decode cJ17_numberOfTrailingZeros 5 = .ok (.isub, 1) := dk_100 (dk_at dksJ17_numberOfTrailingZeros_0 5 rfl rfl)
theorem dJ17_numberOfTrailingZeros_6 : decode cJ17_numberOfTrailingZeros 6 = .ok (.iand, 1) := dk_126 (dk_at dksJ17_numberOfTrailingZeros_0 6 rfl rfl)
theorem dJ17_numberOfTrailingZeros_7 : decode cJ17_numberOfTrailingZeros 7 = .ok (.istore_n 0, 1) := dk_59 (dk_at dksJ17_numberOfTrailingZeros_0 7 rfl rfl)
theorem dJ17_numberOfTrailingZeros_8 : decode cJ17_numberOfTrailingZeros 8 = .ok (.iload_n 0, 1) := dk_26 (dk_at dksJ17_numberOfTrailingZeros_0 8 rfl rfl)
theorem dJ17_numberOfTrailingZeros_9 : decode cJ17_numberOfTrailingZeros 9 = .ok (.ifCond .gt 8, 3) := dk_157 0 8 (dk_at dksJ17_numberOfTrailingZeros_0 9 rfl rfl)
theorem dJ17_numberOfTrailingZeros_12 : decode cJ17_numberOfTrailingZeros 12 = .ok (.iload_n 0, 1) := dk_26 (dk_at dksJ17_numberOfTrailingZeros_0 12 rfl rfl)
theorem dJ17_numberOfTrailingZeros_13 : decode cJ17_numberOfTrailingZeros 13 = .ok (.bipush 32, 2) := dk_16 32 (dk_at dksJ17_numberOfTrailingZeros_0 13 rfl rfl)
theorem dJ17_numberOfTrailingZeros_15 : decode cJ17_numberOfTrailingZeros 15 = .ok (.iand, 1) := dk_126 (dk_at dksJ17_numberOfTrailingZeros_0 15 rfl rfl)
theorem dJ17_numberOfTrailingZeros_16 : decode cJ17_numberOfTrailingZeros 16 = .ok (.ireturn, 1) := dk_172 (dk_at dksJ17_numberOfTrailingZeros_0 16 rfl rfl)
theorem dJ17_numberOfTrailingZeros_17 : decode cJ17_numberOfTrailingZeros 17 = .ok (.iconst 1, 1) := dk_4 (dk_at dksJ17_numberOfTrailingZeros_0 17 rfl rfl)
theorem dJ17_numberOfTrailingZeros_18 : decode cJ17_numberOfTrailingZeros 18 = .ok (.istore_n 1, 1) := dk_60 (dk_at dksJ17_numberOfTrailingZeros_0 18 rfl rfl)
theorem dJ17_numberOfTrailingZeros_19 : decode cJ17_numberOfTrailingZeros 19 = .ok (.iload_n 0, 1) := dk_26 (dk_at dksJ17_numberOfTrailingZeros_0 19 rfl rfl)
theorem dJ17_numberOfTrailingZeros_20 : decode cJ17_numberOfTrailingZeros 20 = .ok (.ldc_w 264, 3) := dk_19 1 8 (dk_at dksJ17_numberOfTrailingZeros_0 20 rfl rfl)
theorem dJ17_numberOfTrailingZeros_23 : decode cJ17_numberOfTrailingZeros 23 = .ok (.if_icmp .le 11, 3) := dk_164 0 11 (dk_at dksJ17_numberOfTrailingZeros_1 0 rfl rfl)
theorem dJ17_numberOfTrailingZeros_26 : decode cJ17_numberOfTrailingZeros 26 = .ok (.iinc 1 16, 3) := dk_132 1 16 (dk_at dksJ17_numberOfTrailingZeros_1 3 rfl rfl)
theorem dJ17_numberOfTrailingZeros_29 : decode cJ17_numberOfTrailingZeros 29 = .ok (.iload_n 0, 1) := dk_26 (dk_at dksJ17_numberOfTrailingZeros_1 6 rfl rfl)
theorem dJ17_numberOfTrailingZeros_30 : decode cJ17_numberOfTrailingZeros 30 = .ok (.bipush 16, 2) := dk_16 16 (dk_at dksJ17_numberOfTrailingZeros_1 7 rfl rfl)
theorem dJ17_numberOfTrailingZeros_32 : decode cJ17_numberOfTrailingZeros 32 = .ok (.iushr, 1) := dk_124 (dk_at dksJ17_numberOfTrailingZeros_1 9 rfl rfl)
theorem dJ17_numberOfTrailingZeros_33 : decode cJ17_numberOfTrailingZeros 33 = .ok (.istore_n 0, 1) := dk_59 (dk_at dksJ17_numberOfTrailingZeros_1 10 rfl rfl)
theorem dJ17_numberOfTrailingZeros_34 : decode cJ17_numberOfTrailingZeros 34 = .ok (.iload_n 0, 1) := dk_26 (dk_at dksJ17_numberOfTrailingZeros_1 11 rfl rfl)
theorem dJ17_numberOfTrailingZeros_35 : decode cJ17_numberOfTrailingZeros 35 = .ok (.sipush 256, 3) := dk_17 1 0 (dk_at dksJ17_numberOfTrailingZeros_1 12 rfl rfl)
theorem dJ17_numberOfTrailingZeros_38 : decode cJ17_numberOfTrailingZeros 38 = .ok (.if_icmp .le 11, 3) := dk_164 0 11 (dk_at dksJ17_numberOfTrailingZeros_1 15 rfl rfl)
theorem dJ17_numberOfTrailingZeros_41 : decode cJ17_numberOfTrailingZeros 41 = .ok (.iinc 1 8, 3) := dk_132 1 8 (dk_at dksJ17_numberOfTrailingZeros_1 18 rfl rfl)
theorem dJ17_numberOfTrailingZeros_44 : decode cJ17_numberOfTrailingZeros 44 = .ok (.iload_n 0, 1) := dk_26 (dk_at dksJ17_numberOfTrailingZeros_1 21 rfl rfl)
theorem dJ17_numberOfTrailingZeros_45 : decode cJ17_numberOfTrailingZeros 45 = .ok (.bipush 8, 2) := dk_16 8 (dk_at dksJ17_numberOfTrailingZeros_1 22 rfl rfl)
theorem dJ17_numberOfTrailingZeros_47 : decode cJ17_numberOfTrailingZeros 47 = .ok (.iushr, 1) := dk_124 (dk_at dksJ17_numberOfTrailingZeros_2 0 rfl rfl)
theorem dJ17_numberOfTrailingZeros_48 : decode cJ17_numberOfTrailingZeros 48 = .ok (.istore_n 0, 1) := dk_59 (dk_at dksJ17_numberOfTrailingZeros_2 1 rfl rfl)
theorem dJ17_numberOfTrailingZeros_49 : decode cJ17_numberOfTrailingZeros 49 = .ok (.iload_n 0, 1) := dk_26 (dk_at dksJ17_numberOfTrailingZeros_2 2 rfl rfl)
theorem dJ17_numberOfTrailingZeros_50 : decode cJ17_numberOfTrailingZeros 50 = .ok (.bipush 16, 2) := dk_16 16 (dk_at dksJ17_numberOfTrailingZeros_2 3 rfl rfl)
theorem dJ17_numberOfTrailingZeros_52 : decode cJ17_numberOfTrailingZeros 52 = .ok (.if_icmp .le 10, 3) := dk_164 0 10 (dk_at dksJ17_numberOfTrailingZeros_2 5 rfl rfl)
theorem dJ17_numberOfTrailingZeros_55 : decode cJ17_numberOfTrailingZeros 55 = .ok (.iinc 1 4, 3) := dk_132 1 4 (dk_at dksJ17_numberOfTrailingZeros_2 8 rfl rfl)
theorem dJ17_numberOfTrailingZeros_58 : decode cJ17_numberOfTrailingZeros 58 = .ok (.iload_n 0, 1) := dk_26 (dk_at dksJ17_numberOfTrailingZeros_2 11 rfl rfl)
theorem dJ17_numberOfTrailingZeros_59 : decode cJ17_numberOfTrailingZeros 59 = .ok (.iconst 4, 1) := dk_7 (dk_at dksJ17_numberOfTrailingZeros_2 12 rfl rfl)
theorem dJ17_numberOfTrailingZeros_60 : decode cJ17_numberOfTrailingZeros 60 = .ok (.iushr, 1) := dk_124 (dk_at dksJ17_numberOfTrailingZeros_2 13 rfl rfl)
theorem dJ17_numberOfTrailingZeros_61 : decode cJ17_numberOfTrailingZeros 61 = .ok (.istore_n 0, 1) := dk_59 (dk_at dksJ17_numberOfTrailingZeros_2 14 rfl rfl)
theorem dJ17_numberOfTrailingZeros_62 : decode cJ17_numberOfTrailingZeros 62 = .ok (.iload_n 0, 1) := dk_26 (dk_at dksJ17_numberOfTrailingZeros_2 15 rfl rfl)
theorem dJ17_numberOfTrailingZeros_63 : decode cJ17_numberOfTrailingZeros 63 = .ok (.iconst 4, 1) := dk_7 (dk_at dksJ17_numberOfTrailingZeros_2 16 rfl rfl)
theorem dJ17_numberOfTrailingZeros_64 : decode cJ17_numberOfTrailingZeros 64 = .ok (.if_icmp .le 10, 3) := dk_164 0 10 (dk_at dksJ17_numberOfTrailingZeros_2 17 rfl rfl)
theorem dJ17_numberOfTrailingZeros_67 : decode cJ17_numberOfTrailingZeros 67 = .ok (.iinc 1 2, 3) := dk_132 1 2 (dk_at dksJ17_numberOfTrailingZeros_2 20 rfl rfl)
theorem dJ17_numberOfTrailingZeros_70 : decode cJ17_numberOfTrailingZeros 70 = .ok (.iload_n 0, 1) := dk_26 (dk_at dksJ17_numberOfTrailingZeros_2 23 rfl rfl)
theorem dJ17_numberOfTrailingZeros_71 : decode cJ17_numberOfTrailingZeros 71 = .ok (.iconst 2, 1) := dk_5 (dk_at dksJ17_numberOfTrailingZeros_3 0 rfl rfl)
theorem dJ17_numberOfTrailingZeros_72 : decode cJ17_numberOfTrailingZeros 72 = .ok (.iushr, 1) := dk_124 (dk_at dksJ17_numberOfTrailingZeros_3 1 rfl rfl)
theorem dJ17_numberOfTrailingZeros_73 : decode cJ17_numberOfTrailingZeros 73 = .ok (.istore_n 0, 1) := dk_59 (dk_at dksJ17_numberOfTrailingZeros_3 2 rfl rfl)
theorem dJ17_numberOfTrailingZeros_74 : decode cJ17_numberOfTrailingZeros 74 = .ok (.iload_n 1, 1) := dk_27 (dk_at dksJ17_numberOfTrailingZeros_3 3 rfl rfl)
theorem dJ17_numberOfTrailingZeros_75 : decode cJ17_numberOfTrailingZeros 75 = .ok (.iload_n 0, 1) := dk_26 (dk_at dksJ17_numberOfTrailingZeros_3 4 rfl rfl)
theorem dJ17_numberOfTrailingZeros_76 : decode cJ17_numberOfTrailingZeros 76 = .ok (.iconst 1, 1) := dk_4 (dk_at dksJ17_numberOfTrailingZeros_3 5 rfl rfl)
theorem dJ17_numberOfTrailingZeros_77 : decode cJ17_numberOfTrailingZeros 77 = .ok (.iushr, 1) := dk_124 (dk_at dksJ17_numberOfTrailingZeros_3 6 rfl rfl)
theorem dJ17_numberOfTrailingZeros_78 : decode cJ17_numberOfTrailingZeros 78 = .ok (.iadd, 1) := dk_96 (dk_at dksJ17_numberOfTrailingZeros_3 7 rfl rfl)
theorem dJ17_numberOfTrailingZeros_79 : decode cJ17_numberOfTrailingZeros 79 = .ok (.ireturn, 1) := dk_172 (dk_at dksJ17_numberOfTrailingZeros_3 8 rfl rfl)
abbrev cJ17_compare : ByteArray := prog_38_method_40_code
def yJ17_compare : MethodName := ⟨RJ17, "compare", "(II)I"⟩
def dkwJ17_compare_0 : List UInt8 := [26, 27, 162, 0, 7, 2, 167, 0, 13, 26, 27, 160, 0, 7, 3, 167, 0, 4, 4, 172]
abbrev dktJ17_compare_0 : List UInt8 := dkwJ17_compare_0 ++ []
theorem dksJ17_compare_0 : cJ17_compare.data.toList.drop 0 = dktJ17_compare_0 := by decide +kernel
theorem dJ17_compare_0 : decode cJ17_compare 0 = .ok (.iload_n 0, 1) := dk_26 (dk_at dksJ17_compare_0 0 rfl rfl)
theorem dJ17_compare_1 : decode cJ17_compare 1 = .ok (.iload_n 1, 1) := dk_27 (dk_at dksJ17_compare_0 1 rfl rfl)
theorem dJ17_compare_2 : decode cJ17_compare 2 = .ok (.if_icmp .ge 7, 3) := dk_162 0 7 (dk_at dksJ17_compare_0 2 rfl rfl)
theorem dJ17_compare_5 : decode cJ17_compare 5 = .ok (.iconst (-1), 1) := dk_2 (dk_at dksJ17_compare_0 5 rfl rfl)
theorem dJ17_compare_6 : decode cJ17_compare 6 = .ok (.goto 13, 3) := dk_167 0 13 (dk_at dksJ17_compare_0 6 rfl rfl)
theorem dJ17_compare_9 : decode cJ17_compare 9 = .ok (.iload_n 0, 1) := dk_26 (dk_at dksJ17_compare_0 9 rfl rfl)
theorem dJ17_compare_10 : decode cJ17_compare 10 = .ok (.iload_n 1, 1) := dk_27 (dk_at dksJ17_compare_0 10 rfl rfl)
theorem dJ17_compare_11 : decode cJ17_compare 11 = .ok (.if_icmp .ne 7, 3) := dk_160 0 7 (dk_at dksJ17_compare_0 11 rfl rfl)
theorem dJ17_compare_14 : decode cJ17_compare 14 = .ok (.iconst 0, 1) := dk_3 (dk_at dksJ17_compare_0 14 rfl rfl)
theorem dJ17_compare_15 : decode cJ17_compare 15 = .ok (.goto 4, 3) := dk_167 0 4 (dk_at dksJ17_compare_0 15 rfl rfl)
theorem dJ17_compare_18 : decode cJ17_compare 18 = .ok (.iconst 1, 1) := dk_4 (dk_at dksJ17_compare_0 18 rfl rfl)
theorem dJ17_compare_19 : decode cJ17_compare 19 = .ok (.ireturn, 1) := dk_172 (dk_at dksJ17_compare_0 19 rfl rfl)
abbrev cJ17_signum : ByteArray := prog_38_method_56_code
def yJ17_signum : MethodName := ⟨RJ17, "signum", "(I)I"⟩
def dkwJ17_signum_0 : List UInt8 := [26, 16, 31, 122, 26, 116, 16, 31, 124, 128, 172]
abbrev dktJ17_signum_0 : List UInt8 := dkwJ17_signum_0 ++ []
theorem dksJ17_signum_0 : cJ17_signum.data.toList.drop 0 = dktJ17_signum_0 := by decide +kernel
theorem dJ17_signum_0 : decode cJ17_signum 0 = .ok (.iload_n 0, 1) := dk_26 (dk_at dksJ17_signum_0 0 rfl rfl)
theorem dJ17_signum_1 : decode cJ17_signum 1 = .ok (.bipush 31, 2) := dk_16 31 (dk_at dksJ17_signum_0 1 rfl rfl)
theorem dJ17_signum_3 : decode cJ17_signum 3 = .ok (.ishr, 1) := dk_122 (dk_at dksJ17_signum_0 3 rfl rfl)
theorem dJ17_signum_4 : decode cJ17_signum 4 = .ok (.iload_n 0, 1) := dk_26 (dk_at dksJ17_signum_0 4 rfl rfl)
theorem dJ17_signum_5 : decode cJ17_signum 5 = .ok (.ineg, 1) := dk_116 (dk_at dksJ17_signum_0 5 rfl rfl)
theorem dJ17_signum_6 : decode cJ17_signum 6 = .ok (.bipush 31, 2) := dk_16 31 (dk_at dksJ17_signum_0 6 rfl rfl)
theorem dJ17_signum_8 : decode cJ17_signum 8 = .ok (.iushr, 1) := dk_124 (dk_at dksJ17_signum_0 8 rfl rfl)
theorem dJ17_signum_9 : decode cJ17_signum 9 = .ok (.ior, 1) := dk_128 (dk_at dksJ17_signum_0 9 rfl rfl)
theorem dJ17_signum_10 : decode cJ17_signum 10 = .ok (.ireturn, 1) := dk_172 (dk_at dksJ17_signum_0 10 rfl rfl)
theorem q141 : (Jvm.Cond.initialized "java/lang/Integer") ∈ lw_all := lw_g (lw_at lw_m1 22 rfl) rfl
theorem q423 : (Jvm.Cond.static ({ cls := "java/lang/Integer", name := "stringSize", desc := "(I)I" } : Jvm.MethodName)) ∈ lw_all := lw_g (lw_at lw_m2 64 rfl) rfl
theorem q424 : (Jvm.Cond.code ({ cls := "java/lang/Integer", name := "stringSize", desc := "(I)I" } : Jvm.MethodName) prog_38_method_13_code (4 : Nat) (Option.some Jvm.ClassFile.FieldType.int)) ∈ lw_all := lw_g (lw_at lw_m2 65 rfl) rfl
theorem q426 : (Jvm.Cond.static ({ cls := "java/lang/Integer", name := "getChars", desc := "(II[B)I" } : Jvm.MethodName)) ∈ lw_all := lw_g (lw_at lw_m2 67 rfl) rfl
theorem q427 : (Jvm.Cond.code ({ cls := "java/lang/Integer", name := "getChars", desc := "(II[B)I" } : Jvm.MethodName) prog_38_method_12_code (7 : Nat) (Option.some Jvm.ClassFile.FieldType.int)) ∈ lw_all := lw_g (lw_at lw_m2 68 rfl) rfl
theorem q428 : (Jvm.Cond.fieldLink "java/lang/Integer" (83 : Nat) "java/lang/Integer" "DigitOnes" "[B") ∈ lw_all := lw_g (lw_at lw_m2 69 rfl) rfl
theorem q429 : (Jvm.Cond.laysStatic "java/lang/Integer" "DigitOnes" "[B") ∈ lw_tbl := lw_at lw_m2 70 rfl
theorem q430 : (Jvm.Cond.fieldLink "java/lang/Integer" (87 : Nat) "java/lang/Integer" "DigitTens" "[B") ∈ lw_all := lw_g (lw_at lw_m2 71 rfl) rfl
theorem q431 : (Jvm.Cond.laysStatic "java/lang/Integer" "DigitTens" "[B") ∈ lw_tbl := lw_at lw_m2 72 rfl
theorem q1047 : (Jvm.Cond.static ({ cls := "java/lang/Integer", name := "numberOfLeadingZeros", desc := "(I)I" } : Jvm.MethodName)) ∈ lw_all := lw_g (lw_at lw_m4 208 rfl) rfl
theorem q1048 : (Jvm.Cond.code ({ cls := "java/lang/Integer", name := "numberOfLeadingZeros", desc := "(I)I" } : Jvm.MethodName) prog_38_method_47_code (2 : Nat) (Option.some Jvm.ClassFile.FieldType.int)) ∈ lw_all := lw_g (lw_at lw_m4 209 rfl) rfl
theorem q1049 : (Jvm.Cond.constant "java/lang/Integer" (264 : Nat) (65536 : Int32)) ∈ lw_all := lw_g (lw_at lw_m4 210 rfl) rfl
theorem q1056 : (Jvm.Cond.static ({ cls := "java/lang/Integer", name := "numberOfTrailingZeros", desc := "(I)I" } : Jvm.MethodName)) ∈ lw_all := lw_g (lw_at lw_m4 217 rfl) rfl
theorem q1057 : (Jvm.Cond.code ({ cls := "java/lang/Integer", name := "numberOfTrailingZeros", desc := "(I)I" } : Jvm.MethodName) prog_38_method_48_code (2 : Nat) (Option.some Jvm.ClassFile.FieldType.int)) ∈ lw_all := lw_g (lw_at lw_m4 218 rfl) rfl
theorem q1618 : (Jvm.Cond.static ({ cls := "java/lang/Integer", name := "compare", desc := "(II)I" } : Jvm.MethodName)) ∈ lw_all := lw_g (lw_at lw_m7 59 rfl) rfl
theorem q1619 : (Jvm.Cond.code ({ cls := "java/lang/Integer", name := "compare", desc := "(II)I" } : Jvm.MethodName) prog_38_method_40_code (2 : Nat) (Option.some Jvm.ClassFile.FieldType.int)) ∈ lw_all := lw_g (lw_at lw_m7 60 rfl) rfl
theorem q2364 : (Jvm.Cond.static ({ cls := "java/lang/Integer", name := "signum", desc := "(I)I" } : Jvm.MethodName)) ∈ lw_all := lw_g (lw_at lw_m10 85 rfl) rfl
theorem q2365 : (Jvm.Cond.code ({ cls := "java/lang/Integer", name := "signum", desc := "(I)I" } : Jvm.MethodName) prog_38_method_56_code (1 : Nat) (Option.some Jvm.ClassFile.FieldType.int)) ∈ lw_all := lw_g (lw_at lw_m10 86 rfl) rfl
/-! java/util/AbstractMap -/
set_option maxRecDepth 100000
def RJ18 : String := "java/util/AbstractMap"
abbrev cJ18_init : ByteArray := prog_55_method_1_code
def yJ18_init : MethodName := ⟨RJ18, "<init>", "()V"⟩
theorem dJ18_init_0 : decode cJ18_init 0 = .ok (.aload_n 0, 1) := by decide +kernel
theorem dJ18_init_1 : decode cJ18_init 1 = .ok (.invokespecial 1, 3) := by decide +kernel
theorem dJ18_init_4 : decode cJ18_init 4 = .ok (.return_, 1) := by decide +kernel
theorem q142 : (Jvm.Cond.initialized "java/util/AbstractMap") ∈ lw_all := lw_g (lw_at lw_m1 23 rfl) rfl
theorem q556 : (Jvm.Cond.instanceMethod ({ cls := "java/util/AbstractMap", name := "<init>", desc := "()V" } : Jvm.MethodName)) ∈ lw_all := lw_g (lw_at lw_m2 197 rfl) rfl
theorem q557 : (Jvm.Cond.code ({ cls := "java/util/AbstractMap", name := "<init>", desc := "()V" } : Jvm.MethodName) prog_55_method_1_code (1 : Nat) (Option.none : Option Jvm.ClassFile.FieldType)) ∈ lw_all := lw_g (lw_at lw_m2 198 rfl) rfl
theorem q558 : (Jvm.Cond.methodLink "java/util/AbstractMap" (1 : Nat) ({ cls := "java/lang/Object", name := "<init>", desc := "()V" } : Jvm.MethodName)) ∈ lw_all := lw_g (lw_at lw_m2 199 rfl) rfl
theorem q578 : (Jvm.Cond.soleField "java/util/AbstractMap" "keySet") ∈ lw_all := lw_g (lw_at lw_m2 219 rfl) rfl
theorem q580 : (Jvm.Cond.soleField "java/util/AbstractMap" "values") ∈ lw_all := lw_g (lw_at lw_m2 221 rfl) rfl
/-! java/util/HashMap -/
set_option maxRecDepth 100000
def RJ19 : String := "java/util/HashMap"
def TJ19 : u_T := fun k => match k with
  | 0 => ("java/util/AbstractMap", "keySet", "Ljava/util/Set;", false)
  | 1 => ("java/util/AbstractMap", "values", "Ljava/util/Collection;", false)
  | 2 => ("java/util/HashMap", "table", "[Ljava/util/HashMap$Node;", false)
  | 3 => ("java/util/HashMap", "entrySet", "Ljava/util/Set;", false)
  | 4 => ("java/util/HashMap", "size", "I", false)
  | 5 => ("java/util/HashMap", "modCount", "I", false)
  | 6 => ("java/util/HashMap", "threshold", "I", false)
  | _ => ("java/util/HashMap", "loadFactor", "F", true)
def tyJ19 : Nat → FieldType := fun k => match k with
  | 0 => .object "java/util/Set"
  | 1 => .object "java/util/Collection"
  | 2 => .array (.object "java/util/HashMap$Node")
  | 3 => .object "java/util/Set"
  | 4 => .int
  | 5 => .int
  | 6 => .int
  | _ => .float
abbrev wsJ190 : List Cond := u_ws RJ19 TJ19 8
theorem nmJ19 : ∀ a, a < 8 → ∀ b, b < 8 → a ≠ b → (TJ19 a).2.1 ≠ (TJ19 b).2.1 := by decide +kernel
theorem tyJ19_ok : ∀ k, k < 8 → parseFieldDescriptor (TJ19 k).2.2.1 = some (tyJ19 k) := by decide +kernel
abbrev cJ19_init : ByteArray := prog_63_method_7_code
def yJ19_init : MethodName := ⟨RJ19, "<init>", "()V"⟩
def dkwJ19_init_0 : List UInt8 := [42, 183, 0, 43, 42, 18, 92, 181, 0, 81, 177]
abbrev dktJ19_init_0 : List UInt8 := dkwJ19_init_0 ++ []
theorem dksJ19_init_0 : cJ19_init.data.toList.drop 0 = dktJ19_init_0 := by decide +kernel
theorem dJ19_init_0 : decode cJ19_init 0 = .ok (.aload_n 0, 1) := dk_42 (dk_at dksJ19_init_0 0 rfl rfl)
theorem dJ19_init_1 : decode cJ19_init 1 = .ok (.invokespecial 43, 3) := dk_183 0 43 (dk_at dksJ19_init_0 1 rfl rfl)
theorem dJ19_init_4 : decode cJ19_init 4 = .ok (.aload_n 0, 1) := dk_42 (dk_at dksJ19_init_0 4 rfl rfl)
theorem dJ19_init_5 : decode cJ19_init 5 = .ok (.ldc 92, 2) := dk_18 92 (dk_at dksJ19_init_0 5 rfl rfl)
theorem dJ19_init_7 : decode cJ19_init 7 = .ok (.putfield 81, 3) := dk_181 0 81 (dk_at dksJ19_init_0 7 rfl rfl)
theorem dJ19_init_10 : decode cJ19_init 10 = .ok (.return_, 1) := dk_177 (dk_at dksJ19_init_0 10 rfl rfl)
abbrev cJ19_put : ByteArray := prog_63_method_15_code
def yJ19_put : MethodName := ⟨RJ19, "put", "(Ljava/lang/Object;Ljava/lang/Object;)Ljava/lang/Object;"⟩
def dkwJ19_put_0 : List UInt8 := [42, 43, 184, 0, 149, 43, 44, 3, 4, 182, 0, 152, 176]
abbrev dktJ19_put_0 : List UInt8 := dkwJ19_put_0 ++ []
theorem dksJ19_put_0 : cJ19_put.data.toList.drop 0 = dktJ19_put_0 := by decide +kernel
theorem dJ19_put_0 : decode cJ19_put 0 = .ok (.aload_n 0, 1) := dk_42 (dk_at dksJ19_put_0 0 rfl rfl)
theorem dJ19_put_1 : decode cJ19_put 1 = .ok (.aload_n 1, 1) := dk_43 (dk_at dksJ19_put_0 1 rfl rfl)
theorem dJ19_put_2 : decode cJ19_put 2 = .ok (.invokestatic 149, 3) := dk_184 0 149 (dk_at dksJ19_put_0 2 rfl rfl)
theorem dJ19_put_5 : decode cJ19_put 5 = .ok (.aload_n 1, 1) := dk_43 (dk_at dksJ19_put_0 5 rfl rfl)
theorem dJ19_put_6 : decode cJ19_put 6 = .ok (.aload_n 2, 1) := dk_44 (dk_at dksJ19_put_0 6 rfl rfl)
theorem dJ19_put_7 : decode cJ19_put 7 = .ok (.iconst 0, 1) := dk_3 (dk_at dksJ19_put_0 7 rfl rfl)
theorem dJ19_put_8 : decode cJ19_put 8 = .ok (.iconst 1, 1) := dk_4 (dk_at dksJ19_put_0 8 rfl rfl)
theorem dJ19_put_9 : decode cJ19_put 9 = .ok (.invokevirtual 152, 3) := dk_182 0 152 (dk_at dksJ19_put_0 9 rfl rfl)
theorem dJ19_put_12 : decode cJ19_put 12 = .ok (.areturn, 1) := dk_176 (dk_at dksJ19_put_0 12 rfl rfl)
abbrev cJ19_hash : ByteArray := prog_63_method_1_code
def yJ19_hash : MethodName := ⟨RJ19, "hash", "(Ljava/lang/Object;)I"⟩
def dkwJ19_hash_0 : List UInt8 := [42, 199, 0, 7, 3, 167, 0, 14, 42, 182, 0, 1, 89, 60, 27, 16, 16, 124, 130, 172]
abbrev dktJ19_hash_0 : List UInt8 := dkwJ19_hash_0 ++ []
theorem dksJ19_hash_0 : cJ19_hash.data.toList.drop 0 = dktJ19_hash_0 := by decide +kernel
theorem dJ19_hash_0 : decode cJ19_hash 0 = .ok (.aload_n 0, 1) := dk_42 (dk_at dksJ19_hash_0 0 rfl rfl)
theorem dJ19_hash_1 : decode cJ19_hash 1 = .ok (.ifnonnull 7, 3) := dk_199 0 7 (dk_at dksJ19_hash_0 1 rfl rfl)
theorem dJ19_hash_4 : decode cJ19_hash 4 = .ok (.iconst 0, 1) := dk_3 (dk_at dksJ19_hash_0 4 rfl rfl)
theorem dJ19_hash_5 : decode cJ19_hash 5 = .ok (.goto 14, 3) := dk_167 0 14 (dk_at dksJ19_hash_0 5 rfl rfl)
theorem dJ19_hash_8 : decode cJ19_hash 8 = .ok (.aload_n 0, 1) := dk_42 (dk_at dksJ19_hash_0 8 rfl rfl)
theorem dJ19_hash_9 : decode cJ19_hash 9 = .ok (.invokevirtual 1, 3) := dk_182 0 1 (dk_at dksJ19_hash_0 9 rfl rfl)
theorem dJ19_hash_12 : decode cJ19_hash 12 = .ok (.dup, 1) := dk_89 (dk_at dksJ19_hash_0 12 rfl rfl)
theorem dJ19_hash_13 : decode cJ19_hash 13 = .ok (.istore_n 1, 1) := dk_60 (dk_at dksJ19_hash_0 13 rfl rfl)
theorem dJ19_hash_14 : decode cJ19_hash 14 = .ok (.iload_n 1, 1) := dk_27 (dk_at dksJ19_hash_0 14 rfl rfl)
theorem dJ19_hash_15 : decode cJ19_hash 15 = .ok (.bipush 16, 2) := dk_16 16 (dk_at dksJ19_hash_0 15 rfl rfl)
theorem dJ19_hash_17 : decode cJ19_hash 17 = .ok (.iushr, 1) := dk_124 (dk_at dksJ19_hash_0 17 rfl rfl)
theorem dJ19_hash_18 : decode cJ19_hash 18 = .ok (.ixor, 1) := dk_130 (dk_at dksJ19_hash_0 18 rfl rfl)
theorem dJ19_hash_19 : decode cJ19_hash 19 = .ok (.ireturn, 1) := dk_172 (dk_at dksJ19_hash_0 19 rfl rfl)
abbrev cJ19_putVal : ByteArray := prog_63_method_16_code
def yJ19_putVal : MethodName := ⟨RJ19, "putVal", "(ILjava/lang/Object;Ljava/lang/Object;ZZ)Ljava/lang/Object;"⟩
def dkwJ19_putVal_12 : List UInt8 := [181, 0, 156, 42, 180, 0, 88, 164, 0, 8, 42, 182, 0, 117, 87, 42, 21, 5, 182, 0, 205, 1, 176]
abbrev dktJ19_putVal_12 : List UInt8 := dkwJ19_putVal_12 ++ []
def dkwJ19_putVal_11 : List UInt8 := [182, 0, 198, 25, 12, 176, 42, 89, 180, 0, 202, 4, 96, 181, 0, 202, 42, 89, 180, 0, 156, 4, 96, 90]
abbrev dktJ19_putVal_11 : List UInt8 := dkwJ19_putVal_11 ++ dktJ19_putVal_12
def dkwJ19_putVal_10 : List UInt8 := [180, 0, 162, 58, 12, 21, 4, 153, 0, 8, 25, 12, 199, 0, 9, 25, 10, 45, 181, 0, 162, 42, 25, 10]
abbrev dktJ19_putVal_10 : List UInt8 := dkwJ19_putVal_10 ++ dktJ19_putVal_11
def dkwJ19_putVal_9 : List UInt8 := [153, 0, 6, 167, 0, 13, 25, 10, 58, 7, 132, 12, 1, 167, 255, 171, 25, 10, 198, 0, 35, 25, 10]
abbrev dktJ19_putVal_9 : List UInt8 := dkwJ19_putVal_9 ++ dktJ19_putVal_10
def dkwJ19_putVal_8 : List UInt8 := [25, 10, 180, 0, 170, 89, 58, 11, 44, 165, 0, 29, 44, 198, 0, 15, 44, 25, 11, 182, 0, 173]
abbrev dktJ19_putVal_8 : List UInt8 := dkwJ19_putVal_8 ++ dktJ19_putVal_9
def dkwJ19_putVal_7 : List UInt8 := [16, 7, 161, 0, 60, 42, 25, 6, 27, 182, 0, 194, 167, 0, 50, 25, 10, 180, 0, 168, 27, 160, 0, 31]
abbrev dktJ19_putVal_7 : List UInt8 := dkwJ19_putVal_7 ++ dktJ19_putVal_8
def dkwJ19_putVal_6 : List UInt8 := [180, 0, 177, 89, 58, 10, 199, 0, 33, 25, 7, 42, 27, 44, 45, 1, 182, 0, 186, 181, 0, 177, 21, 12]
abbrev dktJ19_putVal_6 : List UInt8 := dkwJ19_putVal_6 ++ dktJ19_putVal_7
def dkwJ19_putVal_5 : List UInt8 := [192, 0, 180, 42, 25, 6, 27, 44, 45, 182, 0, 190, 58, 10, 167, 0, 94, 3, 54, 12, 25, 7]
abbrev dktJ19_putVal_5 : List UInt8 := dkwJ19_putVal_5 ++ dktJ19_putVal_6
def dkwJ19_putVal_4 : List UInt8 := [182, 0, 173, 153, 0, 10, 25, 7, 58, 10, 167, 0, 121, 25, 7, 193, 0, 180, 153, 0, 22, 25, 7]
abbrev dktJ19_putVal_4 : List UInt8 := dkwJ19_putVal_4 ++ dktJ19_putVal_5
def dkwJ19_putVal_3 : List UInt8 := [160, 0, 35, 25, 7, 180, 0, 170, 89, 58, 11, 44, 165, 0, 16, 44, 198, 0, 19, 44, 25, 11]
abbrev dktJ19_putVal_3 : List UInt8 := dkwJ19_putVal_3 ++ dktJ19_putVal_4
def dkwJ19_putVal_2 : List UInt8 := [25, 6, 21, 9, 42, 27, 44, 45, 1, 182, 0, 186, 83, 167, 0, 199, 25, 7, 180, 0, 168, 27]
abbrev dktJ19_putVal_2 : List UInt8 := dkwJ19_putVal_2 ++ dktJ19_putVal_3
def dkwJ19_putVal_1 : List UInt8 := [58, 6, 190, 54, 8, 25, 6, 21, 8, 4, 100, 27, 126, 89, 54, 9, 50, 89, 58, 7, 199, 0, 19]
abbrev dktJ19_putVal_1 : List UInt8 := dkwJ19_putVal_1 ++ dktJ19_putVal_2
def dkwJ19_putVal_0 : List UInt8 := [42, 180, 0, 105, 89, 58, 6, 198, 0, 12, 25, 6, 190, 89, 54, 8, 154, 0, 13, 42, 182, 0, 117, 89]
abbrev dktJ19_putVal_0 : List UInt8 := dkwJ19_putVal_0 ++ dktJ19_putVal_1
theorem dksJ19_putVal_0 : cJ19_putVal.data.toList.drop 0 = dktJ19_putVal_0 := by decide +kernel
theorem dksJ19_putVal_1 : cJ19_putVal.data.toList.drop 24 = dktJ19_putVal_1 := dk_seg dksJ19_putVal_0 24 rfl rfl
theorem dksJ19_putVal_2 : cJ19_putVal.data.toList.drop 47 = dktJ19_putVal_2 := dk_seg dksJ19_putVal_1 23 rfl rfl
theorem dksJ19_putVal_3 : cJ19_putVal.data.toList.drop 69 = dktJ19_putVal_3 := dk_seg dksJ19_putVal_2 22 rfl rfl
theorem dksJ19_putVal_4 : cJ19_putVal.data.toList.drop 91 = dktJ19_putVal_4 := dk_seg dksJ19_putVal_3 22 rfl rfl
theorem dksJ19_putVal_5 : cJ19_putVal.data.toList.drop 114 = dktJ19_putVal_5 := dk_seg dksJ19_putVal_4 23 rfl rfl
theorem dksJ19_putVal_6 : cJ19_putVal.data.toList.drop 136 = dktJ19_putVal_6 := dk_seg dksJ19_putVal_5 22 rfl rfl
theorem dksJ19_putVal_7 : cJ19_putVal.data.toList.drop 160 = dktJ19_putVal_7 := dk_seg dksJ19_putVal_6 24 rfl rfl
theorem dksJ19_putVal_8 : cJ19_putVal.data.toList.drop 184 = dktJ19_putVal_8 := dk_seg dksJ19_putVal_7 24 rfl rfl
theorem dksJ19_putVal_9 : cJ19_putVal.data.toList.drop 206 = dktJ19_putVal_9 := dk_seg dksJ19_putVal_8 22 rfl rfl
theorem dksJ19_putVal_10 : cJ19_putVal.data.toList.drop 229 = dktJ19_putVal_10 := dk_seg dksJ19_putVal_9 23 rfl rfl
theorem dksJ19_putVal_11 : cJ19_putVal.data.toList.drop 253 = dktJ19_putVal_11 := dk_seg dksJ19_putVal_10 24 rfl rfl
theorem dksJ19_putVal_12 : cJ19_putVal.data.toList.drop 277 = dktJ19_putVal_12 := dk_seg dksJ19_putVal_11 24 rfl rfl
theorem dJ19_putVal_0 : decode cJ19_putVal 0 = .ok (.aload_n 0, 1) := dk_42 (dk_at dksJ19_putVal_0 0 rfl rfl)
theorem dJ19_putVal_1 : decode cJ19_putVal 1 = .ok (.getfield 105, 3) := dk_180 0 105 (dk_at dksJ19_putVal_0 1 rfl rfl)
theorem dJ19_putVal_4 : decode cJ19_putVal 4 = .ok (.dup, 1) := dk_89 (dk_at dksJ19_putVal_0 4 rfl rfl)
theorem dJ19_putVal_5 : decode cJ19_putVal 5 = .ok (.astore 6, 2) := dk_58 6 (dk_at dksJ19_putVal_0 5 rfl rfl)
theorem dJ19_putVal_7 : decode cJ19_putVal 7 = .ok (.ifnull 12, 3) := dk_198 0 12 (dk_at dksJ19_putVal_0 7 rfl rfl)
theorem dJ19_putVal_10 : decode cJ19_putVal 10 = .ok (.aload 6, 2) := dk_25 6 (dk_at dksJ19_putVal_0 10 rfl rfl)
theorem dJ19_putVal_12 : decode cJ19_putVal 12 = .ok (.arraylength, 1) := dk_190 (dk_at dksJ19_putVal_0 12 rfl rfl)
theorem dJ19_putVal_13 : decode cJ19_putVal 13 = .ok (.dup, 1) := dk_89 (dk_at dksJ19_putVal_0 13 rfl rfl)
theorem dJ19_putVal_14 : decode cJ19_putVal 14 = .ok (.istore 8, 2) := dk_54 8 (dk_at dksJ19_putVal_0 14 rfl rfl)
theorem dJ19_putVal_16 : decode cJ19_putVal 16 = .ok (.ifCond .ne 13, 3) := dk_154 0 13 (dk_at dksJ19_putVal_0 16 rfl rfl)
theorem dJ19_putVal_19 : decode cJ19_putVal 19 = .ok (.aload_n 0, 1) := dk_42 (dk_at dksJ19_putVal_0 19 rfl rfl)
theorem dJ19_putVal_20 : decode cJ19_putVal 20 = .ok (.invokevirtual 117, 3) := dk_182 0 117 (dk_at dksJ19_putVal_0 20 rfl rfl)
theorem dJ19_putVal_23 : decode cJ19_putVal 23 = .ok (.dup, 1) := dk_89 (dk_at dksJ19_putVal_0 23 rfl rfl)
theorem dJ19_putVal_24 : decode cJ19_putVal 24 = .ok (.astore 6, 2) := dk_58 6 (dk_at dksJ19_putVal_1 0 rfl rfl)
theorem dJ19_putVal_26 : decode cJ19_putVal 26 = .ok (.arraylength, 1) := dk_190 (dk_at dksJ19_putVal_1 2 rfl rfl)
theorem dJ19_putVal_27 : decode cJ19_putVal 27 = .ok (.istore 8, 2) := dk_54 8 (dk_at dksJ19_putVal_1 3 rfl rfl)
theorem dJ19_putVal_29 : decode cJ19_putVal 29 = .ok (.aload 6, 2) := dk_25 6 (dk_at dksJ19_putVal_1 5 rfl rfl)
theorem dJ19_putVal_31 : decode cJ19_putVal 31 = .ok (.iload 8, 2) := dk_21 8 (dk_at dksJ19_putVal_1 7 rfl rfl)
theorem dJ19_putVal_33 : decode cJ19_putVal 33 = .ok (.iconst 1, 1) := dk_4 (dk_at dksJ19_putVal_1 9 rfl rfl)
theorem dJ19_putVal_34 : decode cJ19_putVal 34 = .ok (.isub, 1) := dk_100 (dk_at dksJ19_putVal_1 10 rfl rfl)
theorem dJ19_putVal_35 : decode cJ19_putVal 35 = .ok (.iload_n 1, 1) := dk_27 (dk_at dksJ19_putVal_1 11 rfl rfl)
theorem dJ19_putVal_36 : decode cJ19_putVal 36 = .ok (.iand, 1) := dk_126 (dk_at dksJ19_putVal_1 12 rfl rfl)
theorem dJ19_putVal_37 : decode cJ19_putVal 37 = .ok (.dup, 1) := dk_89 (dk_at dksJ19_putVal_1 13 rfl rfl)
theorem dJ19_putVal_38 : decode cJ19_putVal 38 = .ok (.istore 9, 2) := dk_54 9 (dk_at dksJ19_putVal_1 14 rfl rfl)
theorem dJ19_putVal_40 : decode cJ19_putVal 40 = .ok (.aaload, 1) := dk_50 (dk_at dksJ19_putVal_1 16 rfl rfl)
theorem dJ19_putVal_41 : decode cJ19_putVal 41 = .ok (.dup, 1) := dk_89 (dk_at dksJ19_putVal_1 17 rfl rfl)
theorem dJ19_putVal_42 : decode cJ19_putVal 42 = .ok (.astore 7, 2) := dk_58 7 (dk_at dksJ19_putVal_1 18 rfl rfl)
theorem dJ19_putVal_44 : decode cJ19_putVal 44 = .ok (.ifnonnull 19, 3) := dk_199 0 19 (dk_at dksJ19_putVal_1 20 rfl rfl)
theorem dJ19_putVal_47 : decode cJ19_putVal 47 = .ok (.aload 6, 2) := dk_25 6 (dk_at dksJ19_putVal_2 0 rfl rfl)
theorem dJ19_putVal_49 : decode cJ19_putVal 49 = .ok (.iload 9, 2) := dk_21 9 (dk_at dksJ19_putVal_2 2 rfl rfl)
theorem dJ19_putVal_51 : decode cJ19_putVal 51 = .ok (.aload_n 0, 1) := dk_42 (dk_at dksJ19_putVal_2 4 rfl rfl)
theorem dJ19_putVal_52 : decode cJ19_putVal 52 = .ok (.iload_n 1, 1) := dk_27 (dk_at dksJ19_putVal_2 5 rfl rfl)
theorem dJ19_putVal_53 : decode cJ19_putVal 53 = .ok (.aload_n 2, 1) := dk_44 (dk_at dksJ19_putVal_2 6 rfl rfl)
theorem dJ19_putVal_54 : decode cJ19_putVal 54 = .ok (.aload_n 3, 1) := dk_45 (dk_at dksJ19_putVal_2 7 rfl rfl)
theorem dJ19_putVal_55 : decode cJ19_putVal 55 = .ok (.aconst_null, 1) := dk_1 (dk_at dksJ19_putVal_2 8 rfl rfl)
theorem dJ19_putVal_56 : decode cJ19_putVal 56 = .ok (.invokevirtual 186, 3) := dk_182 0 186 (dk_at dksJ19_putVal_2 9 rfl rfl)
theorem dJ19_putVal_59 : decode cJ19_putVal 59 = .ok (.aastore, 1) := dk_83 (dk_at dksJ19_putVal_2 12 rfl rfl)
theorem dJ19_putVal_60 : decode cJ19_putVal 60 = .ok (.goto 199, 3) := dk_167 0 199 (dk_at dksJ19_putVal_2 13 rfl rfl)
theorem dJ19_putVal_63 : decode cJ19_putVal 63 = .ok (.aload 7, 2) := dk_25 7 (dk_at dksJ19_putVal_2 16 rfl rfl)
theorem dJ19_putVal_65 : decode cJ19_putVal 65 = .ok (.getfield 168, 3) := dk_180 0 168 (dk_at dksJ19_putVal_2 18 rfl rfl)
theorem dJ19_putVal_68 : decode cJ19_putVal 68 = .ok (.iload_n 1, 1) := dk_27 (dk_at dksJ19_putVal_2 21 rfl rfl)
theorem dJ19_putVal_69 : decode cJ19_putVal 69 = .ok (.if_icmp .ne 35, 3) := dk_160 0 35 (dk_at dksJ19_putVal_3 0 rfl rfl)
theorem dJ19_putVal_72 : decode cJ19_putVal 72 = .ok (.aload 7, 2) := dk_25 7 (dk_at dksJ19_putVal_3 3 rfl rfl)
theorem dJ19_putVal_74 : decode cJ19_putVal 74 = .ok (.getfield 170, 3) := dk_180 0 170 (dk_at dksJ19_putVal_3 5 rfl rfl)
theorem dJ19_putVal_77 : decode cJ19_putVal 77 = .ok (.dup, 1) := dk_89 (dk_at dksJ19_putVal_3 8 rfl rfl)
theorem dJ19_putVal_78 : decode cJ19_putVal 78 = .ok (.astore 11, 2) := dk_58 11 (dk_at dksJ19_putVal_3 9 rfl rfl)
theorem dJ19_putVal_80 : decode cJ19_putVal 80 = .ok (.aload_n 2, 1) := dk_44 (dk_at dksJ19_putVal_3 11 rfl rfl)
theorem dJ19_putVal_81 : decode cJ19_putVal 81 = .ok (.if_acmp .eq 16, 3) := dk_165 0 16 (dk_at dksJ19_putVal_3 12 rfl rfl)
theorem dJ19_putVal_84 : decode cJ19_putVal 84 = .ok (.aload_n 2, 1) := dk_44 (dk_at dksJ19_putVal_3 15 rfl rfl)
theorem dJ19_putVal_85 : decode cJ19_putVal 85 = .ok (.ifnull 19, 3) := dk_198 0 19 (dk_at dksJ19_putVal_3 16 rfl rfl)
theorem dJ19_putVal_88 : decode cJ19_putVal 88 = .ok (.aload_n 2, 1) := dk_44 (dk_at dksJ19_putVal_3 19 rfl rfl)
theorem dJ19_putVal_89 : decode cJ19_putVal 89 = .ok (.aload 11, 2) := dk_25 11 (dk_at dksJ19_putVal_3 20 rfl rfl)
theorem dJ19_putVal_91 : decode cJ19_putVal 91 = .ok (.invokevirtual 173, 3) := dk_182 0 173 (dk_at dksJ19_putVal_4 0 rfl rfl)
theorem dJ19_putVal_94 : decode cJ19_putVal 94 = .ok (.ifCond .eq 10, 3) := dk_153 0 10 (dk_at dksJ19_putVal_4 3 rfl rfl)
theorem dJ19_putVal_97 : decode cJ19_putVal 97 = .ok (.aload 7, 2) := dk_25 7 (dk_at dksJ19_putVal_4 6 rfl rfl)
theorem dJ19_putVal_99 : decode cJ19_putVal 99 = .ok (.astore 10, 2) := dk_58 10 (dk_at dksJ19_putVal_4 8 rfl rfl)
theorem dJ19_putVal_101 : decode cJ19_putVal 101 = .ok (.goto 121, 3) := dk_167 0 121 (dk_at dksJ19_putVal_4 10 rfl rfl)
theorem dJ19_putVal_104 : decode cJ19_putVal 104 = .ok (.aload 7, 2) := dk_25 7 (dk_at dksJ19_putVal_4 13 rfl rfl)
theorem dJ19_putVal_106 : decode cJ19_putVal 106 = .ok (.instanceof 180, 3) := dk_193 0 180 (dk_at dksJ19_putVal_4 15 rfl rfl)
theorem dJ19_putVal_109 : decode cJ19_putVal 109 = .ok (.ifCond .eq 22, 3) := dk_153 0 22 (dk_at dksJ19_putVal_4 18 rfl rfl)
theorem dJ19_putVal_112 : decode cJ19_putVal 112 = .ok (.aload 7, 2) := dk_25 7 (dk_at dksJ19_putVal_4 21 rfl rfl)
theorem dJ19_putVal_114 : decode cJ19_putVal 114 = .ok (.checkcast 180, 3) := dk_192 0 180 (dk_at dksJ19_putVal_5 0 rfl rfl)
theorem dJ19_putVal_117 : decode cJ19_putVal 117 = .ok (.aload_n 0, 1) := dk_42 (dk_at dksJ19_putVal_5 3 rfl rfl)
theorem dJ19_putVal_118 : decode cJ19_putVal 118 = .ok (.aload 6, 2) := dk_25 6 (dk_at dksJ19_putVal_5 4 rfl rfl)
theorem dJ19_putVal_120 : decode cJ19_putVal 120 = .ok (.iload_n 1, 1) := dk_27 (dk_at dksJ19_putVal_5 6 rfl rfl)
theorem dJ19_putVal_121 : decode cJ19_putVal 121 = .ok (.aload_n 2, 1) := dk_44 (dk_at dksJ19_putVal_5 7 rfl rfl)
theorem dJ19_putVal_122 : decode cJ19_putVal 122 = .ok (.aload_n 3, 1) := dk_45 (dk_at dksJ19_putVal_5 8 rfl rfl)
theorem dJ19_putVal_123 : decode cJ19_putVal 123 = .ok (.invokevirtual 190, 3) := dk_182 0 190 (dk_at dksJ19_putVal_5 9 rfl rfl)
theorem dJ19_putVal_126 : decode cJ19_putVal 126 = .ok (.astore 10, 2) := dk_58 10 (dk_at dksJ19_putVal_5 12 rfl rfl)
theorem dJ19_putVal_128 : decode cJ19_putVal 128 = .ok (.goto 94, 3) := dk_167 0 94 (dk_at dksJ19_putVal_5 14 rfl rfl)
theorem dJ19_putVal_131 : decode cJ19_putVal 131 = .ok (.iconst 0, 1) := dk_3 (dk_at dksJ19_putVal_5 17 rfl rfl)
theorem dJ19_putVal_132 : decode cJ19_putVal 132 = .ok (.istore 12, 2) := dk_54 12 (dk_at dksJ19_putVal_5 18 rfl rfl)
theorem dJ19_putVal_134 : decode cJ19_putVal 134 = .ok (.aload 7, 2) := dk_25 7 (dk_at dksJ19_putVal_5 20 rfl rfl)
theorem dJ19_putVal_136 : decode cJ19_putVal 136 = .ok (.getfield 177, 3) := dk_180 0 177 (dk_at dksJ19_putVal_6 0 rfl rfl)
theorem dJ19_putVal_139 : decode cJ19_putVal 139 = .ok (.dup, 1) := dk_89 (dk_at dksJ19_putVal_6 3 rfl rfl)
theorem dJ19_putVal_140 : decode cJ19_putVal 140 = .ok (.astore 10, 2) := dk_58 10 (dk_at dksJ19_putVal_6 4 rfl rfl)
theorem dJ19_putVal_142 : decode cJ19_putVal 142 = .ok (.ifnonnull 33, 3) := dk_199 0 33 (dk_at dksJ19_putVal_6 6 rfl rfl)
theorem dJ19_putVal_145 : decode cJ19_putVal 145 = .ok (.aload 7, 2) := dk_25 7 (dk_at dksJ19_putVal_6 9 rfl rfl)
theorem dJ19_putVal_147 : decode cJ19_putVal 147 = .ok (.aload_n 0, 1) := dk_42 (dk_at dksJ19_putVal_6 11 rfl rfl)
theorem dJ19_putVal_148 : decode cJ19_putVal 148 = .ok (.iload_n 1, 1) := dk_27 (dk_at dksJ19_putVal_6 12 rfl rfl)
theorem dJ19_putVal_149 : decode cJ19_putVal 149 = .ok (.aload_n 2, 1) := dk_44 (dk_at dksJ19_putVal_6 13 rfl rfl)
theorem dJ19_putVal_150 : decode cJ19_putVal 150 = .ok (.aload_n 3, 1) := dk_45 (dk_at dksJ19_putVal_6 14 rfl rfl)
theorem dJ19_putVal_151 : decode cJ19_putVal 151 = .ok (.aconst_null, 1) := dk_1 (dk_at dksJ19_putVal_6 15 rfl rfl)
theorem dJ19_putVal_152 : decode cJ19_putVal 152 = .ok (.invokevirtual 186, 3) := dk_182 0 186 (dk_at dksJ19_putVal_6 16 rfl rfl)
theorem dJ19_putVal_155 : decode cJ19_putVal 155 = .ok (.putfield 177, 3) := dk_181 0 177 (dk_at dksJ19_putVal_6 19 rfl rfl)
theorem dJ19_putVal_158 : decode cJ19_putVal 158 = .ok (.iload 12, 2) := dk_21 12 (dk_at dksJ19_putVal_6 22 rfl rfl)
theorem dJ19_putVal_160 : decode cJ19_putVal 160 = .ok (.bipush 7, 2) := dk_16 7 (dk_at dksJ19_putVal_7 0 rfl rfl)
theorem dJ19_putVal_162 : decode cJ19_putVal 162 = .ok (.if_icmp .lt 60, 3) := dk_161 0 60 (dk_at dksJ19_putVal_7 2 rfl rfl)
theorem dJ19_putVal_165 : decode cJ19_putVal 165 = .ok (.aload_n 0, 1) := dk_42 (dk_at dksJ19_putVal_7 5 rfl rfl)
theorem dJ19_putVal_166 : decode cJ19_putVal 166 = .ok (.aload 6, 2) := dk_25 6 (dk_at dksJ19_putVal_7 6 rfl rfl)
theorem dJ19_putVal_168 : decode cJ19_putVal 168 = .ok (.iload_n 1, 1) := dk_27 (dk_at dksJ19_putVal_7 8 rfl rfl)
theorem dJ19_putVal_169 : decode cJ19_putVal 169 = .ok (.invokevirtual 194, 3) := dk_182 0 194 (dk_at dksJ19_putVal_7 9 rfl rfl)
theorem dJ19_putVal_172 : decode cJ19_putVal 172 = .ok (.goto 50, 3) := dk_167 0 50 (dk_at dksJ19_putVal_7 12 rfl rfl)
theorem dJ19_putVal_175 : decode cJ19_putVal 175 = .ok (.aload 10, 2) := dk_25 10 (dk_at dksJ19_putVal_7 15 rfl rfl)
theorem dJ19_putVal_177 : decode cJ19_putVal 177 = .ok (.getfield 168, 3) := dk_180 0 168 (dk_at dksJ19_putVal_7 17 rfl rfl)
theorem dJ19_putVal_180 : decode cJ19_putVal 180 = .ok (.iload_n 1, 1) := dk_27 (dk_at dksJ19_putVal_7 20 rfl rfl)
theorem dJ19_putVal_181 : decode cJ19_putVal 181 = .ok (.if_icmp .ne 31, 3) := dk_160 0 31 (dk_at dksJ19_putVal_7 21 rfl rfl)
theorem dJ19_putVal_184 : decode cJ19_putVal 184 = .ok (.aload 10, 2) := dk_25 10 (dk_at dksJ19_putVal_8 0 rfl rfl)
theorem dJ19_putVal_186 : decode cJ19_putVal 186 = .ok (.getfield 170, 3) := dk_180 0 170 (dk_at dksJ19_putVal_8 2 rfl rfl)
theorem dJ19_putVal_189 : decode cJ19_putVal 189 = .ok (.dup, 1) := dk_89 (dk_at dksJ19_putVal_8 5 rfl rfl)
theorem dJ19_putVal_190 : decode cJ19_putVal 190 = .ok (.astore 11, 2) := dk_58 11 (dk_at dksJ19_putVal_8 6 rfl rfl)
theorem dJ19_putVal_192 : decode cJ19_putVal 192 = .ok (.aload_n 2, 1) := dk_44 (dk_at dksJ19_putVal_8 8 rfl rfl)
theorem dJ19_putVal_193 : decode cJ19_putVal 193 = .ok (.if_acmp .eq 29, 3) := dk_165 0 29 (dk_at dksJ19_putVal_8 9 rfl rfl)
theorem dJ19_putVal_196 : decode cJ19_putVal 196 = .ok (.aload_n 2, 1) := dk_44 (dk_at dksJ19_putVal_8 12 rfl rfl)
theorem dJ19_putVal_197 : decode cJ19_putVal 197 = .ok (.ifnull 15, 3) := dk_198 0 15 (dk_at dksJ19_putVal_8 13 rfl rfl)
theorem dJ19_putVal_200 : decode cJ19_putVal 200 = .ok (.aload_n 2, 1) := dk_44 (dk_at dksJ19_putVal_8 16 rfl rfl)
theorem dJ19_putVal_201 : decode cJ19_putVal 201 = .ok (.aload 11, 2) := dk_25 11 (dk_at dksJ19_putVal_8 17 rfl rfl)
theorem dJ19_putVal_203 : decode cJ19_putVal 203 = .ok (.invokevirtual 173, 3) := dk_182 0 173 (dk_at dksJ19_putVal_8 19 rfl rfl)
theorem dJ19_putVal_206 : decode cJ19_putVal 206 = .ok (.ifCond .eq 6, 3) := dk_153 0 6 (dk_at dksJ19_putVal_9 0 rfl rfl)
theorem dJ19_putVal_209 : decode cJ19_putVal 209 = .ok (.goto 13, 3) := dk_167 0 13 (dk_at dksJ19_putVal_9 3 rfl rfl)
theorem dJ19_putVal_212 : decode cJ19_putVal 212 = .ok (.aload 10, 2) := dk_25 10 (dk_at dksJ19_putVal_9 6 rfl rfl)
theorem dJ19_putVal_214 : decode cJ19_putVal 214 = .ok (.astore 7, 2) := dk_58 7 (dk_at dksJ19_putVal_9 8 rfl rfl)
theorem dJ19_putVal_216 : decode cJ19_putVal 216 = .ok (.iinc 12 1, 3) := dk_132 12 1 (dk_at dksJ19_putVal_9 10 rfl rfl)
theorem dJ19_putVal_219 : decode cJ19_putVal 219 = .ok (.goto (-85), 3) := dk_167 255 171 (dk_at dksJ19_putVal_9 13 rfl rfl)
theorem dJ19_putVal_222 : decode cJ19_putVal 222 = .ok (.aload 10, 2) := dk_25 10 (dk_at dksJ19_putVal_9 16 rfl rfl)
theorem dJ19_putVal_224 : decode cJ19_putVal 224 = .ok (.ifnull 35, 3) := dk_198 0 35 (dk_at dksJ19_putVal_9 18 rfl rfl)
theorem dJ19_putVal_227 : decode cJ19_putVal 227 = .ok (.aload 10, 2) := dk_25 10 (dk_at dksJ19_putVal_9 21 rfl rfl)
theorem dJ19_putVal_229 : decode cJ19_putVal 229 = .ok (.getfield 162, 3) := dk_180 0 162 (dk_at dksJ19_putVal_10 0 rfl rfl)
theorem dJ19_putVal_232 : decode cJ19_putVal 232 = .ok (.astore 12, 2) := dk_58 12 (dk_at dksJ19_putVal_10 3 rfl rfl)
theorem dJ19_putVal_234 : decode cJ19_putVal 234 = .ok (.iload 4, 2) := dk_21 4 (dk_at dksJ19_putVal_10 5 rfl rfl)
theorem dJ19_putVal_236 : decode cJ19_putVal 236 = .ok (.ifCond .eq 8, 3) := dk_153 0 8 (dk_at dksJ19_putVal_10 7 rfl rfl)
theorem dJ19_putVal_239 : decode cJ19_putVal 239 = .ok (.aload 12, 2) := dk_25 12 (dk_at dksJ19_putVal_10 10 rfl rfl)
theorem dJ19_putVal_241 : decode cJ19_putVal 241 = .ok (.ifnonnull 9, 3) := dk_199 0 9 (dk_at dksJ19_putVal_10 12 rfl rfl)
theorem dJ19_putVal_244 : decode cJ19_putVal 244 = .ok (.aload 10, 2) := dk_25 10 (dk_at dksJ19_putVal_10 15 rfl rfl)
theorem dJ19_putVal_246 : decode cJ19_putVal 246 = .ok (.aload_n 3, 1) := dk_45 (dk_at dksJ19_putVal_10 17 rfl rfl)
theorem dJ19_putVal_247 : decode cJ19_putVal 247 = .ok (.putfield 162, 3) := dk_181 0 162 (dk_at dksJ19_putVal_10 18 rfl rfl)
theorem dJ19_putVal_250 : decode cJ19_putVal 250 = .ok (.aload_n 0, 1) := dk_42 (dk_at dksJ19_putVal_10 21 rfl rfl)
theorem dJ19_putVal_251 : decode cJ19_putVal 251 = .ok (.aload 10, 2) := dk_25 10 (dk_at dksJ19_putVal_10 22 rfl rfl)
theorem dJ19_putVal_253 : decode cJ19_putVal 253 = .ok (.invokevirtual 198, 3) := dk_182 0 198 (dk_at dksJ19_putVal_11 0 rfl rfl)
theorem dJ19_putVal_256 : decode cJ19_putVal 256 = .ok (.aload 12, 2) := dk_25 12 (dk_at dksJ19_putVal_11 3 rfl rfl)
theorem dJ19_putVal_258 : decode cJ19_putVal 258 = .ok (.areturn, 1) := dk_176 (dk_at dksJ19_putVal_11 5 rfl rfl)
theorem dJ19_putVal_259 : decode cJ19_putVal 259 = .ok (.aload_n 0, 1) := dk_42 (dk_at dksJ19_putVal_11 6 rfl rfl)
theorem dJ19_putVal_260 : decode cJ19_putVal 260 = .ok (.dup, 1) := dk_89 (dk_at dksJ19_putVal_11 7 rfl rfl)
theorem dJ19_putVal_261 : decode cJ19_putVal 261 = .ok (.getfield 202, 3) := dk_180 0 202 (dk_at dksJ19_putVal_11 8 rfl rfl)
theorem dJ19_putVal_264 : decode cJ19_putVal 264 = .ok (.iconst 1, 1) := dk_4 (dk_at dksJ19_putVal_11 11 rfl rfl)
theorem dJ19_putVal_265 : decode cJ19_putVal 265 = .ok (.iadd, 1) := dk_96 (dk_at dksJ19_putVal_11 12 rfl rfl)
theorem dJ19_putVal_266 : decode cJ19_putVal 266 = .ok (.putfield 202, 3) := dk_181 0 202 (dk_at dksJ19_putVal_11 13 rfl rfl)
theorem dJ19_putVal_269 : decode cJ19_putVal 269 = .ok (.aload_n 0, 1) := dk_42 (dk_at dksJ19_putVal_11 16 rfl rfl)
theorem dJ19_putVal_270 : decode cJ19_putVal 270 = .ok (.dup, 1) := dk_89 (dk_at dksJ19_putVal_11 17 rfl rfl)
theorem dJ19_putVal_271 : decode cJ19_putVal 271 = .ok (.getfield 156, 3) := dk_180 0 156 (dk_at dksJ19_putVal_11 18 rfl rfl)
theorem dJ19_putVal_274 : decode cJ19_putVal 274 = .ok (.iconst 1, 1) := dk_4 (dk_at dksJ19_putVal_11 21 rfl rfl)
theorem dJ19_putVal_275 : decode cJ19_putVal 275 = .ok (.iadd, 1) := dk_96 (dk_at dksJ19_putVal_11 22 rfl rfl)
theorem dJ19_putVal_276 : decode cJ19_putVal 276 = .ok (.dup_x1, 1) := dk_90 (dk_at dksJ19_putVal_11 23 rfl rfl)
theorem dJ19_putVal_277 : decode cJ19_putVal 277 = .ok (.putfield 156, 3) := dk_181 0 156 (dk_at dksJ19_putVal_12 0 rfl rfl)
theorem dJ19_putVal_280 : decode cJ19_putVal 280 = .ok (.aload_n 0, 1) := dk_42 (dk_at dksJ19_putVal_12 3 rfl rfl)
theorem dJ19_putVal_281 : decode cJ19_putVal 281 = .ok (.getfield 88, 3) := dk_180 0 88 (dk_at dksJ19_putVal_12 4 rfl rfl)
theorem dJ19_putVal_284 : decode cJ19_putVal 284 = .ok (.if_icmp .le 8, 3) := dk_164 0 8 (dk_at dksJ19_putVal_12 7 rfl rfl)
theorem dJ19_putVal_287 : decode cJ19_putVal 287 = .ok (.aload_n 0, 1) := dk_42 (dk_at dksJ19_putVal_12 10 rfl rfl)
theorem dJ19_putVal_288 : decode cJ19_putVal 288 = .ok (.invokevirtual 117, 3) := dk_182 0 117 (dk_at dksJ19_putVal_12 11 rfl rfl)
theorem dJ19_putVal_291 : decode cJ19_putVal 291 = .ok (.pop, 1) := dk_87 (dk_at dksJ19_putVal_12 14 rfl rfl)
theorem dJ19_putVal_292 : decode cJ19_putVal 292 = .ok (.aload_n 0, 1) := dk_42 (dk_at dksJ19_putVal_12 15 rfl rfl)
theorem dJ19_putVal_293 : decode cJ19_putVal 293 = .ok (.iload 5, 2) := dk_21 5 (dk_at dksJ19_putVal_12 16 rfl rfl)
theorem dJ19_putVal_295 : decode cJ19_putVal 295 = .ok (.invokevirtual 205, 3) := dk_182 0 205 (dk_at dksJ19_putVal_12 18 rfl rfl)
theorem dJ19_putVal_298 : decode cJ19_putVal 298 = .ok (.aconst_null, 1) := dk_1 (dk_at dksJ19_putVal_12 21 rfl rfl)
theorem dJ19_putVal_299 : decode cJ19_putVal 299 = .ok (.areturn, 1) := dk_176 (dk_at dksJ19_putVal_12 22 rfl rfl)
abbrev cJ19_resize : ByteArray := prog_63_method_17_code
def yJ19_resize : MethodName := ⟨RJ19, "resize", "()[Ljava/util/HashMap$Node;"⟩
def dkwJ19_resize_15 : List UInt8 := [25, 6, 176]
abbrev dktJ19_resize_15 : List UInt8 := dkwJ19_resize_15 ++ []
def dkwJ19_resize_14 : List UInt8 := [198, 0, 18, 25, 12, 1, 181, 0, 177, 25, 6, 21, 7, 28, 96, 25, 11, 83, 132, 7, 1, 167, 255, 57]
abbrev dktJ19_resize_14 : List UInt8 := dkwJ19_resize_14 ++ dktJ19_resize_15
def dkwJ19_resize_13 : List UInt8 := [199, 255, 185, 25, 10, 198, 0, 16, 25, 10, 1, 181, 0, 177, 25, 6, 21, 7, 25, 9, 83, 25, 12]
abbrev dktJ19_resize_13 : List UInt8 := dkwJ19_resize_13 ++ dktJ19_resize_14
def dkwJ19_resize_12 : List UInt8 := [25, 8, 58, 11, 167, 0, 10, 25, 12, 25, 8, 181, 0, 177, 25, 8, 58, 12, 25, 13, 89, 58, 8]
abbrev dktJ19_resize_12 : List UInt8 := dkwJ19_resize_12 ++ dktJ19_resize_13
def dkwJ19_resize_11 : List UInt8 := [58, 9, 167, 0, 10, 25, 10, 25, 8, 181, 0, 177, 25, 8, 58, 10, 167, 0, 26, 25, 12, 199, 0, 10]
abbrev dktJ19_resize_11 : List UInt8 := dkwJ19_resize_11 ++ dktJ19_resize_12
def dkwJ19_resize_10 : List UInt8 := [25, 8, 180, 0, 177, 58, 13, 25, 8, 180, 0, 168, 28, 126, 154, 0, 29, 25, 10, 199, 0, 10, 25, 8]
abbrev dktJ19_resize_10 : List UInt8 := dkwJ19_resize_10 ++ dktJ19_resize_11
def dkwJ19_resize_9 : List UInt8 := [42, 25, 6, 21, 7, 28, 182, 0, 211, 167, 0, 127, 1, 58, 9, 1, 58, 10, 1, 58, 11, 1, 58, 12]
abbrev dktJ19_resize_9 : List UInt8 := dkwJ19_resize_9 ++ dktJ19_resize_10
def dkwJ19_resize_8 : List UInt8 := [21, 4, 4, 100, 126, 25, 8, 83, 167, 0, 152, 25, 8, 193, 0, 180, 153, 0, 20, 25, 8, 192, 0, 180]
abbrev dktJ19_resize_8 : List UInt8 := dkwJ19_resize_8 ++ dktJ19_resize_9
def dkwJ19_resize_7 : List UInt8 := [198, 0, 183, 43, 21, 7, 1, 83, 25, 8, 180, 0, 177, 199, 0, 21, 25, 6, 25, 8, 180, 0, 168]
abbrev dktJ19_resize_7 : List UInt8 := dkwJ19_resize_7 ++ dktJ19_resize_8
def dkwJ19_resize_6 : List UInt8 := [181, 0, 105, 43, 198, 0, 208, 3, 54, 7, 21, 7, 28, 162, 0, 199, 43, 21, 7, 50, 89, 58, 8]
abbrev dktJ19_resize_6 : List UInt8 := dkwJ19_resize_6 ++ dktJ19_resize_7
def dkwJ19_resize_5 : List UInt8 := [167, 0, 5, 18, 209, 54, 5, 42, 21, 5, 181, 0, 88, 21, 4, 189, 0, 163, 58, 6, 42, 25, 6]
abbrev dktJ19_resize_5 : List UInt8 := dkwJ19_resize_5 ++ dktJ19_resize_6
def dkwJ19_resize_4 : List UInt8 := [180, 0, 81, 106, 56, 6, 21, 4, 18, 42, 162, 0, 17, 23, 6, 18, 210, 150, 156, 0, 9, 23, 6, 139]
abbrev dktJ19_resize_4 : List UInt8 := dkwJ19_resize_4 ++ dktJ19_resize_5
def dkwJ19_resize_3 : List UInt8 := [54, 4, 167, 0, 11, 16, 16, 54, 4, 16, 12, 54, 5, 21, 5, 154, 0, 38, 21, 4, 134, 42]
abbrev dktJ19_resize_3 : List UInt8 := dkwJ19_resize_3 ++ dktJ19_resize_4
def dkwJ19_resize_2 : List UInt8 := [18, 42, 162, 0, 35, 28, 16, 16, 161, 0, 29, 29, 4, 120, 54, 5, 167, 0, 21, 29, 158, 0, 9, 29]
abbrev dktJ19_resize_2 : List UInt8 := dkwJ19_resize_2 ++ dktJ19_resize_3
def dkwJ19_resize_1 : List UInt8 := [28, 158, 0, 42, 28, 18, 42, 161, 0, 11, 42, 18, 209, 181, 0, 88, 43, 176, 28, 4, 120, 89, 54, 4]
abbrev dktJ19_resize_1 : List UInt8 := dkwJ19_resize_1 ++ dktJ19_resize_2
def dkwJ19_resize_0 : List UInt8 := [42, 180, 0, 105, 76, 43, 199, 0, 7, 3, 167, 0, 5, 43, 190, 61, 42, 180, 0, 88, 62, 3, 54, 5]
abbrev dktJ19_resize_0 : List UInt8 := dkwJ19_resize_0 ++ dktJ19_resize_1
theorem dksJ19_resize_0 : cJ19_resize.data.toList.drop 0 = dktJ19_resize_0 := by decide +kernel
theorem dksJ19_resize_1 : cJ19_resize.data.toList.drop 24 = dktJ19_resize_1 := dk_seg dksJ19_resize_0 24 rfl rfl
theorem dksJ19_resize_2 : cJ19_resize.data.toList.drop 48 = dktJ19_resize_2 := dk_seg dksJ19_resize_1 24 rfl rfl
theorem dksJ19_resize_3 : cJ19_resize.data.toList.drop 72 = dktJ19_resize_3 := dk_seg dksJ19_resize_2 24 rfl rfl
theorem dksJ19_resize_4 : cJ19_resize.data.toList.drop 94 = dktJ19_resize_4 := dk_seg dksJ19_resize_3 22 rfl rfl
theorem dksJ19_resize_5 : cJ19_resize.data.toList.drop 118 = dktJ19_resize_5 := dk_seg dksJ19_resize_4 24 rfl rfl
theorem dksJ19_resize_6 : cJ19_resize.data.toList.drop 141 = dktJ19_resize_6 := dk_seg dksJ19_resize_5 23 rfl rfl
theorem dksJ19_resize_7 : cJ19_resize.data.toList.drop 164 = dktJ19_resize_7 := dk_seg dksJ19_resize_6 23 rfl rfl
theorem dksJ19_resize_8 : cJ19_resize.data.toList.drop 187 = dktJ19_resize_8 := dk_seg dksJ19_resize_7 23 rfl rfl
theorem dksJ19_resize_9 : cJ19_resize.data.toList.drop 211 = dktJ19_resize_9 := dk_seg dksJ19_resize_8 24 rfl rfl
theorem dksJ19_resize_10 : cJ19_resize.data.toList.drop 235 = dktJ19_resize_10 := dk_seg dksJ19_resize_9 24 rfl rfl
theorem dksJ19_resize_11 : cJ19_resize.data.toList.drop 259 = dktJ19_resize_11 := dk_seg dksJ19_resize_10 24 rfl rfl
theorem dksJ19_resize_12 : cJ19_resize.data.toList.drop 283 = dktJ19_resize_12 := dk_seg dksJ19_resize_11 24 rfl rfl
theorem dksJ19_resize_13 : cJ19_resize.data.toList.drop 306 = dktJ19_resize_13 := dk_seg dksJ19_resize_12 23 rfl rfl
theorem dksJ19_resize_14 : cJ19_resize.data.toList.drop 329 = dktJ19_resize_14 := dk_seg dksJ19_resize_13 23 rfl rfl
theorem dksJ19_resize_15 : cJ19_resize.data.toList.drop 353 = dktJ19_resize_15 := dk_seg dksJ19_resize_14 24 rfl rfl
theorem dJ19_resize_0 : decode cJ19_resize 0 = .ok (.aload_n 0, 1) := dk_42 (dk_at dksJ19_resize_0 0 rfl rfl)
theorem dJ19_resize_1 : decode cJ19_resize 1 = .ok (.getfield 105, 3) := dk_180 0 105 (dk_at dksJ19_resize_0 1 rfl rfl)
theorem dJ19_resize_4 : decode cJ19_resize 4 = .ok (.astore_n 1, 1) := dk_76 (dk_at dksJ19_resize_0 4 rfl rfl)
theorem dJ19_resize_5 : decode cJ19_resize 5 = .ok (.aload_n 1, 1) := dk_43 (dk_at dksJ19_resize_0 5 rfl rfl)
theorem dJ19_resize_6 : decode cJ19_resize 6 = .ok (.ifnonnull 7, 3) := dk_199 0 7 (dk_at dksJ19_resize_0 6 rfl rfl)
theorem dJ19_resize_9 : decode cJ19_resize 9 = .ok (.iconst 0, 1) := dk_3 (dk_at dksJ19_resize_0 9 rfl rfl)
theorem dJ19_resize_10 : decode cJ19_resize 10 = .ok (.goto 5, 3) := dk_167 0 5 (dk_at dksJ19_resize_0 10 rfl rfl)
theorem dJ19_resize_13 : decode cJ19_resize 13 = .ok (.aload_n 1, 1) := dk_43 (dk_at dksJ19_resize_0 13 rfl rfl)
theorem dJ19_resize_14 : decode cJ19_resize 14 = .ok (.arraylength, 1) := dk_190 (dk_at dksJ19_resize_0 14 rfl rfl)
theorem dJ19_resize_15 : decode cJ19_resize 15 = .ok (.istore_n 2, 1) := dk_61 (dk_at dksJ19_resize_0 15 rfl rfl)
theorem dJ19_resize_16 : decode cJ19_resize 16 = .ok (.aload_n 0, 1) := dk_42 (dk_at dksJ19_resize_0 16 rfl rfl)
theorem dJ19_resize_17 : decode cJ19_resize 17 = .ok (.getfield 88, 3) := dk_180 0 88 (dk_at dksJ19_resize_0 17 rfl rfl)
theorem dJ19_resize_20 : decode cJ19_resize 20 = .ok (.istore_n 3, 1) := dk_62 (dk_at dksJ19_resize_0 20 rfl rfl)
theorem dJ19_resize_21 : decode cJ19_resize 21 = .ok (.iconst 0, 1) := dk_3 (dk_at dksJ19_resize_0 21 rfl rfl)
theorem dJ19_resize_22 : decode cJ19_resize 22 = .ok (.istore 5, 2) := dk_54 5 (dk_at dksJ19_resize_0 22 rfl rfl)
theorem dJ19_resize_24 : decode cJ19_resize 24 = .ok (.iload_n 2, 1) := dk_28 (dk_at dksJ19_resize_1 0 rfl rfl)
theorem dJ19_resize_25 : decode cJ19_resize 25 = .ok (.ifCond .le 42, 3) := dk_158 0 42 (dk_at dksJ19_resize_1 1 rfl rfl)
theorem dJ19_resize_28 : decode cJ19_resize 28 = .ok (.iload_n 2, 1) := dk_28 (dk_at dksJ19_resize_1 4 rfl rfl)
theorem dJ19_resize_29 : decode cJ19_resize 29 = .ok (.ldc 42, 2) := dk_18 42 (dk_at dksJ19_resize_1 5 rfl rfl)
theorem dJ19_resize_31 : decode cJ19_resize 31 = .ok (.if_icmp .lt 11, 3) := dk_161 0 11 (dk_at dksJ19_resize_1 7 rfl rfl)
theorem dJ19_resize_34 : decode cJ19_resize 34 = .ok (.aload_n 0, 1) := dk_42 (dk_at dksJ19_resize_1 10 rfl rfl)
theorem dJ19_resize_35 : decode cJ19_resize 35 = .ok (.ldc 209, 2) := dk_18 209 (dk_at dksJ19_resize_1 11 rfl rfl)
theorem dJ19_resize_37 : decode cJ19_resize 37 = .ok (.putfield 88, 3) := dk_181 0 88 (dk_at dksJ19_resize_1 13 rfl rfl)
theorem dJ19_resize_40 : decode cJ19_resize 40 = .ok (.aload_n 1, 1) := dk_43 (dk_at dksJ19_resize_1 16 rfl rfl)
theorem dJ19_resize_41 : decode cJ19_resize 41 = .ok (.areturn, 1) := dk_176 (dk_at dksJ19_resize_1 17 rfl rfl)
theorem dJ19_resize_42 : decode cJ19_resize 42 = .ok (.iload_n 2, 1) := dk_28 (dk_at dksJ19_resize_1 18 rfl rfl)
theorem dJ19_resize_43 : decode cJ19_resize 43 = .ok (.iconst 1, 1) := dk_4 (dk_at dksJ19_resize_1 19 rfl rfl)
theorem dJ19_resize_44 : decode cJ19_resize 44 = .ok (.ishl, 1) := dk_120 (dk_at dksJ19_resize_1 20 rfl rfl)
theorem dJ19_resize_45 : decode cJ19_resize 45 = .ok (.dup, 1) := dk_89 (dk_at dksJ19_resize_1 21 rfl rfl)
theorem dJ19_resize_46 : decode cJ19_resize 46 = .ok (.istore 4, 2) := dk_54 4 (dk_at dksJ19_resize_1 22 rfl rfl)
theorem dJ19_resize_48 : decode cJ19_resize 48 = .ok (.ldc 42, 2) := dk_18 42 (dk_at dksJ19_resize_2 0 rfl rfl)
theorem dJ19_resize_50 : decode cJ19_resize 50 = .ok (.if_icmp .ge 35, 3) := dk_162 0 35 (dk_at dksJ19_resize_2 2 rfl rfl)
theorem dJ19_resize_53 : decode cJ19_resize 53 = .ok (.iload_n 2, 1) := dk_28 (dk_at dksJ19_resize_2 5 rfl rfl)
theorem dJ19_resize_54 : decode cJ19_resize 54 = .ok (.bipush 16, 2) := dk_16 16 (dk_at dksJ19_resize_2 6 rfl rfl)
theorem dJ19_resize_56 : decode cJ19_resize 56 = .ok (.if_icmp .lt 29, 3) := dk_161 0 29 (dk_at dksJ19_resize_2 8 rfl rfl)
theorem dJ19_resize_59 : decode cJ19_resize 59 = .ok (.iload_n 3, 1) := dk_29 (dk_at dksJ19_resize_2 11 rfl rfl)
theorem dJ19_resize_60 : decode cJ19_resize 60 = .ok (.iconst 1, 1) := dk_4 (dk_at dksJ19_resize_2 12 rfl rfl)
theorem dJ19_resize_61 : decode cJ19_resize 61 = .ok (.ishl, 1) := dk_120 (dk_at dksJ19_resize_2 13 rfl rfl)
theorem dJ19_resize_62 : decode cJ19_resize 62 = .ok (.istore 5, 2) := dk_54 5 (dk_at dksJ19_resize_2 14 rfl rfl)
theorem dJ19_resize_64 : decode cJ19_resize 64 = .ok (.goto 21, 3) := dk_167 0 21 (dk_at dksJ19_resize_2 16 rfl rfl)
theorem dJ19_resize_67 : decode cJ19_resize 67 = .ok (.iload_n 3, 1) := dk_29 (dk_at dksJ19_resize_2 19 rfl rfl)
theorem dJ19_resize_68 : decode cJ19_resize 68 = .ok (.ifCond .le 9, 3) := dk_158 0 9 (dk_at dksJ19_resize_2 20 rfl rfl)
theorem dJ19_resize_71 : decode cJ19_resize 71 = .ok (.iload_n 3, 1) := dk_29 (dk_at dksJ19_resize_2 23 rfl rfl)
theorem dJ19_resize_72 : decode cJ19_resize 72 = .ok (.istore 4, 2) := dk_54 4 (dk_at dksJ19_resize_3 0 rfl rfl)
theorem dJ19_resize_74 : decode cJ19_resize 74 = .ok (.goto 11, 3) := dk_167 0 11 (dk_at dksJ19_resize_3 2 rfl rfl)
theorem dJ19_resize_77 : decode cJ19_resize 77 = .ok (.bipush 16, 2) := dk_16 16 (dk_at dksJ19_resize_3 5 rfl rfl)
theorem dJ19_resize_79 : decode cJ19_resize 79 = .ok (.istore 4, 2) := dk_54 4 (dk_at dksJ19_resize_3 7 rfl rfl)
theorem dJ19_resize_81 : decode cJ19_resize 81 = .ok (.bipush 12, 2) := dk_16 12 (dk_at dksJ19_resize_3 9 rfl rfl)
theorem dJ19_resize_83 : decode cJ19_resize 83 = .ok (.istore 5, 2) := dk_54 5 (dk_at dksJ19_resize_3 11 rfl rfl)
theorem dJ19_resize_85 : decode cJ19_resize 85 = .ok (.iload 5, 2) := dk_21 5 (dk_at dksJ19_resize_3 13 rfl rfl)
theorem dJ19_resize_87 : decode cJ19_resize 87 = .ok (.ifCond .ne 38, 3) := dk_154 0 38 (dk_at dksJ19_resize_3 15 rfl rfl)
theorem dJ19_resize_90 : decode cJ19_resize 90 = .ok (.iload 4, 2) := dk_21 4 (dk_at dksJ19_resize_3 18 rfl rfl)
theorem dJ19_resize_92 : decode cJ19_resize 92 = .ok (.i2f, 1) := dk_134 (dk_at dksJ19_resize_3 20 rfl rfl)
theorem dJ19_resize_93 : decode cJ19_resize 93 = .ok (.aload_n 0, 1) := dk_42 (dk_at dksJ19_resize_3 21 rfl rfl)
theorem dJ19_resize_94 : decode cJ19_resize 94 = .ok (.getfield 81, 3) := dk_180 0 81 (dk_at dksJ19_resize_4 0 rfl rfl)
theorem dJ19_resize_97 : decode cJ19_resize 97 = .ok (.fmul, 1) := dk_106 (dk_at dksJ19_resize_4 3 rfl rfl)
theorem dJ19_resize_98 : decode cJ19_resize 98 = .ok (.fstore 6, 2) := dk_56 6 (dk_at dksJ19_resize_4 4 rfl rfl)
theorem dJ19_resize_100 : decode cJ19_resize 100 = .ok (.iload 4, 2) := dk_21 4 (dk_at dksJ19_resize_4 6 rfl rfl)
theorem dJ19_resize_102 : decode cJ19_resize 102 = .ok (.ldc 42, 2) := dk_18 42 (dk_at dksJ19_resize_4 8 rfl rfl)
theorem dJ19_resize_104 : decode cJ19_resize 104 = .ok (.if_icmp .ge 17, 3) := dk_162 0 17 (dk_at dksJ19_resize_4 10 rfl rfl)
theorem dJ19_resize_107 : decode cJ19_resize 107 = .ok (.fload 6, 2) := dk_23 6 (dk_at dksJ19_resize_4 13 rfl rfl)
theorem dJ19_resize_109 : decode cJ19_resize 109 = .ok (.ldc 210, 2) := dk_18 210 (dk_at dksJ19_resize_4 15 rfl rfl)
theorem dJ19_resize_111 : decode cJ19_resize 111 = .ok (.fcmp .g, 1) := dk_150 (dk_at dksJ19_resize_4 17 rfl rfl)
theorem dJ19_resize_112 : decode cJ19_resize 112 = .ok (.ifCond .ge 9, 3) := dk_156 0 9 (dk_at dksJ19_resize_4 18 rfl rfl)
theorem dJ19_resize_115 : decode cJ19_resize 115 = .ok (.fload 6, 2) := dk_23 6 (dk_at dksJ19_resize_4 21 rfl rfl)
theorem dJ19_resize_117 : decode cJ19_resize 117 = .ok (.f2i, 1) := dk_139 (dk_at dksJ19_resize_4 23 rfl rfl)
theorem dJ19_resize_118 : decode cJ19_resize 118 = .ok (.goto 5, 3) := dk_167 0 5 (dk_at dksJ19_resize_5 0 rfl rfl)
theorem dJ19_resize_121 : decode cJ19_resize 121 = .ok (.ldc 209, 2) := dk_18 209 (dk_at dksJ19_resize_5 3 rfl rfl)
theorem dJ19_resize_123 : decode cJ19_resize 123 = .ok (.istore 5, 2) := dk_54 5 (dk_at dksJ19_resize_5 5 rfl rfl)
theorem dJ19_resize_125 : decode cJ19_resize 125 = .ok (.aload_n 0, 1) := dk_42 (dk_at dksJ19_resize_5 7 rfl rfl)
theorem dJ19_resize_126 : decode cJ19_resize 126 = .ok (.iload 5, 2) := dk_21 5 (dk_at dksJ19_resize_5 8 rfl rfl)
theorem dJ19_resize_128 : decode cJ19_resize 128 = .ok (.putfield 88, 3) := dk_181 0 88 (dk_at dksJ19_resize_5 10 rfl rfl)
theorem dJ19_resize_131 : decode cJ19_resize 131 = .ok (.iload 4, 2) := dk_21 4 (dk_at dksJ19_resize_5 13 rfl rfl)
theorem dJ19_resize_133 : decode cJ19_resize 133 = .ok (.anewarray 163, 3) := dk_189 0 163 (dk_at dksJ19_resize_5 15 rfl rfl)
theorem dJ19_resize_136 : decode cJ19_resize 136 = .ok (.astore 6, 2) := dk_58 6 (dk_at dksJ19_resize_5 18 rfl rfl)
theorem dJ19_resize_138 : decode cJ19_resize 138 = .ok (.aload_n 0, 1) := dk_42 (dk_at dksJ19_resize_5 20 rfl rfl)
theorem dJ19_resize_139 : decode cJ19_resize 139 = .ok (.aload 6, 2) := dk_25 6 (dk_at dksJ19_resize_5 21 rfl rfl)
theorem dJ19_resize_141 : decode cJ19_resize 141 = .ok (.putfield 105, 3) := dk_181 0 105 (dk_at dksJ19_resize_6 0 rfl rfl)
theorem dJ19_resize_144 : decode cJ19_resize 144 = .ok (.aload_n 1, 1) := dk_43 (dk_at dksJ19_resize_6 3 rfl rfl)
theorem dJ19_resize_145 : decode cJ19_resize 145 = .ok (.ifnull 208, 3) := dk_198 0 208 (dk_at dksJ19_resize_6 4 rfl rfl)
theorem dJ19_resize_148 : decode cJ19_resize 148 = .ok (.iconst 0, 1) := dk_3 (dk_at dksJ19_resize_6 7 rfl rfl)
theorem dJ19_resize_149 : decode cJ19_resize 149 = .ok (.istore 7, 2) := dk_54 7 (dk_at dksJ19_resize_6 8 rfl rfl)
theorem dJ19_resize_151 : decode cJ19_resize 151 = .ok (.iload 7, 2) := dk_21 7 (dk_at dksJ19_resize_6 10 rfl rfl)
theorem dJ19_resize_153 : decode cJ19_resize 153 = .ok (.iload_n 2, 1) := dk_28 (dk_at dksJ19_resize_6 12 rfl rfl)
theorem dJ19_resize_154 : decode cJ19_resize 154 = .ok (.if_icmp .ge 199, 3) := dk_162 0 199 (dk_at dksJ19_resize_6 13 rfl rfl)
theorem dJ19_resize_157 : decode cJ19_resize 157 = .ok (.aload_n 1, 1) := dk_43 (dk_at dksJ19_resize_6 16 rfl rfl)
theorem dJ19_resize_158 : decode cJ19_resize 158 = .ok (.iload 7, 2) := dk_21 7 (dk_at dksJ19_resize_6 17 rfl rfl)
theorem dJ19_resize_160 : decode cJ19_resize 160 = .ok (.aaload, 1) := dk_50 (dk_at dksJ19_resize_6 19 rfl rfl)
theorem dJ19_resize_161 : decode cJ19_resize 161 = .ok (.dup, 1) := dk_89 (dk_at dksJ19_resize_6 20 rfl rfl)
theorem dJ19_resize_162 : decode cJ19_resize 162 = .ok (.astore 8, 2) := dk_58 8 (dk_at dksJ19_resize_6 21 rfl rfl)
theorem dJ19_resize_164 : decode cJ19_resize 164 = .ok (.ifnull 183, 3) := dk_198 0 183 (dk_at dksJ19_resize_7 0 rfl rfl)
theorem dJ19_resize_167 : decode cJ19_resize 167 = .ok (.aload_n 1, 1) := dk_43 (dk_at dksJ19_resize_7 3 rfl rfl)
theorem dJ19_resize_168 : decode cJ19_resize 168 = .ok (.iload 7, 2) := dk_21 7 (dk_at dksJ19_resize_7 4 rfl rfl)
theorem dJ19_resize_170 : decode cJ19_resize 170 = .ok (.aconst_null, 1) := dk_1 (dk_at dksJ19_resize_7 6 rfl rfl)
theorem dJ19_resize_171 : decode cJ19_resize 171 = .ok (.aastore, 1) := dk_83 (dk_at dksJ19_resize_7 7 rfl rfl)
theorem dJ19_resize_172 : decode cJ19_resize 172 = .ok (.aload 8, 2) := dk_25 8 (dk_at dksJ19_resize_7 8 rfl rfl)
theorem dJ19_resize_174 : decode cJ19_resize 174 = .ok (.getfield 177, 3) := dk_180 0 177 (dk_at dksJ19_resize_7 10 rfl rfl)
theorem dJ19_resize_177 : decode cJ19_resize 177 = .ok (.ifnonnull 21, 3) := dk_199 0 21 (dk_at dksJ19_resize_7 13 rfl rfl)
theorem dJ19_resize_180 : decode cJ19_resize 180 = .ok (.aload 6, 2) := dk_25 6 (dk_at dksJ19_resize_7 16 rfl rfl)
theorem dJ19_resize_182 : decode cJ19_resize 182 = .ok (.aload 8, 2) := dk_25 8 (dk_at dksJ19_resize_7 18 rfl rfl)
theorem dJ19_resize_184 : decode cJ19_resize 184 = .ok (.getfield 168, 3) := dk_180 0 168 (dk_at dksJ19_resize_7 20 rfl rfl)
theorem dJ19_resize_187 : decode cJ19_resize 187 = .ok (.iload 4, 2) := dk_21 4 (dk_at dksJ19_resize_8 0 rfl rfl)
theorem dJ19_resize_189 : decode cJ19_resize 189 = .ok (.iconst 1, 1) := dk_4 (dk_at dksJ19_resize_8 2 rfl rfl)
theorem dJ19_resize_190 : decode cJ19_resize 190 = .ok (.isub, 1) := dk_100 (dk_at dksJ19_resize_8 3 rfl rfl)
theorem dJ19_resize_191 : decode cJ19_resize 191 = .ok (.iand, 1) := dk_126 (dk_at dksJ19_resize_8 4 rfl rfl)
theorem dJ19_resize_192 : decode cJ19_resize 192 = .ok (.aload 8, 2) := dk_25 8 (dk_at dksJ19_resize_8 5 rfl rfl)
theorem dJ19_resize_194 : decode cJ19_resize 194 = .ok (.aastore, 1) := dk_83 (dk_at dksJ19_resize_8 7 rfl rfl)
theorem dJ19_resize_195 : decode cJ19_resize 195 = .ok (.goto 152, 3) := dk_167 0 152 (dk_at dksJ19_resize_8 8 rfl rfl)
theorem dJ19_resize_198 : decode cJ19_resize 198 = .ok (.aload 8, 2) := dk_25 8 (dk_at dksJ19_resize_8 11 rfl rfl)
theorem dJ19_resize_200 : decode cJ19_resize 200 = .ok (.instanceof 180, 3) := dk_193 0 180 (dk_at dksJ19_resize_8 13 rfl rfl)
theorem dJ19_resize_203 : decode cJ19_resize 203 = .ok (.ifCond .eq 20, 3) := dk_153 0 20 (dk_at dksJ19_resize_8 16 rfl rfl)
theorem dJ19_resize_206 : decode cJ19_resize 206 = .ok (.aload 8, 2) := dk_25 8 (dk_at dksJ19_resize_8 19 rfl rfl)
theorem dJ19_resize_208 : decode cJ19_resize 208 = .ok (.checkcast 180, 3) := dk_192 0 180 (dk_at dksJ19_resize_8 21 rfl rfl)
theorem dJ19_resize_211 : decode cJ19_resize 211 = .ok (.aload_n 0, 1) := dk_42 (dk_at dksJ19_resize_9 0 rfl rfl)
theorem dJ19_resize_212 : decode cJ19_resize 212 = .ok (.aload 6, 2) := dk_25 6 (dk_at dksJ19_resize_9 1 rfl rfl)
theorem dJ19_resize_214 : decode cJ19_resize 214 = .ok (.iload 7, 2) := dk_21 7 (dk_at dksJ19_resize_9 3 rfl rfl)
theorem dJ19_resize_216 : decode cJ19_resize 216 = .ok (.iload_n 2, 1) := dk_28 (dk_at dksJ19_resize_9 5 rfl rfl)
theorem dJ19_resize_217 : decode cJ19_resize 217 = .ok (.invokevirtual 211, 3) := dk_182 0 211 (dk_at dksJ19_resize_9 6 rfl rfl)
theorem dJ19_resize_220 : decode cJ19_resize 220 = .ok (.goto 127, 3) := dk_167 0 127 (dk_at dksJ19_resize_9 9 rfl rfl)
theorem dJ19_resize_223 : decode cJ19_resize 223 = .ok (.aconst_null, 1) := dk_1 (dk_at dksJ19_resize_9 12 rfl rfl)
theorem dJ19_resize_224 : decode cJ19_resize 224 = .ok (.astore 9, 2) := dk_58 9 (dk_at dksJ19_resize_9 13 rfl rfl)
theorem dJ19_resize_226 : decode cJ19_resize 226 = .ok (.aconst_null, 1) := dk_1 (dk_at dksJ19_resize_9 15 rfl rfl)
theorem dJ19_resize_227 : decode cJ19_resize 227 = .ok (.astore 10, 2) := dk_58 10 (dk_at dksJ19_resize_9 16 rfl rfl)
theorem dJ19_resize_229 : decode cJ19_resize 229 = .ok (.aconst_null, 1) := dk_1 (dk_at dksJ19_resize_9 18 rfl rfl)
theorem dJ19_resize_230 : decode cJ19_resize 230 = .ok (.astore 11, 2) := dk_58 11 (dk_at dksJ19_resize_9 19 rfl rfl)
theorem dJ19_resize_232 : decode cJ19_resize 232 = .ok (.aconst_null, 1) := dk_1 (dk_at dksJ19_resize_9 21 rfl rfl)
theorem dJ19_resize_233 : decode cJ19_resize 233 = .ok (.astore 12, 2) := dk_58 12 (dk_at dksJ19_resize_9 22 rfl rfl)
theorem dJ19_resize_235 : decode cJ19_resize 235 = .ok (.aload 8, 2) := dk_25 8 (dk_at dksJ19_resize_10 0 rfl rfl)
theorem dJ19_resize_237 : decode cJ19_resize 237 = .ok (.getfield 177, 3) := dk_180 0 177 (dk_at dksJ19_resize_10 2 rfl rfl)
theorem dJ19_resize_240 : decode cJ19_resize 240 = .ok (.astore 13, 2) := dk_58 13 (dk_at dksJ19_resize_10 5 rfl rfl)
theorem dJ19_resize_242 : decode cJ19_resize 242 = .ok (.aload 8, 2) := dk_25 8 (dk_at dksJ19_resize_10 7 rfl rfl)
theorem dJ19_resize_244 : decode cJ19_resize 244 = .ok (.getfield 168, 3) := dk_180 0 168 (dk_at dksJ19_resize_10 9 rfl rfl)
theorem dJ19_resize_247 : decode cJ19_resize 247 = .ok (.iload_n 2, 1) := dk_28 (dk_at dksJ19_resize_10 12 rfl rfl)
theorem dJ19_resize_248 : decode cJ19_resize 248 = .ok (.iand, 1) := dk_126 (dk_at dksJ19_resize_10 13 rfl rfl)
theorem dJ19_resize_249 : decode cJ19_resize 249 = .ok (.ifCond .ne 29, 3) := dk_154 0 29 (dk_at dksJ19_resize_10 14 rfl rfl)
theorem dJ19_resize_252 : decode cJ19_resize 252 = .ok (.aload 10, 2) := dk_25 10 (dk_at dksJ19_resize_10 17 rfl rfl)
theorem dJ19_resize_254 : decode cJ19_resize 254 = .ok (.ifnonnull 10, 3) := dk_199 0 10 (dk_at dksJ19_resize_10 19 rfl rfl)
theorem dJ19_resize_257 : decode cJ19_resize 257 = .ok (.aload 8, 2) := dk_25 8 (dk_at dksJ19_resize_10 22 rfl rfl)
theorem dJ19_resize_259 : decode cJ19_resize 259 = .ok (.astore 9, 2) := dk_58 9 (dk_at dksJ19_resize_11 0 rfl rfl)
theorem dJ19_resize_261 : decode cJ19_resize 261 = .ok (.goto 10, 3) := dk_167 0 10 (dk_at dksJ19_resize_11 2 rfl rfl)
theorem dJ19_resize_264 : decode cJ19_resize 264 = .ok (.aload 10, 2) := dk_25 10 (dk_at dksJ19_resize_11 5 rfl rfl)
theorem dJ19_resize_266 : decode cJ19_resize 266 = .ok (.aload 8, 2) := dk_25 8 (dk_at dksJ19_resize_11 7 rfl rfl)
theorem dJ19_resize_268 : decode cJ19_resize 268 = .ok (.putfield 177, 3) := dk_181 0 177 (dk_at dksJ19_resize_11 9 rfl rfl)
theorem dJ19_resize_271 : decode cJ19_resize 271 = .ok (.aload 8, 2) := dk_25 8 (dk_at dksJ19_resize_11 12 rfl rfl)
theorem dJ19_resize_273 : decode cJ19_resize 273 = .ok (.astore 10, 2) := dk_58 10 (dk_at dksJ19_resize_11 14 rfl rfl)
theorem dJ19_resize_275 : decode cJ19_resize 275 = .ok (.goto 26, 3) := dk_167 0 26 (dk_at dksJ19_resize_11 16 rfl rfl)
theorem dJ19_resize_278 : decode cJ19_resize 278 = .ok (.aload 12, 2) := dk_25 12 (dk_at dksJ19_resize_11 19 rfl rfl)
theorem dJ19_resize_280 : decode cJ19_resize 280 = .ok (.ifnonnull 10, 3) := dk_199 0 10 (dk_at dksJ19_resize_11 21 rfl rfl)
theorem dJ19_resize_283 : decode cJ19_resize 283 = .ok (.aload 8, 2) := dk_25 8 (dk_at dksJ19_resize_12 0 rfl rfl)
theorem dJ19_resize_285 : decode cJ19_resize 285 = .ok (.astore 11, 2) := dk_58 11 (dk_at dksJ19_resize_12 2 rfl rfl)
theorem dJ19_resize_287 : decode cJ19_resize 287 = .ok (.goto 10, 3) := dk_167 0 10 (dk_at dksJ19_resize_12 4 rfl rfl)
theorem dJ19_resize_290 : decode cJ19_resize 290 = .ok (.aload 12, 2) := dk_25 12 (dk_at dksJ19_resize_12 7 rfl rfl)
theorem dJ19_resize_292 : decode cJ19_resize 292 = .ok (.aload 8, 2) := dk_25 8 (dk_at dksJ19_resize_12 9 rfl rfl)
theorem dJ19_resize_294 : decode cJ19_resize 294 = .ok (.putfield 177, 3) := dk_181 0 177 (dk_at dksJ19_resize_12 11 rfl rfl)
theorem dJ19_resize_297 : decode cJ19_resize 297 = .ok (.aload 8, 2) := dk_25 8 (dk_at dksJ19_resize_12 14 rfl rfl)
theorem dJ19_resize_299 : decode cJ19_resize 299 = .ok (.astore 12, 2) := dk_58 12 (dk_at dksJ19_resize_12 16 rfl rfl)
theorem dJ19_resize_301 : decode cJ19_resize 301 = .ok (.aload 13, 2) := dk_25 13 (dk_at dksJ19_resize_12 18 rfl rfl)
theorem dJ19_resize_303 : decode cJ19_resize 303 = .ok (.dup, 1) := dk_89 (dk_at dksJ19_resize_12 20 rfl rfl)
theorem dJ19_resize_304 : decode cJ19_resize 304 = .ok (.astore 8, 2) := dk_58 8 (dk_at dksJ19_resize_12 21 rfl rfl)
theorem dJ19_resize_306 : decode cJ19_resize 306 = .ok (.ifnonnull (-71), 3) := dk_199 255 185 (dk_at dksJ19_resize_13 0 rfl rfl)
theorem dJ19_resize_309 : decode cJ19_resize 309 = .ok (.aload 10, 2) := dk_25 10 (dk_at dksJ19_resize_13 3 rfl rfl)
theorem dJ19_resize_311 : decode cJ19_resize 311 = .ok (.ifnull 16, 3) := dk_198 0 16 (dk_at dksJ19_resize_13 5 rfl rfl)
theorem dJ19_resize_314 : decode cJ19_resize 314 = .ok (.aload 10, 2) := dk_25 10 (dk_at dksJ19_resize_13 8 rfl rfl)
theorem dJ19_resize_316 : decode cJ19_resize 316 = .ok (.aconst_null, 1) := dk_1 (dk_at dksJ19_resize_13 10 rfl rfl)
theorem dJ19_resize_317 : decode cJ19_resize 317 = .ok (.putfield 177, 3) := dk_181 0 177 (dk_at dksJ19_resize_13 11 rfl rfl)
theorem dJ19_resize_320 : decode cJ19_resize 320 = .ok (.aload 6, 2) := dk_25 6 (dk_at dksJ19_resize_13 14 rfl rfl)
theorem dJ19_resize_322 : decode cJ19_resize 322 = .ok (.iload 7, 2) := dk_21 7 (dk_at dksJ19_resize_13 16 rfl rfl)
theorem dJ19_resize_324 : decode cJ19_resize 324 = .ok (.aload 9, 2) := dk_25 9 (dk_at dksJ19_resize_13 18 rfl rfl)
theorem dJ19_resize_326 : decode cJ19_resize 326 = .ok (.aastore, 1) := dk_83 (dk_at dksJ19_resize_13 20 rfl rfl)
theorem dJ19_resize_327 : decode cJ19_resize 327 = .ok (.aload 12, 2) := dk_25 12 (dk_at dksJ19_resize_13 21 rfl rfl)
theorem dJ19_resize_329 : decode cJ19_resize 329 = .ok (.ifnull 18, 3) := dk_198 0 18 (dk_at dksJ19_resize_14 0 rfl rfl)
theorem dJ19_resize_332 : decode cJ19_resize 332 = .ok (.aload 12, 2) := dk_25 12 (dk_at dksJ19_resize_14 3 rfl rfl)
theorem dJ19_resize_334 : decode cJ19_resize 334 = .ok (.aconst_null, 1) := dk_1 (dk_at dksJ19_resize_14 5 rfl rfl)
theorem dJ19_resize_335 : decode cJ19_resize 335 = .ok (.putfield 177, 3) := dk_181 0 177 (dk_at dksJ19_resize_14 6 rfl rfl)
theorem dJ19_resize_338 : decode cJ19_resize 338 = .ok (.aload 6, 2) := dk_25 6 (dk_at dksJ19_resize_14 9 rfl rfl)
theorem dJ19_resize_340 : decode cJ19_resize 340 = .ok (.iload 7, 2) := dk_21 7 (dk_at dksJ19_resize_14 11 rfl rfl)
theorem dJ19_resize_342 : decode cJ19_resize 342 = .ok (.iload_n 2, 1) := dk_28 (dk_at dksJ19_resize_14 13 rfl rfl)
theorem dJ19_resize_343 : decode cJ19_resize 343 = .ok (.iadd, 1) := dk_96 (dk_at dksJ19_resize_14 14 rfl rfl)
theorem dJ19_resize_344 : decode cJ19_resize 344 = .ok (.aload 11, 2) := dk_25 11 (dk_at dksJ19_resize_14 15 rfl rfl)
theorem dJ19_resize_346 : decode cJ19_resize 346 = .ok (.aastore, 1) := dk_83 (dk_at dksJ19_resize_14 17 rfl rfl)
theorem dJ19_resize_347 : decode cJ19_resize 347 = .ok (.iinc 7 1, 3) := dk_132 7 1 (dk_at dksJ19_resize_14 18 rfl rfl)
theorem dJ19_resize_350 : decode cJ19_resize 350 = .ok (.goto (-199), 3) := dk_167 255 57 (dk_at dksJ19_resize_14 21 rfl rfl)
theorem dJ19_resize_353 : decode cJ19_resize 353 = .ok (.aload 6, 2) := dk_25 6 (dk_at dksJ19_resize_15 0 rfl rfl)
theorem dJ19_resize_355 : decode cJ19_resize 355 = .ok (.areturn, 1) := dk_176 (dk_at dksJ19_resize_15 2 rfl rfl)
abbrev cJ19_replacementNode : ByteArray := prog_63_method_47_code
def yJ19_replacementNode : MethodName := ⟨RJ19, "replacementNode", "(Ljava/util/HashMap$Node;Ljava/util/HashMap$Node;)Ljava/util/HashMap$Node;"⟩
def dkwJ19_replacementNode_0 : List UInt8 := [187, 0, 163, 89, 43, 180, 0, 168, 43, 180, 0, 170, 43, 180, 0, 162, 44, 183, 1, 119, 176]
abbrev dktJ19_replacementNode_0 : List UInt8 := dkwJ19_replacementNode_0 ++ []
theorem dksJ19_replacementNode_0 : cJ19_replacementNode.data.toList.drop 0 = dktJ19_replacementNode_0 := by decide +kernel
theorem dJ19_replacementNode_0 : decode cJ19_replacementNode 0 = .ok (.new 163, 3) := dk_187 0 163 (dk_at dksJ19_replacementNode_0 0 rfl rfl)
theorem dJ19_replacementNode_3 : decode cJ19_replacementNode 3 = .ok (.dup, 1) := dk_89 (dk_at dksJ19_replacementNode_0 3 rfl rfl)
theorem dJ19_replacementNode_4 : decode cJ19_replacementNode 4 = .ok (.aload_n 1, 1) := dk_43 (dk_at dksJ19_replacementNode_0 4 rfl rfl)
theorem dJ19_replacementNode_5 : decode cJ19_replacementNode 5 = .ok (.getfield 168, 3) := dk_180 0 168 (dk_at dksJ19_replacementNode_0 5 rfl rfl)
theorem dJ19_replacementNode_8 : decode cJ19_replacementNode 8 = .ok (.aload_n 1, 1) := dk_43 (dk_at dksJ19_replacementNode_0 8 rfl rfl)
theorem dJ19_replacementNode_9 : decode cJ19_replacementNode 9 = .ok (.getfield 170, 3) := dk_180 0 170 (dk_at dksJ19_replacementNode_0 9 rfl rfl)
theorem dJ19_replacementNode_12 : decode cJ19_replacementNode 12 = .ok (.aload_n 1, 1) := dk_43 (dk_at dksJ19_replacementNode_0 12 rfl rfl)
theorem dJ19_replacementNode_13 : decode cJ19_replacementNode 13 = .ok (.getfield 162, 3) := dk_180 0 162 (dk_at dksJ19_replacementNode_0 13 rfl rfl)
theorem dJ19_replacementNode_16 : decode cJ19_replacementNode 16 = .ok (.aload_n 2, 1) := dk_44 (dk_at dksJ19_replacementNode_0 16 rfl rfl)
theorem dJ19_replacementNode_17 : decode cJ19_replacementNode 17 = .ok (.invokespecial 375, 3) := dk_183 1 119 (dk_at dksJ19_replacementNode_0 17 rfl rfl)
theorem dJ19_replacementNode_20 : decode cJ19_replacementNode 20 = .ok (.areturn, 1) := dk_176 (dk_at dksJ19_replacementNode_0 20 rfl rfl)
abbrev cJ19_comparableClassFor : ByteArray := prog_63_method_2_code
def yJ19_comparableClassFor : MethodName := ⟨RJ19, "comparableClassFor", "(Ljava/lang/Object;)Ljava/lang/Class;"⟩
def dkwJ19_comparableClassFor_4 : List UInt8 := [4, 160, 0, 12, 45, 3, 50, 43, 166, 0, 5, 43, 176, 132, 7, 1, 167, 255, 186, 1, 176]
abbrev dktJ19_comparableClassFor_4 : List UInt8 := dkwJ19_comparableClassFor_4 ++ []
def dkwJ19_comparableClassFor_3 : List UInt8 := [185, 0, 23, 1, 0, 18, 7, 166, 0, 30, 25, 4, 185, 0, 27, 1, 0, 89, 78, 198, 0, 18, 45, 190]
abbrev dktJ19_comparableClassFor_3 : List UInt8 := dkwJ19_comparableClassFor_3 ++ dktJ19_comparableClassFor_4
def dkwJ19_comparableClassFor_2 : List UInt8 := [25, 5, 21, 7, 50, 58, 8, 25, 8, 193, 0, 21, 153, 0, 48, 25, 8, 192, 0, 21, 89, 58, 4]
abbrev dktJ19_comparableClassFor_2 : List UInt8 := dkwJ19_comparableClassFor_2 ++ dktJ19_comparableClassFor_3
def dkwJ19_comparableClassFor_1 : List UInt8 := [89, 77, 198, 0, 87, 44, 58, 5, 25, 5, 190, 54, 6, 3, 54, 7, 21, 7, 21, 6, 162, 0, 69]
abbrev dktJ19_comparableClassFor_1 : List UInt8 := dkwJ19_comparableClassFor_1 ++ dktJ19_comparableClassFor_2
def dkwJ19_comparableClassFor_0 : List UInt8 := [42, 193, 0, 7, 153, 0, 109, 42, 182, 0, 9, 89, 76, 18, 13, 166, 0, 5, 43, 176, 43, 182, 0, 15]
abbrev dktJ19_comparableClassFor_0 : List UInt8 := dkwJ19_comparableClassFor_0 ++ dktJ19_comparableClassFor_1
theorem dksJ19_comparableClassFor_0 : cJ19_comparableClassFor.data.toList.drop 0 = dktJ19_comparableClassFor_0 := by decide +kernel
theorem dksJ19_comparableClassFor_1 : cJ19_comparableClassFor.data.toList.drop 24 = dktJ19_comparableClassFor_1 := dk_seg dksJ19_comparableClassFor_0 24 rfl rfl
theorem dksJ19_comparableClassFor_2 : cJ19_comparableClassFor.data.toList.drop 47 = dktJ19_comparableClassFor_2 := dk_seg dksJ19_comparableClassFor_1 23 rfl rfl
theorem dksJ19_comparableClassFor_3 : cJ19_comparableClassFor.data.toList.drop 70 = dktJ19_comparableClassFor_3 := dk_seg dksJ19_comparableClassFor_2 23 rfl rfl
theorem dksJ19_comparableClassFor_4 : cJ19_comparableClassFor.data.toList.drop 94 = dktJ19_comparableClassFor_4 := dk_seg dksJ19_comparableClassFor_3 24 rfl rfl
theorem dJ19_comparableClassFor_0 : decode cJ19_comparableClassFor 0 = .ok (.aload_n 0, 1) := dk_42 (dk_at dksJ19_comparableClassFor_0 0 rfl rfl)
theorem dJ19_comparableClassFor_1 : decode cJ19_comparableClassFor 1 = .ok (.instanceof 7, 3) := dk_193 0 7 (dk_at dksJ19_comparableClassFor_0 1 rfl rfl)
theorem dJ19_comparableClassFor_4 : decode cJ19_comparableClassFor 4 = .ok (.ifCond .eq 109, 3) := dk_153 0 109 (dk_at dksJ19_comparableClassFor_0 4 rfl rfl)
theorem dJ19_comparableClassFor_7 : decode cJ19_comparableClassFor 7 = .ok (.aload_n 0, 1) := dk_42 (dk_at dksJ19_comparableClassFor_0 7 rfl rfl)
theorem dJ19_comparableClassFor_8 : decode cJ19_comparableClassFor 8 = .ok (.invokevirtual 9, 3) := dk_182 0 9 (dk_at dksJ19_comparableClassFor_0 8 rfl rfl)
theorem dJ19_comparableClassFor_11 : decode cJ19_comparableClassFor 11 = .ok (.dup, 1) := dk_89 (dk_at dksJ19_comparableClassFor_0 11 rfl rfl)
theorem dJ19_comparableClassFor_12 : decode cJ19_comparableClassFor 12 = .ok (.astore_n 1, 1) := dk_76 (dk_at dksJ19_comparableClassFor_0 12 rfl rfl)
theorem dJ19_comparableClassFor_13 : decode cJ19_comparableClassFor 13 = .ok (.ldc 13, 2) := dk_18 13 (dk_at dksJ19_comparableClassFor_0 13 rfl rfl)
theorem dJ19_comparableClassFor_15 : decode cJ19_comparableClassFor 15 = .ok (.if_acmp .ne 5, 3) := dk_166 0 5 (dk_at dksJ19_comparableClassFor_0 15 rfl rfl)
theorem dJ19_comparableClassFor_18 : decode cJ19_comparableClassFor 18 = .ok (.aload_n 1, 1) := dk_43 (dk_at dksJ19_comparableClassFor_0 18 rfl rfl)
theorem dJ19_comparableClassFor_19 : decode cJ19_comparableClassFor 19 = .ok (.areturn, 1) := dk_176 (dk_at dksJ19_comparableClassFor_0 19 rfl rfl)
theorem dJ19_comparableClassFor_20 : decode cJ19_comparableClassFor 20 = .ok (.aload_n 1, 1) := dk_43 (dk_at dksJ19_comparableClassFor_0 20 rfl rfl)
theorem dJ19_comparableClassFor_21 : decode cJ19_comparableClassFor 21 = .ok (.invokevirtual 15, 3) := dk_182 0 15 (dk_at dksJ19_comparableClassFor_0 21 rfl rfl)
theorem dJ19_comparableClassFor_24 : decode cJ19_comparableClassFor 24 = .ok (.dup, 1) := dk_89 (dk_at dksJ19_comparableClassFor_1 0 rfl rfl)
theorem dJ19_comparableClassFor_25 : decode cJ19_comparableClassFor 25 = .ok (.astore_n 2, 1) := dk_77 (dk_at dksJ19_comparableClassFor_1 1 rfl rfl)
theorem dJ19_comparableClassFor_26 : decode cJ19_comparableClassFor 26 = .ok (.ifnull 87, 3) := dk_198 0 87 (dk_at dksJ19_comparableClassFor_1 2 rfl rfl)
theorem dJ19_comparableClassFor_29 : decode cJ19_comparableClassFor 29 = .ok (.aload_n 2, 1) := dk_44 (dk_at dksJ19_comparableClassFor_1 5 rfl rfl)
theorem dJ19_comparableClassFor_30 : decode cJ19_comparableClassFor 30 = .ok (.astore 5, 2) := dk_58 5 (dk_at dksJ19_comparableClassFor_1 6 rfl rfl)
theorem dJ19_comparableClassFor_32 : decode cJ19_comparableClassFor 32 = .ok (.aload 5, 2) := dk_25 5 (dk_at dksJ19_comparableClassFor_1 8 rfl rfl)
theorem dJ19_comparableClassFor_34 : decode cJ19_comparableClassFor 34 = .ok (.arraylength, 1) := dk_190 (dk_at dksJ19_comparableClassFor_1 10 rfl rfl)
theorem dJ19_comparableClassFor_35 : decode cJ19_comparableClassFor 35 = .ok (.istore 6, 2) := dk_54 6 (dk_at dksJ19_comparableClassFor_1 11 rfl rfl)
theorem dJ19_comparableClassFor_37 : decode cJ19_comparableClassFor 37 = .ok (.iconst 0, 1) := dk_3 (dk_at dksJ19_comparableClassFor_1 13 rfl rfl)
theorem dJ19_comparableClassFor_38 : decode cJ19_comparableClassFor 38 = .ok (.istore 7, 2) := dk_54 7 (dk_at dksJ19_comparableClassFor_1 14 rfl rfl)
theorem dJ19_comparableClassFor_40 : decode cJ19_comparableClassFor 40 = .ok (.iload 7, 2) := dk_21 7 (dk_at dksJ19_comparableClassFor_1 16 rfl rfl)
theorem dJ19_comparableClassFor_42 : decode cJ19_comparableClassFor 42 = .ok (.iload 6, 2) := dk_21 6 (dk_at dksJ19_comparableClassFor_1 18 rfl rfl)
theorem dJ19_comparableClassFor_44 : decode cJ19_comparableClassFor 44 = .ok (.if_icmp .ge 69, 3) := dk_162 0 69 (dk_at dksJ19_comparableClassFor_1 20 rfl rfl)
theorem dJ19_comparableClassFor_47 : decode cJ19_comparableClassFor 47 = .ok (.aload 5, 2) := dk_25 5 (dk_at dksJ19_comparableClassFor_2 0 rfl rfl)
theorem dJ19_comparableClassFor_49 : decode cJ19_comparableClassFor 49 = .ok (.iload 7, 2) := dk_21 7 (dk_at dksJ19_comparableClassFor_2 2 rfl rfl)
theorem dJ19_comparableClassFor_51 : decode cJ19_comparableClassFor 51 = .ok (.aaload, 1) := dk_50 (dk_at dksJ19_comparableClassFor_2 4 rfl rfl)
theorem dJ19_comparableClassFor_52 : decode cJ19_comparableClassFor 52 = .ok (.astore 8, 2) := dk_58 8 (dk_at dksJ19_comparableClassFor_2 5 rfl rfl)
theorem dJ19_comparableClassFor_54 : decode cJ19_comparableClassFor 54 = .ok (.aload 8, 2) := dk_25 8 (dk_at dksJ19_comparableClassFor_2 7 rfl rfl)
theorem dJ19_comparableClassFor_56 : decode cJ19_comparableClassFor 56 = .ok (.instanceof 21, 3) := dk_193 0 21 (dk_at dksJ19_comparableClassFor_2 9 rfl rfl)
theorem dJ19_comparableClassFor_59 : decode cJ19_comparableClassFor 59 = .ok (.ifCond .eq 48, 3) := dk_153 0 48 (dk_at dksJ19_comparableClassFor_2 12 rfl rfl)
theorem dJ19_comparableClassFor_62 : decode cJ19_comparableClassFor 62 = .ok (.aload 8, 2) := dk_25 8 (dk_at dksJ19_comparableClassFor_2 15 rfl rfl)
theorem dJ19_comparableClassFor_64 : decode cJ19_comparableClassFor 64 = .ok (.checkcast 21, 3) := dk_192 0 21 (dk_at dksJ19_comparableClassFor_2 17 rfl rfl)
theorem dJ19_comparableClassFor_67 : decode cJ19_comparableClassFor 67 = .ok (.dup, 1) := dk_89 (dk_at dksJ19_comparableClassFor_2 20 rfl rfl)
theorem dJ19_comparableClassFor_68 : decode cJ19_comparableClassFor 68 = .ok (.astore 4, 2) := dk_58 4 (dk_at dksJ19_comparableClassFor_2 21 rfl rfl)
theorem dJ19_comparableClassFor_70 : decode cJ19_comparableClassFor 70 = .ok (.invokeinterface 23 1, 5) := by decide +kernel
theorem dJ19_comparableClassFor_75 : decode cJ19_comparableClassFor 75 = .ok (.ldc 7, 2) := dk_18 7 (dk_at dksJ19_comparableClassFor_3 5 rfl rfl)
theorem dJ19_comparableClassFor_77 : decode cJ19_comparableClassFor 77 = .ok (.if_acmp .ne 30, 3) := dk_166 0 30 (dk_at dksJ19_comparableClassFor_3 7 rfl rfl)
theorem dJ19_comparableClassFor_80 : decode cJ19_comparableClassFor 80 = .ok (.aload 4, 2) := dk_25 4 (dk_at dksJ19_comparableClassFor_3 10 rfl rfl)
theorem dJ19_comparableClassFor_82 : decode cJ19_comparableClassFor 82 = .ok (.invokeinterface 27 1, 5) := by decide +kernel
theorem dJ19_comparableClassFor_87 : decode cJ19_comparableClassFor 87 = .ok (.dup, 1) := dk_89 (dk_at dksJ19_comparableClassFor_3 17 rfl rfl)
theorem dJ19_comparableClassFor_88 : decode cJ19_comparableClassFor 88 = .ok (.astore_n 3, 1) := dk_78 (dk_at dksJ19_comparableClassFor_3 18 rfl rfl)
theorem dJ19_comparableClassFor_89 : decode cJ19_comparableClassFor 89 = .ok (.ifnull 18, 3) := dk_198 0 18 (dk_at dksJ19_comparableClassFor_3 19 rfl rfl)
theorem dJ19_comparableClassFor_92 : decode cJ19_comparableClassFor 92 = .ok (.aload_n 3, 1) := dk_45 (dk_at dksJ19_comparableClassFor_3 22 rfl rfl)
theorem dJ19_comparableClassFor_93 : decode cJ19_comparableClassFor 93 = .ok (.arraylength, 1) := dk_190 (dk_at dksJ19_comparableClassFor_3 23 rfl rfl)
theorem dJ19_comparableClassFor_94 : decode cJ19_comparableClassFor 94 = .ok (.iconst 1, 1) := dk_4 (dk_at dksJ19_comparableClassFor_4 0 rfl rfl)
theorem dJ19_comparableClassFor_95 : decode cJ19_comparableClassFor 95 = .ok (.if_icmp .ne 12, 3) := dk_160 0 12 (dk_at dksJ19_comparableClassFor_4 1 rfl rfl)
theorem dJ19_comparableClassFor_98 : decode cJ19_comparableClassFor 98 = .ok (.aload_n 3, 1) := dk_45 (dk_at dksJ19_comparableClassFor_4 4 rfl rfl)
theorem dJ19_comparableClassFor_99 : decode cJ19_comparableClassFor 99 = .ok (.iconst 0, 1) := dk_3 (dk_at dksJ19_comparableClassFor_4 5 rfl rfl)
theorem dJ19_comparableClassFor_100 : decode cJ19_comparableClassFor 100 = .ok (.aaload, 1) := dk_50 (dk_at dksJ19_comparableClassFor_4 6 rfl rfl)
theorem dJ19_comparableClassFor_101 : decode cJ19_comparableClassFor 101 = .ok (.aload_n 1, 1) := dk_43 (dk_at dksJ19_comparableClassFor_4 7 rfl rfl)
theorem dJ19_comparableClassFor_102 : decode cJ19_comparableClassFor 102 = .ok (.if_acmp .ne 5, 3) := dk_166 0 5 (dk_at dksJ19_comparableClassFor_4 8 rfl rfl)
theorem dJ19_comparableClassFor_105 : decode cJ19_comparableClassFor 105 = .ok (.aload_n 1, 1) := dk_43 (dk_at dksJ19_comparableClassFor_4 11 rfl rfl)
theorem dJ19_comparableClassFor_106 : decode cJ19_comparableClassFor 106 = .ok (.areturn, 1) := dk_176 (dk_at dksJ19_comparableClassFor_4 12 rfl rfl)
theorem dJ19_comparableClassFor_107 : decode cJ19_comparableClassFor 107 = .ok (.iinc 7 1, 3) := dk_132 7 1 (dk_at dksJ19_comparableClassFor_4 13 rfl rfl)
theorem dJ19_comparableClassFor_110 : decode cJ19_comparableClassFor 110 = .ok (.goto (-70), 3) := dk_167 255 186 (dk_at dksJ19_comparableClassFor_4 16 rfl rfl)
theorem dJ19_comparableClassFor_113 : decode cJ19_comparableClassFor 113 = .ok (.aconst_null, 1) := dk_1 (dk_at dksJ19_comparableClassFor_4 19 rfl rfl)
theorem dJ19_comparableClassFor_114 : decode cJ19_comparableClassFor 114 = .ok (.areturn, 1) := dk_176 (dk_at dksJ19_comparableClassFor_4 20 rfl rfl)
abbrev cJ19_compareComparables : ByteArray := prog_63_method_3_code
def yJ19_compareComparables : MethodName := ⟨RJ19, "compareComparables", "(Ljava/lang/Class;Ljava/lang/Object;Ljava/lang/Object;)I"⟩
def dkwJ19_compareComparables_1 : List UInt8 := [185, 0, 30, 2, 0, 172]
abbrev dktJ19_compareComparables_1 : List UInt8 := dkwJ19_compareComparables_1 ++ []
def dkwJ19_compareComparables_0 : List UInt8 := [44, 198, 0, 11, 44, 182, 0, 9, 42, 165, 0, 7, 3, 167, 0, 13, 43, 192, 0, 7, 44]
abbrev dktJ19_compareComparables_0 : List UInt8 := dkwJ19_compareComparables_0 ++ dktJ19_compareComparables_1
theorem dksJ19_compareComparables_0 : cJ19_compareComparables.data.toList.drop 0 = dktJ19_compareComparables_0 := by decide +kernel
theorem dksJ19_compareComparables_1 : cJ19_compareComparables.data.toList.drop 21 = dktJ19_compareComparables_1 := dk_seg dksJ19_compareComparables_0 21 rfl rfl
theorem dJ19_compareComparables_0 : decode cJ19_compareComparables 0 = .ok (.aload_n 2, 1) := dk_44 (dk_at dksJ19_compareComparables_0 0 rfl rfl)
theorem dJ19_compareComparables_1 : decode cJ19_compareComparables 1 = .ok (.ifnull 11, 3) := dk_198 0 11 (dk_at dksJ19_compareComparables_0 1 rfl rfl)
theorem dJ19_compareComparables_4 : decode cJ19_compareComparables 4 = .ok (.aload_n 2, 1) := dk_44 (dk_at dksJ19_compareComparables_0 4 rfl rfl)
theorem dJ19_compareComparables_5 : decode cJ19_compareComparables 5 = .ok (.invokevirtual 9, 3) := dk_182 0 9 (dk_at dksJ19_compareComparables_0 5 rfl rfl)
theorem dJ19_compareComparables_8 : decode cJ19_compareComparables 8 = .ok (.aload_n 0, 1) := dk_42 (dk_at dksJ19_compareComparables_0 8 rfl rfl)
theorem dJ19_compareComparables_9 : decode cJ19_compareComparables 9 = .ok (.if_acmp .eq 7, 3) := dk_165 0 7 (dk_at dksJ19_compareComparables_0 9 rfl rfl)
theorem dJ19_compareComparables_12 : decode cJ19_compareComparables 12 = .ok (.iconst 0, 1) := dk_3 (dk_at dksJ19_compareComparables_0 12 rfl rfl)
theorem dJ19_compareComparables_13 : decode cJ19_compareComparables 13 = .ok (.goto 13, 3) := dk_167 0 13 (dk_at dksJ19_compareComparables_0 13 rfl rfl)
theorem dJ19_compareComparables_16 : decode cJ19_compareComparables 16 = .ok (.aload_n 1, 1) := dk_43 (dk_at dksJ19_compareComparables_0 16 rfl rfl)
theorem dJ19_compareComparables_17 : decode cJ19_compareComparables 17 = .ok (.checkcast 7, 3) := dk_192 0 7 (dk_at dksJ19_compareComparables_0 17 rfl rfl)
theorem dJ19_compareComparables_20 : decode cJ19_compareComparables 20 = .ok (.aload_n 2, 1) := dk_44 (dk_at dksJ19_compareComparables_0 20 rfl rfl)
theorem dJ19_compareComparables_21 : decode cJ19_compareComparables 21 = .ok (.invokeinterface 30 2, 5) := by decide +kernel
theorem dJ19_compareComparables_26 : decode cJ19_compareComparables 26 = .ok (.ireturn, 1) := dk_172 (dk_at dksJ19_compareComparables_1 5 rfl rfl)
abbrev cJ19_newNode : ByteArray := prog_63_method_46_code
def yJ19_newNode : MethodName := ⟨RJ19, "newNode", "(ILjava/lang/Object;Ljava/lang/Object;Ljava/util/HashMap$Node;)Ljava/util/HashMap$Node;"⟩
def dkwJ19_newNode_0 : List UInt8 := [187, 0, 163, 89, 27, 44, 45, 25, 4, 183, 1, 119, 176]
abbrev dktJ19_newNode_0 : List UInt8 := dkwJ19_newNode_0 ++ []
theorem dksJ19_newNode_0 : cJ19_newNode.data.toList.drop 0 = dktJ19_newNode_0 := by decide +kernel
theorem dJ19_newNode_0 : decode cJ19_newNode 0 = .ok (.new 163, 3) := dk_187 0 163 (dk_at dksJ19_newNode_0 0 rfl rfl)
theorem dJ19_newNode_3 : decode cJ19_newNode 3 = .ok (.dup, 1) := dk_89 (dk_at dksJ19_newNode_0 3 rfl rfl)
theorem dJ19_newNode_4 : decode cJ19_newNode 4 = .ok (.iload_n 1, 1) := dk_27 (dk_at dksJ19_newNode_0 4 rfl rfl)
theorem dJ19_newNode_5 : decode cJ19_newNode 5 = .ok (.aload_n 2, 1) := dk_44 (dk_at dksJ19_newNode_0 5 rfl rfl)
theorem dJ19_newNode_6 : decode cJ19_newNode 6 = .ok (.aload_n 3, 1) := dk_45 (dk_at dksJ19_newNode_0 6 rfl rfl)
theorem dJ19_newNode_7 : decode cJ19_newNode 7 = .ok (.aload 4, 2) := dk_25 4 (dk_at dksJ19_newNode_0 7 rfl rfl)
theorem dJ19_newNode_9 : decode cJ19_newNode 9 = .ok (.invokespecial 375, 3) := dk_183 1 119 (dk_at dksJ19_newNode_0 9 rfl rfl)
theorem dJ19_newNode_12 : decode cJ19_newNode 12 = .ok (.areturn, 1) := dk_176 (dk_at dksJ19_newNode_0 12 rfl rfl)
abbrev cJ19_newTreeNode : ByteArray := prog_63_method_48_code
def yJ19_newTreeNode : MethodName := ⟨RJ19, "newTreeNode", "(ILjava/lang/Object;Ljava/lang/Object;Ljava/util/HashMap$Node;)Ljava/util/HashMap$TreeNode;"⟩
def dkwJ19_newTreeNode_0 : List UInt8 := [187, 0, 180, 89, 27, 44, 45, 25, 4, 183, 1, 122, 176]
abbrev dktJ19_newTreeNode_0 : List UInt8 := dkwJ19_newTreeNode_0 ++ []
theorem dksJ19_newTreeNode_0 : cJ19_newTreeNode.data.toList.drop 0 = dktJ19_newTreeNode_0 := by decide +kernel
theorem dJ19_newTreeNode_0 : decode cJ19_newTreeNode 0 = .ok (.new 180, 3) := dk_187 0 180 (dk_at dksJ19_newTreeNode_0 0 rfl rfl)
theorem dJ19_newTreeNode_3 : decode cJ19_newTreeNode 3 = .ok (.dup, 1) := dk_89 (dk_at dksJ19_newTreeNode_0 3 rfl rfl)
theorem dJ19_newTreeNode_4 : decode cJ19_newTreeNode 4 = .ok (.iload_n 1, 1) := dk_27 (dk_at dksJ19_newTreeNode_0 4 rfl rfl)
theorem dJ19_newTreeNode_5 : decode cJ19_newTreeNode 5 = .ok (.aload_n 2, 1) := dk_44 (dk_at dksJ19_newTreeNode_0 5 rfl rfl)
theorem dJ19_newTreeNode_6 : decode cJ19_newTreeNode 6 = .ok (.aload_n 3, 1) := dk_45 (dk_at dksJ19_newTreeNode_0 6 rfl rfl)
theorem dJ19_newTreeNode_7 : decode cJ19_newTreeNode 7 = .ok (.aload 4, 2) := dk_25 4 (dk_at dksJ19_newTreeNode_0 7 rfl rfl)
theorem dJ19_newTreeNode_9 : decode cJ19_newTreeNode 9 = .ok (.invokespecial 378, 3) := dk_183 1 122 (dk_at dksJ19_newTreeNode_0 9 rfl rfl)
theorem dJ19_newTreeNode_12 : decode cJ19_newTreeNode 12 = .ok (.areturn, 1) := dk_176 (dk_at dksJ19_newTreeNode_0 12 rfl rfl)
abbrev cJ19_treeifyBin : ByteArray := prog_63_method_18_code
def yJ19_treeifyBin : MethodName := ⟨RJ19, "treeifyBin", "([Ljava/util/HashMap$Node;I)V"⟩
def dkwJ19_treeifyBin_4 : List UInt8 := [21, 4, 25, 6, 91, 83, 198, 0, 9, 25, 6, 43, 182, 0, 224, 177]
abbrev dktJ19_treeifyBin_4 : List UInt8 := dkwJ19_treeifyBin_4 ++ []
def dkwJ19_treeifyBin_3 : List UInt8 := [25, 7, 25, 8, 181, 0, 223, 25, 8, 58, 7, 25, 5, 180, 0, 177, 89, 58, 5, 199, 255, 209, 43]
abbrev dktJ19_treeifyBin_3 : List UInt8 := dkwJ19_treeifyBin_3 ++ dktJ19_treeifyBin_4
def dkwJ19_treeifyBin_2 : List UInt8 := [182, 0, 215, 58, 8, 25, 7, 199, 0, 10, 25, 8, 58, 6, 167, 0, 17, 25, 8, 25, 7, 181, 0, 219]
abbrev dktJ19_treeifyBin_2 : List UInt8 := dkwJ19_treeifyBin_2 ++ dktJ19_treeifyBin_3
def dkwJ19_treeifyBin_1 : List UInt8 := [100, 28, 126, 89, 54, 4, 50, 89, 58, 5, 198, 0, 75, 1, 58, 6, 1, 58, 7, 42, 25, 5, 1]
abbrev dktJ19_treeifyBin_1 : List UInt8 := dkwJ19_treeifyBin_1 ++ dktJ19_treeifyBin_2
def dkwJ19_treeifyBin_0 : List UInt8 := [43, 198, 0, 12, 43, 190, 89, 62, 16, 64, 162, 0, 11, 42, 182, 0, 117, 87, 167, 0, 91, 43, 29, 4]
abbrev dktJ19_treeifyBin_0 : List UInt8 := dkwJ19_treeifyBin_0 ++ dktJ19_treeifyBin_1
theorem dksJ19_treeifyBin_0 : cJ19_treeifyBin.data.toList.drop 0 = dktJ19_treeifyBin_0 := by decide +kernel
theorem dksJ19_treeifyBin_1 : cJ19_treeifyBin.data.toList.drop 24 = dktJ19_treeifyBin_1 := dk_seg dksJ19_treeifyBin_0 24 rfl rfl
theorem dksJ19_treeifyBin_2 : cJ19_treeifyBin.data.toList.drop 47 = dktJ19_treeifyBin_2 := dk_seg dksJ19_treeifyBin_1 23 rfl rfl
theorem dksJ19_treeifyBin_3 : cJ19_treeifyBin.data.toList.drop 71 = dktJ19_treeifyBin_3 := dk_seg dksJ19_treeifyBin_2 24 rfl rfl
theorem dksJ19_treeifyBin_4 : cJ19_treeifyBin.data.toList.drop 94 = dktJ19_treeifyBin_4 := dk_seg dksJ19_treeifyBin_3 23 rfl rfl
theorem dJ19_treeifyBin_0 : decode cJ19_treeifyBin 0 = .ok (.aload_n 1, 1) := dk_43 (dk_at dksJ19_treeifyBin_0 0 rfl rfl)
theorem dJ19_treeifyBin_1 : decode cJ19_treeifyBin 1 = .ok (.ifnull 12, 3) := dk_198 0 12 (dk_at dksJ19_treeifyBin_0 1 rfl rfl)
theorem dJ19_treeifyBin_4 : decode cJ19_treeifyBin 4 = .ok (.aload_n 1, 1) := dk_43 (dk_at dksJ19_treeifyBin_0 4 rfl rfl)
theorem dJ19_treeifyBin_5 : decode cJ19_treeifyBin 5 = .ok (.arraylength, 1) := dk_190 (dk_at dksJ19_treeifyBin_0 5 rfl rfl)
theorem dJ19_treeifyBin_6 : decode cJ19_treeifyBin 6 = .ok (.dup, 1) := dk_89 (dk_at dksJ19_treeifyBin_0 6 rfl rfl)
theorem dJ19_treeifyBin_7 : decode cJ19_treeifyBin 7 = .ok (.istore_n 3, 1) := dk_62 (dk_at dksJ19_treeifyBin_0 7 rfl rfl)
theorem dJ19_treeifyBin_8 : decode cJ19_treeifyBin 8 = .ok (.bipush 64, 2) := dk_16 64 (dk_at dksJ19_treeifyBin_0 8 rfl rfl)
theorem dJ19_treeifyBin_10 : decode cJ19_treeifyBin 10 = .ok (.if_icmp .ge 11, 3) := dk_162 0 11 (dk_at dksJ19_treeifyBin_0 10 rfl rfl)
theorem dJ19_treeifyBin_13 : decode cJ19_treeifyBin 13 = .ok (.aload_n 0, 1) := dk_42 (dk_at dksJ19_treeifyBin_0 13 rfl rfl)
theorem dJ19_treeifyBin_14 : decode cJ19_treeifyBin 14 = .ok (.invokevirtual 117, 3) := dk_182 0 117 (dk_at dksJ19_treeifyBin_0 14 rfl rfl)
theorem dJ19_treeifyBin_17 : decode cJ19_treeifyBin 17 = .ok (.pop, 1) := dk_87 (dk_at dksJ19_treeifyBin_0 17 rfl rfl)
theorem dJ19_treeifyBin_18 : decode cJ19_treeifyBin 18 = .ok (.goto 91, 3) := dk_167 0 91 (dk_at dksJ19_treeifyBin_0 18 rfl rfl)
theorem dJ19_treeifyBin_21 : decode cJ19_treeifyBin 21 = .ok (.aload_n 1, 1) := dk_43 (dk_at dksJ19_treeifyBin_0 21 rfl rfl)
theorem dJ19_treeifyBin_22 : decode cJ19_treeifyBin 22 = .ok (.iload_n 3, 1) := dk_29 (dk_at dksJ19_treeifyBin_0 22 rfl rfl)
theorem dJ19_treeifyBin_23 : decode cJ19_treeifyBin 23 = .ok (.iconst 1, 1) := dk_4 (dk_at dksJ19_treeifyBin_0 23 rfl rfl)
theorem dJ19_treeifyBin_24 : decode cJ19_treeifyBin 24 = .ok (.isub, 1) := dk_100 (dk_at dksJ19_treeifyBin_1 0 rfl rfl)
theorem dJ19_treeifyBin_25 : decode cJ19_treeifyBin 25 = .ok (.iload_n 2, 1) := dk_28 (dk_at dksJ19_treeifyBin_1 1 rfl rfl)
theorem dJ19_treeifyBin_26 : decode cJ19_treeifyBin 26 = .ok (.iand, 1) := dk_126 (dk_at dksJ19_treeifyBin_1 2 rfl rfl)
theorem dJ19_treeifyBin_27 : decode cJ19_treeifyBin 27 = .ok (.dup, 1) := dk_89 (dk_at dksJ19_treeifyBin_1 3 rfl rfl)
theorem dJ19_treeifyBin_28 : decode cJ19_treeifyBin 28 = .ok (.istore 4, 2) := dk_54 4 (dk_at dksJ19_treeifyBin_1 4 rfl rfl)
theorem dJ19_treeifyBin_30 : decode cJ19_treeifyBin 30 = .ok (.aaload, 1) := dk_50 (dk_at dksJ19_treeifyBin_1 6 rfl rfl)
theorem dJ19_treeifyBin_31 : decode cJ19_treeifyBin 31 = .ok (.dup, 1) := dk_89 (dk_at dksJ19_treeifyBin_1 7 rfl rfl)
theorem dJ19_treeifyBin_32 : decode cJ19_treeifyBin 32 = .ok (.astore 5, 2) := dk_58 5 (dk_at dksJ19_treeifyBin_1 8 rfl rfl)
theorem dJ19_treeifyBin_34 : decode cJ19_treeifyBin 34 = .ok (.ifnull 75, 3) := dk_198 0 75 (dk_at dksJ19_treeifyBin_1 10 rfl rfl)
theorem dJ19_treeifyBin_37 : decode cJ19_treeifyBin 37 = .ok (.aconst_null, 1) := dk_1 (dk_at dksJ19_treeifyBin_1 13 rfl rfl)
theorem dJ19_treeifyBin_38 : decode cJ19_treeifyBin 38 = .ok (.astore 6, 2) := dk_58 6 (dk_at dksJ19_treeifyBin_1 14 rfl rfl)
theorem dJ19_treeifyBin_40 : decode cJ19_treeifyBin 40 = .ok (.aconst_null, 1) := dk_1 (dk_at dksJ19_treeifyBin_1 16 rfl rfl)
theorem dJ19_treeifyBin_41 : decode cJ19_treeifyBin 41 = .ok (.astore 7, 2) := dk_58 7 (dk_at dksJ19_treeifyBin_1 17 rfl rfl)
theorem dJ19_treeifyBin_43 : decode cJ19_treeifyBin 43 = .ok (.aload_n 0, 1) := dk_42 (dk_at dksJ19_treeifyBin_1 19 rfl rfl)
theorem dJ19_treeifyBin_44 : decode cJ19_treeifyBin 44 = .ok (.aload 5, 2) := dk_25 5 (dk_at dksJ19_treeifyBin_1 20 rfl rfl)
theorem dJ19_treeifyBin_46 : decode cJ19_treeifyBin 46 = .ok (.aconst_null, 1) := dk_1 (dk_at dksJ19_treeifyBin_1 22 rfl rfl)
theorem dJ19_treeifyBin_47 : decode cJ19_treeifyBin 47 = .ok (.invokevirtual 215, 3) := dk_182 0 215 (dk_at dksJ19_treeifyBin_2 0 rfl rfl)
theorem dJ19_treeifyBin_50 : decode cJ19_treeifyBin 50 = .ok (.astore 8, 2) := dk_58 8 (dk_at dksJ19_treeifyBin_2 3 rfl rfl)
theorem dJ19_treeifyBin_52 : decode cJ19_treeifyBin 52 = .ok (.aload 7, 2) := dk_25 7 (dk_at dksJ19_treeifyBin_2 5 rfl rfl)
theorem dJ19_treeifyBin_54 : decode cJ19_treeifyBin 54 = .ok (.ifnonnull 10, 3) := dk_199 0 10 (dk_at dksJ19_treeifyBin_2 7 rfl rfl)
theorem dJ19_treeifyBin_57 : decode cJ19_treeifyBin 57 = .ok (.aload 8, 2) := dk_25 8 (dk_at dksJ19_treeifyBin_2 10 rfl rfl)
theorem dJ19_treeifyBin_59 : decode cJ19_treeifyBin 59 = .ok (.astore 6, 2) := dk_58 6 (dk_at dksJ19_treeifyBin_2 12 rfl rfl)
theorem dJ19_treeifyBin_61 : decode cJ19_treeifyBin 61 = .ok (.goto 17, 3) := dk_167 0 17 (dk_at dksJ19_treeifyBin_2 14 rfl rfl)
theorem dJ19_treeifyBin_64 : decode cJ19_treeifyBin 64 = .ok (.aload 8, 2) := dk_25 8 (dk_at dksJ19_treeifyBin_2 17 rfl rfl)
theorem dJ19_treeifyBin_66 : decode cJ19_treeifyBin 66 = .ok (.aload 7, 2) := dk_25 7 (dk_at dksJ19_treeifyBin_2 19 rfl rfl)
theorem dJ19_treeifyBin_68 : decode cJ19_treeifyBin 68 = .ok (.putfield 219, 3) := dk_181 0 219 (dk_at dksJ19_treeifyBin_2 21 rfl rfl)
theorem dJ19_treeifyBin_71 : decode cJ19_treeifyBin 71 = .ok (.aload 7, 2) := dk_25 7 (dk_at dksJ19_treeifyBin_3 0 rfl rfl)
theorem dJ19_treeifyBin_73 : decode cJ19_treeifyBin 73 = .ok (.aload 8, 2) := dk_25 8 (dk_at dksJ19_treeifyBin_3 2 rfl rfl)
theorem dJ19_treeifyBin_75 : decode cJ19_treeifyBin 75 = .ok (.putfield 223, 3) := dk_181 0 223 (dk_at dksJ19_treeifyBin_3 4 rfl rfl)
theorem dJ19_treeifyBin_78 : decode cJ19_treeifyBin 78 = .ok (.aload 8, 2) := dk_25 8 (dk_at dksJ19_treeifyBin_3 7 rfl rfl)
theorem dJ19_treeifyBin_80 : decode cJ19_treeifyBin 80 = .ok (.astore 7, 2) := dk_58 7 (dk_at dksJ19_treeifyBin_3 9 rfl rfl)
theorem dJ19_treeifyBin_82 : decode cJ19_treeifyBin 82 = .ok (.aload 5, 2) := dk_25 5 (dk_at dksJ19_treeifyBin_3 11 rfl rfl)
theorem dJ19_treeifyBin_84 : decode cJ19_treeifyBin 84 = .ok (.getfield 177, 3) := dk_180 0 177 (dk_at dksJ19_treeifyBin_3 13 rfl rfl)
theorem dJ19_treeifyBin_87 : decode cJ19_treeifyBin 87 = .ok (.dup, 1) := dk_89 (dk_at dksJ19_treeifyBin_3 16 rfl rfl)
theorem dJ19_treeifyBin_88 : decode cJ19_treeifyBin 88 = .ok (.astore 5, 2) := dk_58 5 (dk_at dksJ19_treeifyBin_3 17 rfl rfl)
theorem dJ19_treeifyBin_90 : decode cJ19_treeifyBin 90 = .ok (.ifnonnull (-47), 3) := dk_199 255 209 (dk_at dksJ19_treeifyBin_3 19 rfl rfl)
theorem dJ19_treeifyBin_93 : decode cJ19_treeifyBin 93 = .ok (.aload_n 1, 1) := dk_43 (dk_at dksJ19_treeifyBin_3 22 rfl rfl)
theorem dJ19_treeifyBin_94 : decode cJ19_treeifyBin 94 = .ok (.iload 4, 2) := dk_21 4 (dk_at dksJ19_treeifyBin_4 0 rfl rfl)
theorem dJ19_treeifyBin_96 : decode cJ19_treeifyBin 96 = .ok (.aload 6, 2) := dk_25 6 (dk_at dksJ19_treeifyBin_4 2 rfl rfl)
theorem dJ19_treeifyBin_98 : decode cJ19_treeifyBin 98 = .ok (.dup_x2, 1) := dk_91 (dk_at dksJ19_treeifyBin_4 4 rfl rfl)
theorem dJ19_treeifyBin_99 : decode cJ19_treeifyBin 99 = .ok (.aastore, 1) := dk_83 (dk_at dksJ19_treeifyBin_4 5 rfl rfl)
theorem dJ19_treeifyBin_100 : decode cJ19_treeifyBin 100 = .ok (.ifnull 9, 3) := dk_198 0 9 (dk_at dksJ19_treeifyBin_4 6 rfl rfl)
theorem dJ19_treeifyBin_103 : decode cJ19_treeifyBin 103 = .ok (.aload 6, 2) := dk_25 6 (dk_at dksJ19_treeifyBin_4 9 rfl rfl)
theorem dJ19_treeifyBin_105 : decode cJ19_treeifyBin 105 = .ok (.aload_n 1, 1) := dk_43 (dk_at dksJ19_treeifyBin_4 11 rfl rfl)
theorem dJ19_treeifyBin_106 : decode cJ19_treeifyBin 106 = .ok (.invokevirtual 224, 3) := dk_182 0 224 (dk_at dksJ19_treeifyBin_4 12 rfl rfl)
theorem dJ19_treeifyBin_109 : decode cJ19_treeifyBin 109 = .ok (.return_, 1) := dk_177 (dk_at dksJ19_treeifyBin_4 15 rfl rfl)
abbrev cJ19_replacementTreeNode : ByteArray := prog_63_method_49_code
def yJ19_replacementTreeNode : MethodName := ⟨RJ19, "replacementTreeNode", "(Ljava/util/HashMap$Node;Ljava/util/HashMap$Node;)Ljava/util/HashMap$TreeNode;"⟩
def dkwJ19_replacementTreeNode_0 : List UInt8 := [187, 0, 180, 89, 43, 180, 0, 168, 43, 180, 0, 170, 43, 180, 0, 162, 44, 183, 1, 122, 176]
abbrev dktJ19_replacementTreeNode_0 : List UInt8 := dkwJ19_replacementTreeNode_0 ++ []
theorem dksJ19_replacementTreeNode_0 : cJ19_replacementTreeNode.data.toList.drop 0 = dktJ19_replacementTreeNode_0 := by decide +kernel
theorem dJ19_replacementTreeNode_0 : decode cJ19_replacementTreeNode 0 = .ok (.new 180, 3) := dk_187 0 180 (dk_at dksJ19_replacementTreeNode_0 0 rfl rfl)
theorem dJ19_replacementTreeNode_3 : decode cJ19_replacementTreeNode 3 = .ok (.dup, 1) := dk_89 (dk_at dksJ19_replacementTreeNode_0 3 rfl rfl)
theorem dJ19_replacementTreeNode_4 : decode cJ19_replacementTreeNode 4 = .ok (.aload_n 1, 1) := dk_43 (dk_at dksJ19_replacementTreeNode_0 4 rfl rfl)
theorem dJ19_replacementTreeNode_5 : decode cJ19_replacementTreeNode 5 = .ok (.getfield 168, 3) := dk_180 0 168 (dk_at dksJ19_replacementTreeNode_0 5 rfl rfl)
theorem dJ19_replacementTreeNode_8 : decode cJ19_replacementTreeNode 8 = .ok (.aload_n 1, 1) := dk_43 (dk_at dksJ19_replacementTreeNode_0 8 rfl rfl)
theorem dJ19_replacementTreeNode_9 : decode cJ19_replacementTreeNode 9 = .ok (.getfield 170, 3) := dk_180 0 170 (dk_at dksJ19_replacementTreeNode_0 9 rfl rfl)
theorem dJ19_replacementTreeNode_12 : decode cJ19_replacementTreeNode 12 = .ok (.aload_n 1, 1) := dk_43 (dk_at dksJ19_replacementTreeNode_0 12 rfl rfl)
theorem dJ19_replacementTreeNode_13 : decode cJ19_replacementTreeNode 13 = .ok (.getfield 162, 3) := dk_180 0 162 (dk_at dksJ19_replacementTreeNode_0 13 rfl rfl)
theorem dJ19_replacementTreeNode_16 : decode cJ19_replacementTreeNode 16 = .ok (.aload_n 2, 1) := dk_44 (dk_at dksJ19_replacementTreeNode_0 16 rfl rfl)
theorem dJ19_replacementTreeNode_17 : decode cJ19_replacementTreeNode 17 = .ok (.invokespecial 378, 3) := dk_183 1 122 (dk_at dksJ19_replacementTreeNode_0 17 rfl rfl)
theorem dJ19_replacementTreeNode_20 : decode cJ19_replacementTreeNode 20 = .ok (.areturn, 1) := dk_176 (dk_at dksJ19_replacementTreeNode_0 20 rfl rfl)
abbrev cJ19_afterNodeAccess : ByteArray := prog_63_method_51_code
def yJ19_afterNodeAccess : MethodName := ⟨RJ19, "afterNodeAccess", "(Ljava/util/HashMap$Node;)V"⟩
theorem dJ19_afterNodeAccess_0 : decode cJ19_afterNodeAccess 0 = .ok (.return_, 1) := by decide +kernel
abbrev cJ19_afterNodeInsertion : ByteArray := prog_63_method_52_code
def yJ19_afterNodeInsertion : MethodName := ⟨RJ19, "afterNodeInsertion", "(Z)V"⟩
theorem dJ19_afterNodeInsertion_0 : decode cJ19_afterNodeInsertion 0 = .ok (.return_, 1) := by decide +kernel
abbrev cJ19_get : ByteArray := prog_63_method_12_code
def yJ19_get : MethodName := ⟨RJ19, "get", "(Ljava/lang/Object;)Ljava/lang/Object;"⟩
def dkwJ19_get_0 : List UInt8 := [42, 43, 182, 0, 158, 89, 77, 199, 0, 7, 1, 167, 0, 7, 44, 180, 0, 162, 176]
abbrev dktJ19_get_0 : List UInt8 := dkwJ19_get_0 ++ []
theorem dksJ19_get_0 : cJ19_get.data.toList.drop 0 = dktJ19_get_0 := by decide +kernel
theorem dJ19_get_0 : decode cJ19_get 0 = .ok (.aload_n 0, 1) := dk_42 (dk_at dksJ19_get_0 0 rfl rfl)
theorem dJ19_get_1 : decode cJ19_get 1 = .ok (.aload_n 1, 1) := dk_43 (dk_at dksJ19_get_0 1 rfl rfl)
theorem dJ19_get_2 : decode cJ19_get 2 = .ok (.invokevirtual 158, 3) := dk_182 0 158 (dk_at dksJ19_get_0 2 rfl rfl)
theorem dJ19_get_5 : decode cJ19_get 5 = .ok (.dup, 1) := dk_89 (dk_at dksJ19_get_0 5 rfl rfl)
theorem dJ19_get_6 : decode cJ19_get 6 = .ok (.astore_n 2, 1) := dk_77 (dk_at dksJ19_get_0 6 rfl rfl)
theorem dJ19_get_7 : decode cJ19_get 7 = .ok (.ifnonnull 7, 3) := dk_199 0 7 (dk_at dksJ19_get_0 7 rfl rfl)
theorem dJ19_get_10 : decode cJ19_get 10 = .ok (.aconst_null, 1) := dk_1 (dk_at dksJ19_get_0 10 rfl rfl)
theorem dJ19_get_11 : decode cJ19_get 11 = .ok (.goto 7, 3) := dk_167 0 7 (dk_at dksJ19_get_0 11 rfl rfl)
theorem dJ19_get_14 : decode cJ19_get 14 = .ok (.aload_n 2, 1) := dk_44 (dk_at dksJ19_get_0 14 rfl rfl)
theorem dJ19_get_15 : decode cJ19_get 15 = .ok (.getfield 162, 3) := dk_180 0 162 (dk_at dksJ19_get_0 15 rfl rfl)
theorem dJ19_get_18 : decode cJ19_get 18 = .ok (.areturn, 1) := dk_176 (dk_at dksJ19_get_0 18 rfl rfl)
abbrev cJ19_getNode : ByteArray := prog_63_method_13_code
def yJ19_getNode : MethodName := ⟨RJ19, "getNode", "(Ljava/lang/Object;)Ljava/util/HashMap$Node;"⟩
def dkwJ19_getNode_6 : List UInt8 := [89, 58, 4, 199, 255, 210, 1, 176]
abbrev dktJ19_getNode_6 : List UInt8 := dkwJ19_getNode_6 ++ []
def dkwJ19_getNode_5 : List UInt8 := [165, 0, 16, 43, 198, 0, 15, 43, 25, 7, 182, 0, 173, 153, 0, 6, 25, 4, 176, 25, 4, 180, 0, 177]
abbrev dktJ19_getNode_5 : List UInt8 := dkwJ19_getNode_5 ++ dktJ19_getNode_6
def dkwJ19_getNode_4 : List UInt8 := [43, 182, 0, 182, 176, 25, 4, 180, 0, 168, 21, 6, 160, 0, 31, 25, 4, 180, 0, 170, 89, 58, 7, 43]
abbrev dktJ19_getNode_4 : List UInt8 := dkwJ19_getNode_4 ++ dktJ19_getNode_5
def dkwJ19_getNode_3 : List UInt8 := [176, 45, 180, 0, 177, 89, 58, 4, 198, 0, 70, 45, 193, 0, 180, 153, 0, 14, 45, 192, 0, 180, 21, 6]
abbrev dktJ19_getNode_3 : List UInt8 := dkwJ19_getNode_3 ++ dktJ19_getNode_4
def dkwJ19_getNode_2 : List UInt8 := [180, 0, 170, 89, 58, 7, 43, 165, 0, 16, 43, 198, 0, 14, 43, 25, 7, 182, 0, 173, 153, 0, 5, 45]
abbrev dktJ19_getNode_2 : List UInt8 := dkwJ19_getNode_2 ++ dktJ19_getNode_3
def dkwJ19_getNode_1 : List UInt8 := [184, 0, 149, 89, 54, 6, 126, 50, 89, 78, 198, 0, 115, 45, 180, 0, 168, 21, 6, 160, 0, 29, 45]
abbrev dktJ19_getNode_1 : List UInt8 := dkwJ19_getNode_1 ++ dktJ19_getNode_2
def dkwJ19_getNode_0 : List UInt8 := [42, 180, 0, 105, 89, 77, 198, 0, 142, 44, 190, 89, 54, 5, 158, 0, 134, 44, 21, 5, 4, 100, 43]
abbrev dktJ19_getNode_0 : List UInt8 := dkwJ19_getNode_0 ++ dktJ19_getNode_1
theorem dksJ19_getNode_0 : cJ19_getNode.data.toList.drop 0 = dktJ19_getNode_0 := by decide +kernel
theorem dksJ19_getNode_1 : cJ19_getNode.data.toList.drop 23 = dktJ19_getNode_1 := dk_seg dksJ19_getNode_0 23 rfl rfl
theorem dksJ19_getNode_2 : cJ19_getNode.data.toList.drop 46 = dktJ19_getNode_2 := dk_seg dksJ19_getNode_1 23 rfl rfl
theorem dksJ19_getNode_3 : cJ19_getNode.data.toList.drop 70 = dktJ19_getNode_3 := dk_seg dksJ19_getNode_2 24 rfl rfl
theorem dksJ19_getNode_4 : cJ19_getNode.data.toList.drop 94 = dktJ19_getNode_4 := dk_seg dksJ19_getNode_3 24 rfl rfl
theorem dksJ19_getNode_5 : cJ19_getNode.data.toList.drop 118 = dktJ19_getNode_5 := dk_seg dksJ19_getNode_4 24 rfl rfl
theorem dksJ19_getNode_6 : cJ19_getNode.data.toList.drop 142 = dktJ19_getNode_6 := dk_seg dksJ19_getNode_5 24 rfl rfl
theorem dJ19_getNode_0 : decode cJ19_getNode 0 = .ok (.aload_n 0, 1) := dk_42 (dk_at dksJ19_getNode_0 0 rfl rfl)
theorem dJ19_getNode_1 : decode cJ19_getNode 1 = .ok (.getfield 105, 3) := dk_180 0 105 (dk_at dksJ19_getNode_0 1 rfl rfl)
theorem dJ19_getNode_4 : decode cJ19_getNode 4 = .ok (.dup, 1) := dk_89 (dk_at dksJ19_getNode_0 4 rfl rfl)
theorem dJ19_getNode_5 : decode cJ19_getNode 5 = .ok (.astore_n 2, 1) := dk_77 (dk_at dksJ19_getNode_0 5 rfl rfl)
theorem dJ19_getNode_6 : decode cJ19_getNode 6 = .ok (.ifnull 142, 3) := dk_198 0 142 (dk_at dksJ19_getNode_0 6 rfl rfl)
theorem dJ19_getNode_9 : decode cJ19_getNode 9 = .ok (.aload_n 2, 1) := dk_44 (dk_at dksJ19_getNode_0 9 rfl rfl)
theorem dJ19_getNode_10 : decode cJ19_getNode 10 = .ok (.arraylength, 1) := dk_190 (dk_at dksJ19_getNode_0 10 rfl rfl)
theorem dJ19_getNode_11 : decode cJ19_getNode 11 = .ok (.dup, 1) := dk_89 (dk_at dksJ19_getNode_0 11 rfl rfl)
theorem dJ19_getNode_12 : decode cJ19_getNode 12 = .ok (.istore 5, 2) := dk_54 5 (dk_at dksJ19_getNode_0 12 rfl rfl)
theorem dJ19_getNode_14 : decode cJ19_getNode 14 = .ok (.ifCond .le 134, 3) := dk_158 0 134 (dk_at dksJ19_getNode_0 14 rfl rfl)
theorem dJ19_getNode_17 : decode cJ19_getNode 17 = .ok (.aload_n 2, 1) := dk_44 (dk_at dksJ19_getNode_0 17 rfl rfl)
theorem dJ19_getNode_18 : decode cJ19_getNode 18 = .ok (.iload 5, 2) := dk_21 5 (dk_at dksJ19_getNode_0 18 rfl rfl)
theorem dJ19_getNode_20 : decode cJ19_getNode 20 = .ok (.iconst 1, 1) := dk_4 (dk_at dksJ19_getNode_0 20 rfl rfl)
theorem dJ19_getNode_21 : decode cJ19_getNode 21 = .ok (.isub, 1) := dk_100 (dk_at dksJ19_getNode_0 21 rfl rfl)
theorem dJ19_getNode_22 : decode cJ19_getNode 22 = .ok (.aload_n 1, 1) := dk_43 (dk_at dksJ19_getNode_0 22 rfl rfl)
theorem dJ19_getNode_23 : decode cJ19_getNode 23 = .ok (.invokestatic 149, 3) := dk_184 0 149 (dk_at dksJ19_getNode_1 0 rfl rfl)
theorem dJ19_getNode_26 : decode cJ19_getNode 26 = .ok (.dup, 1) := dk_89 (dk_at dksJ19_getNode_1 3 rfl rfl)
theorem dJ19_getNode_27 : decode cJ19_getNode 27 = .ok (.istore 6, 2) := dk_54 6 (dk_at dksJ19_getNode_1 4 rfl rfl)
theorem dJ19_getNode_29 : decode cJ19_getNode 29 = .ok (.iand, 1) := dk_126 (dk_at dksJ19_getNode_1 6 rfl rfl)
theorem dJ19_getNode_30 : decode cJ19_getNode 30 = .ok (.aaload, 1) := dk_50 (dk_at dksJ19_getNode_1 7 rfl rfl)
theorem dJ19_getNode_31 : decode cJ19_getNode 31 = .ok (.dup, 1) := dk_89 (dk_at dksJ19_getNode_1 8 rfl rfl)
theorem dJ19_getNode_32 : decode cJ19_getNode 32 = .ok (.astore_n 3, 1) := dk_78 (dk_at dksJ19_getNode_1 9 rfl rfl)
theorem dJ19_getNode_33 : decode cJ19_getNode 33 = .ok (.ifnull 115, 3) := dk_198 0 115 (dk_at dksJ19_getNode_1 10 rfl rfl)
theorem dJ19_getNode_36 : decode cJ19_getNode 36 = .ok (.aload_n 3, 1) := dk_45 (dk_at dksJ19_getNode_1 13 rfl rfl)
theorem dJ19_getNode_37 : decode cJ19_getNode 37 = .ok (.getfield 168, 3) := dk_180 0 168 (dk_at dksJ19_getNode_1 14 rfl rfl)
theorem dJ19_getNode_40 : decode cJ19_getNode 40 = .ok (.iload 6, 2) := dk_21 6 (dk_at dksJ19_getNode_1 17 rfl rfl)
theorem dJ19_getNode_42 : decode cJ19_getNode 42 = .ok (.if_icmp .ne 29, 3) := dk_160 0 29 (dk_at dksJ19_getNode_1 19 rfl rfl)
theorem dJ19_getNode_45 : decode cJ19_getNode 45 = .ok (.aload_n 3, 1) := dk_45 (dk_at dksJ19_getNode_1 22 rfl rfl)
theorem dJ19_getNode_46 : decode cJ19_getNode 46 = .ok (.getfield 170, 3) := dk_180 0 170 (dk_at dksJ19_getNode_2 0 rfl rfl)
theorem dJ19_getNode_49 : decode cJ19_getNode 49 = .ok (.dup, 1) := dk_89 (dk_at dksJ19_getNode_2 3 rfl rfl)
theorem dJ19_getNode_50 : decode cJ19_getNode 50 = .ok (.astore 7, 2) := dk_58 7 (dk_at dksJ19_getNode_2 4 rfl rfl)
theorem dJ19_getNode_52 : decode cJ19_getNode 52 = .ok (.aload_n 1, 1) := dk_43 (dk_at dksJ19_getNode_2 6 rfl rfl)
theorem dJ19_getNode_53 : decode cJ19_getNode 53 = .ok (.if_acmp .eq 16, 3) := dk_165 0 16 (dk_at dksJ19_getNode_2 7 rfl rfl)
theorem dJ19_getNode_56 : decode cJ19_getNode 56 = .ok (.aload_n 1, 1) := dk_43 (dk_at dksJ19_getNode_2 10 rfl rfl)
theorem dJ19_getNode_57 : decode cJ19_getNode 57 = .ok (.ifnull 14, 3) := dk_198 0 14 (dk_at dksJ19_getNode_2 11 rfl rfl)
theorem dJ19_getNode_60 : decode cJ19_getNode 60 = .ok (.aload_n 1, 1) := dk_43 (dk_at dksJ19_getNode_2 14 rfl rfl)
theorem dJ19_getNode_61 : decode cJ19_getNode 61 = .ok (.aload 7, 2) := dk_25 7 (dk_at dksJ19_getNode_2 15 rfl rfl)
theorem dJ19_getNode_63 : decode cJ19_getNode 63 = .ok (.invokevirtual 173, 3) := dk_182 0 173 (dk_at dksJ19_getNode_2 17 rfl rfl)
theorem dJ19_getNode_66 : decode cJ19_getNode 66 = .ok (.ifCond .eq 5, 3) := dk_153 0 5 (dk_at dksJ19_getNode_2 20 rfl rfl)
theorem dJ19_getNode_69 : decode cJ19_getNode 69 = .ok (.aload_n 3, 1) := dk_45 (dk_at dksJ19_getNode_2 23 rfl rfl)
theorem dJ19_getNode_70 : decode cJ19_getNode 70 = .ok (.areturn, 1) := dk_176 (dk_at dksJ19_getNode_3 0 rfl rfl)
theorem dJ19_getNode_71 : decode cJ19_getNode 71 = .ok (.aload_n 3, 1) := dk_45 (dk_at dksJ19_getNode_3 1 rfl rfl)
theorem dJ19_getNode_72 : decode cJ19_getNode 72 = .ok (.getfield 177, 3) := dk_180 0 177 (dk_at dksJ19_getNode_3 2 rfl rfl)
theorem dJ19_getNode_75 : decode cJ19_getNode 75 = .ok (.dup, 1) := dk_89 (dk_at dksJ19_getNode_3 5 rfl rfl)
theorem dJ19_getNode_76 : decode cJ19_getNode 76 = .ok (.astore 4, 2) := dk_58 4 (dk_at dksJ19_getNode_3 6 rfl rfl)
theorem dJ19_getNode_78 : decode cJ19_getNode 78 = .ok (.ifnull 70, 3) := dk_198 0 70 (dk_at dksJ19_getNode_3 8 rfl rfl)
theorem dJ19_getNode_81 : decode cJ19_getNode 81 = .ok (.aload_n 3, 1) := dk_45 (dk_at dksJ19_getNode_3 11 rfl rfl)
theorem dJ19_getNode_82 : decode cJ19_getNode 82 = .ok (.instanceof 180, 3) := dk_193 0 180 (dk_at dksJ19_getNode_3 12 rfl rfl)
theorem dJ19_getNode_85 : decode cJ19_getNode 85 = .ok (.ifCond .eq 14, 3) := dk_153 0 14 (dk_at dksJ19_getNode_3 15 rfl rfl)
theorem dJ19_getNode_88 : decode cJ19_getNode 88 = .ok (.aload_n 3, 1) := dk_45 (dk_at dksJ19_getNode_3 18 rfl rfl)
theorem dJ19_getNode_89 : decode cJ19_getNode 89 = .ok (.checkcast 180, 3) := dk_192 0 180 (dk_at dksJ19_getNode_3 19 rfl rfl)
theorem dJ19_getNode_92 : decode cJ19_getNode 92 = .ok (.iload 6, 2) := dk_21 6 (dk_at dksJ19_getNode_3 22 rfl rfl)
theorem dJ19_getNode_94 : decode cJ19_getNode 94 = .ok (.aload_n 1, 1) := dk_43 (dk_at dksJ19_getNode_4 0 rfl rfl)
theorem dJ19_getNode_95 : decode cJ19_getNode 95 = .ok (.invokevirtual 182, 3) := dk_182 0 182 (dk_at dksJ19_getNode_4 1 rfl rfl)
theorem dJ19_getNode_98 : decode cJ19_getNode 98 = .ok (.areturn, 1) := dk_176 (dk_at dksJ19_getNode_4 4 rfl rfl)
theorem dJ19_getNode_99 : decode cJ19_getNode 99 = .ok (.aload 4, 2) := dk_25 4 (dk_at dksJ19_getNode_4 5 rfl rfl)
theorem dJ19_getNode_101 : decode cJ19_getNode 101 = .ok (.getfield 168, 3) := dk_180 0 168 (dk_at dksJ19_getNode_4 7 rfl rfl)
theorem dJ19_getNode_104 : decode cJ19_getNode 104 = .ok (.iload 6, 2) := dk_21 6 (dk_at dksJ19_getNode_4 10 rfl rfl)
theorem dJ19_getNode_106 : decode cJ19_getNode 106 = .ok (.if_icmp .ne 31, 3) := dk_160 0 31 (dk_at dksJ19_getNode_4 12 rfl rfl)
theorem dJ19_getNode_109 : decode cJ19_getNode 109 = .ok (.aload 4, 2) := dk_25 4 (dk_at dksJ19_getNode_4 15 rfl rfl)
theorem dJ19_getNode_111 : decode cJ19_getNode 111 = .ok (.getfield 170, 3) := dk_180 0 170 (dk_at dksJ19_getNode_4 17 rfl rfl)
theorem dJ19_getNode_114 : decode cJ19_getNode 114 = .ok (.dup, 1) := dk_89 (dk_at dksJ19_getNode_4 20 rfl rfl)
theorem dJ19_getNode_115 : decode cJ19_getNode 115 = .ok (.astore 7, 2) := dk_58 7 (dk_at dksJ19_getNode_4 21 rfl rfl)
theorem dJ19_getNode_117 : decode cJ19_getNode 117 = .ok (.aload_n 1, 1) := dk_43 (dk_at dksJ19_getNode_4 23 rfl rfl)
theorem dJ19_getNode_118 : decode cJ19_getNode 118 = .ok (.if_acmp .eq 16, 3) := dk_165 0 16 (dk_at dksJ19_getNode_5 0 rfl rfl)
theorem dJ19_getNode_121 : decode cJ19_getNode 121 = .ok (.aload_n 1, 1) := dk_43 (dk_at dksJ19_getNode_5 3 rfl rfl)
theorem dJ19_getNode_122 : decode cJ19_getNode 122 = .ok (.ifnull 15, 3) := dk_198 0 15 (dk_at dksJ19_getNode_5 4 rfl rfl)
theorem dJ19_getNode_125 : decode cJ19_getNode 125 = .ok (.aload_n 1, 1) := dk_43 (dk_at dksJ19_getNode_5 7 rfl rfl)
theorem dJ19_getNode_126 : decode cJ19_getNode 126 = .ok (.aload 7, 2) := dk_25 7 (dk_at dksJ19_getNode_5 8 rfl rfl)
theorem dJ19_getNode_128 : decode cJ19_getNode 128 = .ok (.invokevirtual 173, 3) := dk_182 0 173 (dk_at dksJ19_getNode_5 10 rfl rfl)
theorem dJ19_getNode_131 : decode cJ19_getNode 131 = .ok (.ifCond .eq 6, 3) := dk_153 0 6 (dk_at dksJ19_getNode_5 13 rfl rfl)
theorem dJ19_getNode_134 : decode cJ19_getNode 134 = .ok (.aload 4, 2) := dk_25 4 (dk_at dksJ19_getNode_5 16 rfl rfl)
theorem dJ19_getNode_136 : decode cJ19_getNode 136 = .ok (.areturn, 1) := dk_176 (dk_at dksJ19_getNode_5 18 rfl rfl)
theorem dJ19_getNode_137 : decode cJ19_getNode 137 = .ok (.aload 4, 2) := dk_25 4 (dk_at dksJ19_getNode_5 19 rfl rfl)
theorem dJ19_getNode_139 : decode cJ19_getNode 139 = .ok (.getfield 177, 3) := dk_180 0 177 (dk_at dksJ19_getNode_5 21 rfl rfl)
theorem dJ19_getNode_142 : decode cJ19_getNode 142 = .ok (.dup, 1) := dk_89 (dk_at dksJ19_getNode_6 0 rfl rfl)
theorem dJ19_getNode_143 : decode cJ19_getNode 143 = .ok (.astore 4, 2) := dk_58 4 (dk_at dksJ19_getNode_6 1 rfl rfl)
theorem dJ19_getNode_145 : decode cJ19_getNode 145 = .ok (.ifnonnull (-46), 3) := dk_199 255 210 (dk_at dksJ19_getNode_6 3 rfl rfl)
theorem dJ19_getNode_148 : decode cJ19_getNode 148 = .ok (.aconst_null, 1) := dk_1 (dk_at dksJ19_getNode_6 6 rfl rfl)
theorem dJ19_getNode_149 : decode cJ19_getNode 149 = .ok (.areturn, 1) := dk_176 (dk_at dksJ19_getNode_6 7 rfl rfl)
abbrev cJ19_remove : ByteArray := prog_63_method_20_code
def yJ19_remove : MethodName := ⟨RJ19, "remove", "(Ljava/lang/Object;)Ljava/lang/Object;"⟩
def dkwJ19_remove_1 : List UInt8 := [180, 0, 162, 176]
abbrev dktJ19_remove_1 : List UInt8 := dkwJ19_remove_1 ++ []
def dkwJ19_remove_0 : List UInt8 := [42, 43, 184, 0, 149, 43, 1, 3, 4, 182, 0, 228, 89, 77, 199, 0, 7, 1, 167, 0, 7, 44]
abbrev dktJ19_remove_0 : List UInt8 := dkwJ19_remove_0 ++ dktJ19_remove_1
theorem dksJ19_remove_0 : cJ19_remove.data.toList.drop 0 = dktJ19_remove_0 := by decide +kernel
theorem dksJ19_remove_1 : cJ19_remove.data.toList.drop 22 = dktJ19_remove_1 := dk_seg dksJ19_remove_0 22 rfl rfl
theorem dJ19_remove_0 : decode cJ19_remove 0 = .ok (.aload_n 0, 1) := dk_42 (dk_at dksJ19_remove_0 0 rfl rfl)
theorem dJ19_remove_1 : decode cJ19_remove 1 = .ok (.aload_n 1, 1) := dk_43 (dk_at dksJ19_remove_0 1 rfl rfl)
theorem dJ19_remove_2 : decode cJ19_remove 2 = .ok (.invokestatic 149, 3) := dk_184 0 149 (dk_at dksJ19_remove_0 2 rfl rfl)
theorem dJ19_remove_5 : decode cJ19_remove 5 = .ok (.aload_n 1, 1) := dk_43 (dk_at dksJ19_remove_0 5 rfl rfl)
theorem dJ19_remove_6 : decode cJ19_remove 6 = .ok (.aconst_null, 1) := dk_1 (dk_at dksJ19_remove_0 6 rfl rfl)
theorem dJ19_remove_7 : decode cJ19_remove 7 = .ok (.iconst 0, 1) := dk_3 (dk_at dksJ19_remove_0 7 rfl rfl)
theorem dJ19_remove_8 : decode cJ19_remove 8 = .ok (.iconst 1, 1) := dk_4 (dk_at dksJ19_remove_0 8 rfl rfl)
theorem dJ19_remove_9 : decode cJ19_remove 9 = .ok (.invokevirtual 228, 3) := dk_182 0 228 (dk_at dksJ19_remove_0 9 rfl rfl)
theorem dJ19_remove_12 : decode cJ19_remove 12 = .ok (.dup, 1) := dk_89 (dk_at dksJ19_remove_0 12 rfl rfl)
theorem dJ19_remove_13 : decode cJ19_remove 13 = .ok (.astore_n 2, 1) := dk_77 (dk_at dksJ19_remove_0 13 rfl rfl)
theorem dJ19_remove_14 : decode cJ19_remove 14 = .ok (.ifnonnull 7, 3) := dk_199 0 7 (dk_at dksJ19_remove_0 14 rfl rfl)
theorem dJ19_remove_17 : decode cJ19_remove 17 = .ok (.aconst_null, 1) := dk_1 (dk_at dksJ19_remove_0 17 rfl rfl)
theorem dJ19_remove_18 : decode cJ19_remove 18 = .ok (.goto 7, 3) := dk_167 0 7 (dk_at dksJ19_remove_0 18 rfl rfl)
theorem dJ19_remove_21 : decode cJ19_remove 21 = .ok (.aload_n 2, 1) := dk_44 (dk_at dksJ19_remove_0 21 rfl rfl)
theorem dJ19_remove_22 : decode cJ19_remove 22 = .ok (.getfield 162, 3) := dk_180 0 162 (dk_at dksJ19_remove_1 0 rfl rfl)
theorem dJ19_remove_25 : decode cJ19_remove 25 = .ok (.areturn, 1) := dk_176 (dk_at dksJ19_remove_1 3 rfl rfl)
abbrev cJ19_removeNode : ByteArray := prog_63_method_21_code
def yJ19_removeNode : MethodName := ⟨RJ19, "removeNode", "(ILjava/lang/Object;Ljava/lang/Object;ZZ)Ljava/util/HashMap$Node;"⟩
def dkwJ19_removeNode_12 : List UInt8 := [181, 0, 156, 42, 25, 10, 182, 0, 236, 25, 10, 176, 1, 176]
abbrev dktJ19_removeNode_12 : List UInt8 := dkwJ19_removeNode_12 ++ []
def dkwJ19_removeNode_11 : List UInt8 := [180, 0, 177, 181, 0, 177, 42, 89, 180, 0, 202, 4, 96, 181, 0, 202, 42, 89, 180, 0, 156, 4, 100]
abbrev dktJ19_removeNode_11 : List UInt8 := dkwJ19_removeNode_11 ++ dktJ19_removeNode_12
def dkwJ19_removeNode_10 : List UInt8 := [25, 10, 25, 7, 166, 0, 16, 25, 6, 21, 9, 25, 10, 180, 0, 177, 83, 167, 0, 13, 25, 7, 25, 10]
abbrev dktJ19_removeNode_10 : List UInt8 := dkwJ19_removeNode_10 ++ dktJ19_removeNode_11
def dkwJ19_removeNode_9 : List UInt8 := [25, 10, 193, 0, 180, 153, 0, 19, 25, 10, 192, 0, 180, 42, 25, 6, 21, 5, 182, 0, 232, 167, 0, 33]
abbrev dktJ19_removeNode_9 : List UInt8 := dkwJ19_removeNode_9 ++ dktJ19_removeNode_10
def dkwJ19_removeNode_8 : List UInt8 := [180, 0, 162, 89, 58, 13, 45, 165, 0, 16, 45, 198, 0, 95, 45, 25, 13, 182, 0, 173, 153, 0, 86]
abbrev dktJ19_removeNode_8 : List UInt8 := dkwJ19_removeNode_8 ++ dktJ19_removeNode_9
def dkwJ19_removeNode_7 : List UInt8 := [25, 11, 180, 0, 177, 89, 58, 11, 199, 255, 203, 25, 10, 198, 0, 116, 21, 4, 153, 0, 28, 25, 10]
abbrev dktJ19_removeNode_7 : List UInt8 := dkwJ19_removeNode_7 ++ dktJ19_removeNode_8
def dkwJ19_removeNode_6 : List UInt8 := [198, 0, 19, 44, 25, 12, 182, 0, 173, 153, 0, 10, 25, 11, 58, 10, 167, 0, 18, 25, 11, 58, 7]
abbrev dktJ19_removeNode_6 : List UInt8 := dkwJ19_removeNode_6 ++ dktJ19_removeNode_7
def dkwJ19_removeNode_5 : List UInt8 := [25, 11, 180, 0, 168, 27, 160, 0, 35, 25, 11, 180, 0, 170, 89, 58, 12, 44, 165, 0, 16, 44]
abbrev dktJ19_removeNode_5 : List UInt8 := dkwJ19_removeNode_5 ++ dktJ19_removeNode_6
def dkwJ19_removeNode_4 : List UInt8 := [25, 7, 193, 0, 180, 153, 0, 18, 25, 7, 192, 0, 180, 27, 44, 182, 0, 182, 58, 10, 167, 0, 59]
abbrev dktJ19_removeNode_4 : List UInt8 := dkwJ19_removeNode_4 ++ dktJ19_removeNode_5
def dkwJ19_removeNode_3 : List UInt8 := [182, 0, 173, 153, 0, 10, 25, 7, 58, 10, 167, 0, 93, 25, 7, 180, 0, 177, 89, 58, 11, 198, 0, 82]
abbrev dktJ19_removeNode_3 : List UInt8 := dkwJ19_removeNode_3 ++ dktJ19_removeNode_4
def dkwJ19_removeNode_2 : List UInt8 := [160, 0, 35, 25, 7, 180, 0, 170, 89, 58, 12, 44, 165, 0, 16, 44, 198, 0, 19, 44, 25, 12]
abbrev dktJ19_removeNode_2 : List UInt8 := dkwJ19_removeNode_2 ++ dktJ19_removeNode_3
def dkwJ19_removeNode_1 : List UInt8 := [100, 27, 126, 89, 54, 9, 50, 89, 58, 7, 198, 0, 255, 1, 58, 10, 25, 7, 180, 0, 168, 27]
abbrev dktJ19_removeNode_1 : List UInt8 := dkwJ19_removeNode_1 ++ dktJ19_removeNode_2
def dkwJ19_removeNode_0 : List UInt8 := [42, 180, 0, 105, 89, 58, 6, 198, 1, 26, 25, 6, 190, 89, 54, 8, 158, 1, 17, 25, 6, 21, 8, 4]
abbrev dktJ19_removeNode_0 : List UInt8 := dkwJ19_removeNode_0 ++ dktJ19_removeNode_1
theorem dksJ19_removeNode_0 : cJ19_removeNode.data.toList.drop 0 = dktJ19_removeNode_0 := by decide +kernel
theorem dksJ19_removeNode_1 : cJ19_removeNode.data.toList.drop 24 = dktJ19_removeNode_1 := dk_seg dksJ19_removeNode_0 24 rfl rfl
theorem dksJ19_removeNode_2 : cJ19_removeNode.data.toList.drop 46 = dktJ19_removeNode_2 := dk_seg dksJ19_removeNode_1 22 rfl rfl
theorem dksJ19_removeNode_3 : cJ19_removeNode.data.toList.drop 68 = dktJ19_removeNode_3 := dk_seg dksJ19_removeNode_2 22 rfl rfl
theorem dksJ19_removeNode_4 : cJ19_removeNode.data.toList.drop 92 = dktJ19_removeNode_4 := dk_seg dksJ19_removeNode_3 24 rfl rfl
theorem dksJ19_removeNode_5 : cJ19_removeNode.data.toList.drop 115 = dktJ19_removeNode_5 := dk_seg dksJ19_removeNode_4 23 rfl rfl
theorem dksJ19_removeNode_6 : cJ19_removeNode.data.toList.drop 137 = dktJ19_removeNode_6 := dk_seg dksJ19_removeNode_5 22 rfl rfl
theorem dksJ19_removeNode_7 : cJ19_removeNode.data.toList.drop 160 = dktJ19_removeNode_7 := dk_seg dksJ19_removeNode_6 23 rfl rfl
theorem dksJ19_removeNode_8 : cJ19_removeNode.data.toList.drop 183 = dktJ19_removeNode_8 := dk_seg dksJ19_removeNode_7 23 rfl rfl
theorem dksJ19_removeNode_9 : cJ19_removeNode.data.toList.drop 206 = dktJ19_removeNode_9 := dk_seg dksJ19_removeNode_8 23 rfl rfl
theorem dksJ19_removeNode_10 : cJ19_removeNode.data.toList.drop 230 = dktJ19_removeNode_10 := dk_seg dksJ19_removeNode_9 24 rfl rfl
theorem dksJ19_removeNode_11 : cJ19_removeNode.data.toList.drop 254 = dktJ19_removeNode_11 := dk_seg dksJ19_removeNode_10 24 rfl rfl
theorem dksJ19_removeNode_12 : cJ19_removeNode.data.toList.drop 277 = dktJ19_removeNode_12 := dk_seg dksJ19_removeNode_11 23 rfl rfl
theorem dJ19_removeNode_0 : decode cJ19_removeNode 0 = .ok (.aload_n 0, 1) := dk_42 (dk_at dksJ19_removeNode_0 0 rfl rfl)
theorem dJ19_removeNode_1 : decode cJ19_removeNode 1 = .ok (.getfield 105, 3) := dk_180 0 105 (dk_at dksJ19_removeNode_0 1 rfl rfl)
theorem dJ19_removeNode_4 : decode cJ19_removeNode 4 = .ok (.dup, 1) := dk_89 (dk_at dksJ19_removeNode_0 4 rfl rfl)
theorem dJ19_removeNode_5 : decode cJ19_removeNode 5 = .ok (.astore 6, 2) := dk_58 6 (dk_at dksJ19_removeNode_0 5 rfl rfl)
theorem dJ19_removeNode_7 : decode cJ19_removeNode 7 = .ok (.ifnull 282, 3) := dk_198 1 26 (dk_at dksJ19_removeNode_0 7 rfl rfl)
theorem dJ19_removeNode_10 : decode cJ19_removeNode 10 = .ok (.aload 6, 2) := dk_25 6 (dk_at dksJ19_removeNode_0 10 rfl rfl)
theorem dJ19_removeNode_12 : decode cJ19_removeNode 12 = .ok (.arraylength, 1) := dk_190 (dk_at dksJ19_removeNode_0 12 rfl rfl)
theorem dJ19_removeNode_13 : decode cJ19_removeNode 13 = .ok (.dup, 1) := dk_89 (dk_at dksJ19_removeNode_0 13 rfl rfl)
theorem dJ19_removeNode_14 : decode cJ19_removeNode 14 = .ok (.istore 8, 2) := dk_54 8 (dk_at dksJ19_removeNode_0 14 rfl rfl)
theorem dJ19_removeNode_16 : decode cJ19_removeNode 16 = .ok (.ifCond .le 273, 3) := dk_158 1 17 (dk_at dksJ19_removeNode_0 16 rfl rfl)
theorem dJ19_removeNode_19 : decode cJ19_removeNode 19 = .ok (.aload 6, 2) := dk_25 6 (dk_at dksJ19_removeNode_0 19 rfl rfl)
theorem dJ19_removeNode_21 : decode cJ19_removeNode 21 = .ok (.iload 8, 2) := dk_21 8 (dk_at dksJ19_removeNode_0 21 rfl rfl)
theorem dJ19_removeNode_23 : decode cJ19_removeNode 23 = .ok (.iconst 1, 1) := dk_4 (dk_at dksJ19_removeNode_0 23 rfl rfl)
theorem dJ19_removeNode_24 : decode cJ19_removeNode 24 = .ok (.isub, 1) := dk_100 (dk_at dksJ19_removeNode_1 0 rfl rfl)
theorem dJ19_removeNode_25 : decode cJ19_removeNode 25 = .ok (.iload_n 1, 1) := dk_27 (dk_at dksJ19_removeNode_1 1 rfl rfl)
theorem dJ19_removeNode_26 : decode cJ19_removeNode 26 = .ok (.iand, 1) := dk_126 (dk_at dksJ19_removeNode_1 2 rfl rfl)
theorem dJ19_removeNode_27 : decode cJ19_removeNode 27 = .ok (.dup, 1) := dk_89 (dk_at dksJ19_removeNode_1 3 rfl rfl)
theorem dJ19_removeNode_28 : decode cJ19_removeNode 28 = .ok (.istore 9, 2) := dk_54 9 (dk_at dksJ19_removeNode_1 4 rfl rfl)
theorem dJ19_removeNode_30 : decode cJ19_removeNode 30 = .ok (.aaload, 1) := dk_50 (dk_at dksJ19_removeNode_1 6 rfl rfl)
theorem dJ19_removeNode_31 : decode cJ19_removeNode 31 = .ok (.dup, 1) := dk_89 (dk_at dksJ19_removeNode_1 7 rfl rfl)
theorem dJ19_removeNode_32 : decode cJ19_removeNode 32 = .ok (.astore 7, 2) := dk_58 7 (dk_at dksJ19_removeNode_1 8 rfl rfl)
theorem dJ19_removeNode_34 : decode cJ19_removeNode 34 = .ok (.ifnull 255, 3) := dk_198 0 255 (dk_at dksJ19_removeNode_1 10 rfl rfl)
theorem dJ19_removeNode_37 : decode cJ19_removeNode 37 = .ok (.aconst_null, 1) := dk_1 (dk_at dksJ19_removeNode_1 13 rfl rfl)
theorem dJ19_removeNode_38 : decode cJ19_removeNode 38 = .ok (.astore 10, 2) := dk_58 10 (dk_at dksJ19_removeNode_1 14 rfl rfl)
theorem dJ19_removeNode_40 : decode cJ19_removeNode 40 = .ok (.aload 7, 2) := dk_25 7 (dk_at dksJ19_removeNode_1 16 rfl rfl)
theorem dJ19_removeNode_42 : decode cJ19_removeNode 42 = .ok (.getfield 168, 3) := dk_180 0 168 (dk_at dksJ19_removeNode_1 18 rfl rfl)
theorem dJ19_removeNode_45 : decode cJ19_removeNode 45 = .ok (.iload_n 1, 1) := dk_27 (dk_at dksJ19_removeNode_1 21 rfl rfl)
theorem dJ19_removeNode_46 : decode cJ19_removeNode 46 = .ok (.if_icmp .ne 35, 3) := dk_160 0 35 (dk_at dksJ19_removeNode_2 0 rfl rfl)
theorem dJ19_removeNode_49 : decode cJ19_removeNode 49 = .ok (.aload 7, 2) := dk_25 7 (dk_at dksJ19_removeNode_2 3 rfl rfl)
theorem dJ19_removeNode_51 : decode cJ19_removeNode 51 = .ok (.getfield 170, 3) := dk_180 0 170 (dk_at dksJ19_removeNode_2 5 rfl rfl)
theorem dJ19_removeNode_54 : decode cJ19_removeNode 54 = .ok (.dup, 1) := dk_89 (dk_at dksJ19_removeNode_2 8 rfl rfl)
theorem dJ19_removeNode_55 : decode cJ19_removeNode 55 = .ok (.astore 12, 2) := dk_58 12 (dk_at dksJ19_removeNode_2 9 rfl rfl)
theorem dJ19_removeNode_57 : decode cJ19_removeNode 57 = .ok (.aload_n 2, 1) := dk_44 (dk_at dksJ19_removeNode_2 11 rfl rfl)
theorem dJ19_removeNode_58 : decode cJ19_removeNode 58 = .ok (.if_acmp .eq 16, 3) := dk_165 0 16 (dk_at dksJ19_removeNode_2 12 rfl rfl)
theorem dJ19_removeNode_61 : decode cJ19_removeNode 61 = .ok (.aload_n 2, 1) := dk_44 (dk_at dksJ19_removeNode_2 15 rfl rfl)
theorem dJ19_removeNode_62 : decode cJ19_removeNode 62 = .ok (.ifnull 19, 3) := dk_198 0 19 (dk_at dksJ19_removeNode_2 16 rfl rfl)
theorem dJ19_removeNode_65 : decode cJ19_removeNode 65 = .ok (.aload_n 2, 1) := dk_44 (dk_at dksJ19_removeNode_2 19 rfl rfl)
theorem dJ19_removeNode_66 : decode cJ19_removeNode 66 = .ok (.aload 12, 2) := dk_25 12 (dk_at dksJ19_removeNode_2 20 rfl rfl)
theorem dJ19_removeNode_68 : decode cJ19_removeNode 68 = .ok (.invokevirtual 173, 3) := dk_182 0 173 (dk_at dksJ19_removeNode_3 0 rfl rfl)
theorem dJ19_removeNode_71 : decode cJ19_removeNode 71 = .ok (.ifCond .eq 10, 3) := dk_153 0 10 (dk_at dksJ19_removeNode_3 3 rfl rfl)
theorem dJ19_removeNode_74 : decode cJ19_removeNode 74 = .ok (.aload 7, 2) := dk_25 7 (dk_at dksJ19_removeNode_3 6 rfl rfl)
theorem dJ19_removeNode_76 : decode cJ19_removeNode 76 = .ok (.astore 10, 2) := dk_58 10 (dk_at dksJ19_removeNode_3 8 rfl rfl)
theorem dJ19_removeNode_78 : decode cJ19_removeNode 78 = .ok (.goto 93, 3) := dk_167 0 93 (dk_at dksJ19_removeNode_3 10 rfl rfl)
theorem dJ19_removeNode_81 : decode cJ19_removeNode 81 = .ok (.aload 7, 2) := dk_25 7 (dk_at dksJ19_removeNode_3 13 rfl rfl)
theorem dJ19_removeNode_83 : decode cJ19_removeNode 83 = .ok (.getfield 177, 3) := dk_180 0 177 (dk_at dksJ19_removeNode_3 15 rfl rfl)
theorem dJ19_removeNode_86 : decode cJ19_removeNode 86 = .ok (.dup, 1) := dk_89 (dk_at dksJ19_removeNode_3 18 rfl rfl)
theorem dJ19_removeNode_87 : decode cJ19_removeNode 87 = .ok (.astore 11, 2) := dk_58 11 (dk_at dksJ19_removeNode_3 19 rfl rfl)
theorem dJ19_removeNode_89 : decode cJ19_removeNode 89 = .ok (.ifnull 82, 3) := dk_198 0 82 (dk_at dksJ19_removeNode_3 21 rfl rfl)
theorem dJ19_removeNode_92 : decode cJ19_removeNode 92 = .ok (.aload 7, 2) := dk_25 7 (dk_at dksJ19_removeNode_4 0 rfl rfl)
theorem dJ19_removeNode_94 : decode cJ19_removeNode 94 = .ok (.instanceof 180, 3) := dk_193 0 180 (dk_at dksJ19_removeNode_4 2 rfl rfl)
theorem dJ19_removeNode_97 : decode cJ19_removeNode 97 = .ok (.ifCond .eq 18, 3) := dk_153 0 18 (dk_at dksJ19_removeNode_4 5 rfl rfl)
theorem dJ19_removeNode_100 : decode cJ19_removeNode 100 = .ok (.aload 7, 2) := dk_25 7 (dk_at dksJ19_removeNode_4 8 rfl rfl)
theorem dJ19_removeNode_102 : decode cJ19_removeNode 102 = .ok (.checkcast 180, 3) := dk_192 0 180 (dk_at dksJ19_removeNode_4 10 rfl rfl)
theorem dJ19_removeNode_105 : decode cJ19_removeNode 105 = .ok (.iload_n 1, 1) := dk_27 (dk_at dksJ19_removeNode_4 13 rfl rfl)
theorem dJ19_removeNode_106 : decode cJ19_removeNode 106 = .ok (.aload_n 2, 1) := dk_44 (dk_at dksJ19_removeNode_4 14 rfl rfl)
theorem dJ19_removeNode_107 : decode cJ19_removeNode 107 = .ok (.invokevirtual 182, 3) := dk_182 0 182 (dk_at dksJ19_removeNode_4 15 rfl rfl)
theorem dJ19_removeNode_110 : decode cJ19_removeNode 110 = .ok (.astore 10, 2) := dk_58 10 (dk_at dksJ19_removeNode_4 18 rfl rfl)
theorem dJ19_removeNode_112 : decode cJ19_removeNode 112 = .ok (.goto 59, 3) := dk_167 0 59 (dk_at dksJ19_removeNode_4 20 rfl rfl)
theorem dJ19_removeNode_115 : decode cJ19_removeNode 115 = .ok (.aload 11, 2) := dk_25 11 (dk_at dksJ19_removeNode_5 0 rfl rfl)
theorem dJ19_removeNode_117 : decode cJ19_removeNode 117 = .ok (.getfield 168, 3) := dk_180 0 168 (dk_at dksJ19_removeNode_5 2 rfl rfl)
theorem dJ19_removeNode_120 : decode cJ19_removeNode 120 = .ok (.iload_n 1, 1) := dk_27 (dk_at dksJ19_removeNode_5 5 rfl rfl)
theorem dJ19_removeNode_121 : decode cJ19_removeNode 121 = .ok (.if_icmp .ne 35, 3) := dk_160 0 35 (dk_at dksJ19_removeNode_5 6 rfl rfl)
theorem dJ19_removeNode_124 : decode cJ19_removeNode 124 = .ok (.aload 11, 2) := dk_25 11 (dk_at dksJ19_removeNode_5 9 rfl rfl)
theorem dJ19_removeNode_126 : decode cJ19_removeNode 126 = .ok (.getfield 170, 3) := dk_180 0 170 (dk_at dksJ19_removeNode_5 11 rfl rfl)
theorem dJ19_removeNode_129 : decode cJ19_removeNode 129 = .ok (.dup, 1) := dk_89 (dk_at dksJ19_removeNode_5 14 rfl rfl)
theorem dJ19_removeNode_130 : decode cJ19_removeNode 130 = .ok (.astore 12, 2) := dk_58 12 (dk_at dksJ19_removeNode_5 15 rfl rfl)
theorem dJ19_removeNode_132 : decode cJ19_removeNode 132 = .ok (.aload_n 2, 1) := dk_44 (dk_at dksJ19_removeNode_5 17 rfl rfl)
theorem dJ19_removeNode_133 : decode cJ19_removeNode 133 = .ok (.if_acmp .eq 16, 3) := dk_165 0 16 (dk_at dksJ19_removeNode_5 18 rfl rfl)
theorem dJ19_removeNode_136 : decode cJ19_removeNode 136 = .ok (.aload_n 2, 1) := dk_44 (dk_at dksJ19_removeNode_5 21 rfl rfl)
theorem dJ19_removeNode_137 : decode cJ19_removeNode 137 = .ok (.ifnull 19, 3) := dk_198 0 19 (dk_at dksJ19_removeNode_6 0 rfl rfl)
theorem dJ19_removeNode_140 : decode cJ19_removeNode 140 = .ok (.aload_n 2, 1) := dk_44 (dk_at dksJ19_removeNode_6 3 rfl rfl)
theorem dJ19_removeNode_141 : decode cJ19_removeNode 141 = .ok (.aload 12, 2) := dk_25 12 (dk_at dksJ19_removeNode_6 4 rfl rfl)
theorem dJ19_removeNode_143 : decode cJ19_removeNode 143 = .ok (.invokevirtual 173, 3) := dk_182 0 173 (dk_at dksJ19_removeNode_6 6 rfl rfl)
theorem dJ19_removeNode_146 : decode cJ19_removeNode 146 = .ok (.ifCond .eq 10, 3) := dk_153 0 10 (dk_at dksJ19_removeNode_6 9 rfl rfl)
theorem dJ19_removeNode_149 : decode cJ19_removeNode 149 = .ok (.aload 11, 2) := dk_25 11 (dk_at dksJ19_removeNode_6 12 rfl rfl)
theorem dJ19_removeNode_151 : decode cJ19_removeNode 151 = .ok (.astore 10, 2) := dk_58 10 (dk_at dksJ19_removeNode_6 14 rfl rfl)
theorem dJ19_removeNode_153 : decode cJ19_removeNode 153 = .ok (.goto 18, 3) := dk_167 0 18 (dk_at dksJ19_removeNode_6 16 rfl rfl)
theorem dJ19_removeNode_156 : decode cJ19_removeNode 156 = .ok (.aload 11, 2) := dk_25 11 (dk_at dksJ19_removeNode_6 19 rfl rfl)
theorem dJ19_removeNode_158 : decode cJ19_removeNode 158 = .ok (.astore 7, 2) := dk_58 7 (dk_at dksJ19_removeNode_6 21 rfl rfl)
theorem dJ19_removeNode_160 : decode cJ19_removeNode 160 = .ok (.aload 11, 2) := dk_25 11 (dk_at dksJ19_removeNode_7 0 rfl rfl)
theorem dJ19_removeNode_162 : decode cJ19_removeNode 162 = .ok (.getfield 177, 3) := dk_180 0 177 (dk_at dksJ19_removeNode_7 2 rfl rfl)
theorem dJ19_removeNode_165 : decode cJ19_removeNode 165 = .ok (.dup, 1) := dk_89 (dk_at dksJ19_removeNode_7 5 rfl rfl)
theorem dJ19_removeNode_166 : decode cJ19_removeNode 166 = .ok (.astore 11, 2) := dk_58 11 (dk_at dksJ19_removeNode_7 6 rfl rfl)
theorem dJ19_removeNode_168 : decode cJ19_removeNode 168 = .ok (.ifnonnull (-53), 3) := dk_199 255 203 (dk_at dksJ19_removeNode_7 8 rfl rfl)
theorem dJ19_removeNode_171 : decode cJ19_removeNode 171 = .ok (.aload 10, 2) := dk_25 10 (dk_at dksJ19_removeNode_7 11 rfl rfl)
theorem dJ19_removeNode_173 : decode cJ19_removeNode 173 = .ok (.ifnull 116, 3) := dk_198 0 116 (dk_at dksJ19_removeNode_7 13 rfl rfl)
theorem dJ19_removeNode_176 : decode cJ19_removeNode 176 = .ok (.iload 4, 2) := dk_21 4 (dk_at dksJ19_removeNode_7 16 rfl rfl)
theorem dJ19_removeNode_178 : decode cJ19_removeNode 178 = .ok (.ifCond .eq 28, 3) := dk_153 0 28 (dk_at dksJ19_removeNode_7 18 rfl rfl)
theorem dJ19_removeNode_181 : decode cJ19_removeNode 181 = .ok (.aload 10, 2) := dk_25 10 (dk_at dksJ19_removeNode_7 21 rfl rfl)
theorem dJ19_removeNode_183 : decode cJ19_removeNode 183 = .ok (.getfield 162, 3) := dk_180 0 162 (dk_at dksJ19_removeNode_8 0 rfl rfl)
theorem dJ19_removeNode_186 : decode cJ19_removeNode 186 = .ok (.dup, 1) := dk_89 (dk_at dksJ19_removeNode_8 3 rfl rfl)
theorem dJ19_removeNode_187 : decode cJ19_removeNode 187 = .ok (.astore 13, 2) := dk_58 13 (dk_at dksJ19_removeNode_8 4 rfl rfl)
theorem dJ19_removeNode_189 : decode cJ19_removeNode 189 = .ok (.aload_n 3, 1) := dk_45 (dk_at dksJ19_removeNode_8 6 rfl rfl)
theorem dJ19_removeNode_190 : decode cJ19_removeNode 190 = .ok (.if_acmp .eq 16, 3) := dk_165 0 16 (dk_at dksJ19_removeNode_8 7 rfl rfl)
theorem dJ19_removeNode_193 : decode cJ19_removeNode 193 = .ok (.aload_n 3, 1) := dk_45 (dk_at dksJ19_removeNode_8 10 rfl rfl)
theorem dJ19_removeNode_194 : decode cJ19_removeNode 194 = .ok (.ifnull 95, 3) := dk_198 0 95 (dk_at dksJ19_removeNode_8 11 rfl rfl)
theorem dJ19_removeNode_197 : decode cJ19_removeNode 197 = .ok (.aload_n 3, 1) := dk_45 (dk_at dksJ19_removeNode_8 14 rfl rfl)
theorem dJ19_removeNode_198 : decode cJ19_removeNode 198 = .ok (.aload 13, 2) := dk_25 13 (dk_at dksJ19_removeNode_8 15 rfl rfl)
theorem dJ19_removeNode_200 : decode cJ19_removeNode 200 = .ok (.invokevirtual 173, 3) := dk_182 0 173 (dk_at dksJ19_removeNode_8 17 rfl rfl)
theorem dJ19_removeNode_203 : decode cJ19_removeNode 203 = .ok (.ifCond .eq 86, 3) := dk_153 0 86 (dk_at dksJ19_removeNode_8 20 rfl rfl)
theorem dJ19_removeNode_206 : decode cJ19_removeNode 206 = .ok (.aload 10, 2) := dk_25 10 (dk_at dksJ19_removeNode_9 0 rfl rfl)
theorem dJ19_removeNode_208 : decode cJ19_removeNode 208 = .ok (.instanceof 180, 3) := dk_193 0 180 (dk_at dksJ19_removeNode_9 2 rfl rfl)
theorem dJ19_removeNode_211 : decode cJ19_removeNode 211 = .ok (.ifCond .eq 19, 3) := dk_153 0 19 (dk_at dksJ19_removeNode_9 5 rfl rfl)
theorem dJ19_removeNode_214 : decode cJ19_removeNode 214 = .ok (.aload 10, 2) := dk_25 10 (dk_at dksJ19_removeNode_9 8 rfl rfl)
theorem dJ19_removeNode_216 : decode cJ19_removeNode 216 = .ok (.checkcast 180, 3) := dk_192 0 180 (dk_at dksJ19_removeNode_9 10 rfl rfl)
theorem dJ19_removeNode_219 : decode cJ19_removeNode 219 = .ok (.aload_n 0, 1) := dk_42 (dk_at dksJ19_removeNode_9 13 rfl rfl)
theorem dJ19_removeNode_220 : decode cJ19_removeNode 220 = .ok (.aload 6, 2) := dk_25 6 (dk_at dksJ19_removeNode_9 14 rfl rfl)
theorem dJ19_removeNode_222 : decode cJ19_removeNode 222 = .ok (.iload 5, 2) := dk_21 5 (dk_at dksJ19_removeNode_9 16 rfl rfl)
theorem dJ19_removeNode_224 : decode cJ19_removeNode 224 = .ok (.invokevirtual 232, 3) := dk_182 0 232 (dk_at dksJ19_removeNode_9 18 rfl rfl)
theorem dJ19_removeNode_227 : decode cJ19_removeNode 227 = .ok (.goto 33, 3) := dk_167 0 33 (dk_at dksJ19_removeNode_9 21 rfl rfl)
theorem dJ19_removeNode_230 : decode cJ19_removeNode 230 = .ok (.aload 10, 2) := dk_25 10 (dk_at dksJ19_removeNode_10 0 rfl rfl)
theorem dJ19_removeNode_232 : decode cJ19_removeNode 232 = .ok (.aload 7, 2) := dk_25 7 (dk_at dksJ19_removeNode_10 2 rfl rfl)
theorem dJ19_removeNode_234 : decode cJ19_removeNode 234 = .ok (.if_acmp .ne 16, 3) := dk_166 0 16 (dk_at dksJ19_removeNode_10 4 rfl rfl)
theorem dJ19_removeNode_237 : decode cJ19_removeNode 237 = .ok (.aload 6, 2) := dk_25 6 (dk_at dksJ19_removeNode_10 7 rfl rfl)
theorem dJ19_removeNode_239 : decode cJ19_removeNode 239 = .ok (.iload 9, 2) := dk_21 9 (dk_at dksJ19_removeNode_10 9 rfl rfl)
theorem dJ19_removeNode_241 : decode cJ19_removeNode 241 = .ok (.aload 10, 2) := dk_25 10 (dk_at dksJ19_removeNode_10 11 rfl rfl)
theorem dJ19_removeNode_243 : decode cJ19_removeNode 243 = .ok (.getfield 177, 3) := dk_180 0 177 (dk_at dksJ19_removeNode_10 13 rfl rfl)
theorem dJ19_removeNode_246 : decode cJ19_removeNode 246 = .ok (.aastore, 1) := dk_83 (dk_at dksJ19_removeNode_10 16 rfl rfl)
theorem dJ19_removeNode_247 : decode cJ19_removeNode 247 = .ok (.goto 13, 3) := dk_167 0 13 (dk_at dksJ19_removeNode_10 17 rfl rfl)
theorem dJ19_removeNode_250 : decode cJ19_removeNode 250 = .ok (.aload 7, 2) := dk_25 7 (dk_at dksJ19_removeNode_10 20 rfl rfl)
theorem dJ19_removeNode_252 : decode cJ19_removeNode 252 = .ok (.aload 10, 2) := dk_25 10 (dk_at dksJ19_removeNode_10 22 rfl rfl)
theorem dJ19_removeNode_254 : decode cJ19_removeNode 254 = .ok (.getfield 177, 3) := dk_180 0 177 (dk_at dksJ19_removeNode_11 0 rfl rfl)
theorem dJ19_removeNode_257 : decode cJ19_removeNode 257 = .ok (.putfield 177, 3) := dk_181 0 177 (dk_at dksJ19_removeNode_11 3 rfl rfl)
theorem dJ19_removeNode_260 : decode cJ19_removeNode 260 = .ok (.aload_n 0, 1) := dk_42 (dk_at dksJ19_removeNode_11 6 rfl rfl)
theorem dJ19_removeNode_261 : decode cJ19_removeNode 261 = .ok (.dup, 1) := dk_89 (dk_at dksJ19_removeNode_11 7 rfl rfl)
theorem dJ19_removeNode_262 : decode cJ19_removeNode 262 = .ok (.getfield 202, 3) := dk_180 0 202 (dk_at dksJ19_removeNode_11 8 rfl rfl)
theorem dJ19_removeNode_265 : decode cJ19_removeNode 265 = .ok (.iconst 1, 1) := dk_4 (dk_at dksJ19_removeNode_11 11 rfl rfl)
theorem dJ19_removeNode_266 : decode cJ19_removeNode 266 = .ok (.iadd, 1) := dk_96 (dk_at dksJ19_removeNode_11 12 rfl rfl)
theorem dJ19_removeNode_267 : decode cJ19_removeNode 267 = .ok (.putfield 202, 3) := dk_181 0 202 (dk_at dksJ19_removeNode_11 13 rfl rfl)
theorem dJ19_removeNode_270 : decode cJ19_removeNode 270 = .ok (.aload_n 0, 1) := dk_42 (dk_at dksJ19_removeNode_11 16 rfl rfl)
theorem dJ19_removeNode_271 : decode cJ19_removeNode 271 = .ok (.dup, 1) := dk_89 (dk_at dksJ19_removeNode_11 17 rfl rfl)
theorem dJ19_removeNode_272 : decode cJ19_removeNode 272 = .ok (.getfield 156, 3) := dk_180 0 156 (dk_at dksJ19_removeNode_11 18 rfl rfl)
theorem dJ19_removeNode_275 : decode cJ19_removeNode 275 = .ok (.iconst 1, 1) := dk_4 (dk_at dksJ19_removeNode_11 21 rfl rfl)
theorem dJ19_removeNode_276 : decode cJ19_removeNode 276 = .ok (.isub, 1) := dk_100 (dk_at dksJ19_removeNode_11 22 rfl rfl)
theorem dJ19_removeNode_277 : decode cJ19_removeNode 277 = .ok (.putfield 156, 3) := dk_181 0 156 (dk_at dksJ19_removeNode_12 0 rfl rfl)
theorem dJ19_removeNode_280 : decode cJ19_removeNode 280 = .ok (.aload_n 0, 1) := dk_42 (dk_at dksJ19_removeNode_12 3 rfl rfl)
theorem dJ19_removeNode_281 : decode cJ19_removeNode 281 = .ok (.aload 10, 2) := dk_25 10 (dk_at dksJ19_removeNode_12 4 rfl rfl)
theorem dJ19_removeNode_283 : decode cJ19_removeNode 283 = .ok (.invokevirtual 236, 3) := dk_182 0 236 (dk_at dksJ19_removeNode_12 6 rfl rfl)
theorem dJ19_removeNode_286 : decode cJ19_removeNode 286 = .ok (.aload 10, 2) := dk_25 10 (dk_at dksJ19_removeNode_12 9 rfl rfl)
theorem dJ19_removeNode_288 : decode cJ19_removeNode 288 = .ok (.areturn, 1) := dk_176 (dk_at dksJ19_removeNode_12 11 rfl rfl)
theorem dJ19_removeNode_289 : decode cJ19_removeNode 289 = .ok (.aconst_null, 1) := dk_1 (dk_at dksJ19_removeNode_12 12 rfl rfl)
theorem dJ19_removeNode_290 : decode cJ19_removeNode 290 = .ok (.areturn, 1) := dk_176 (dk_at dksJ19_removeNode_12 13 rfl rfl)
abbrev cJ19_afterNodeRemoval : ByteArray := prog_63_method_53_code
def yJ19_afterNodeRemoval : MethodName := ⟨RJ19, "afterNodeRemoval", "(Ljava/util/HashMap$Node;)V"⟩
theorem dJ19_afterNodeRemoval_0 : decode cJ19_afterNodeRemoval 0 = .ok (.return_, 1) := by decide +kernel
theorem q143 : (Jvm.Cond.initialized "java/util/HashMap") ∈ lw_all := lw_g (lw_at lw_m1 24 rfl) rfl
theorem q551 : (Jvm.Cond.instantiable "java/util/HashMap" (8 : Nat)) ∈ lw_all := lw_g (lw_at lw_m2 192 rfl) rfl
theorem q553 : (Jvm.Cond.instanceMethod ({ cls := "java/util/HashMap", name := "<init>", desc := "()V" } : Jvm.MethodName)) ∈ lw_all := lw_g (lw_at lw_m2 194 rfl) rfl
theorem q554 : (Jvm.Cond.code ({ cls := "java/util/HashMap", name := "<init>", desc := "()V" } : Jvm.MethodName) prog_63_method_7_code (1 : Nat) (Option.none : Option Jvm.ClassFile.FieldType)) ∈ lw_all := lw_g (lw_at lw_m2 195 rfl) rfl
theorem q555 : (Jvm.Cond.methodLink "java/util/HashMap" (43 : Nat) ({ cls := "java/util/AbstractMap", name := "<init>", desc := "()V" } : Jvm.MethodName)) ∈ lw_all := lw_g (lw_at lw_m2 196 rfl) rfl
theorem q559 : (Jvm.Cond.constantFloat "java/util/HashMap" (92 : Nat) (1061158912 : UInt32)) ∈ lw_all := lw_g (lw_at lw_m2 200 rfl) rfl
theorem q560 : (Jvm.Cond.fieldLink "java/util/HashMap" (105 : Nat) "java/util/HashMap" "table" "[Ljava/util/HashMap$Node;") ∈ lw_all := lw_g (lw_at lw_m2 201 rfl) rfl
theorem q561 : (Jvm.Cond.fieldLink "java/util/HashMap" (156 : Nat) "java/util/HashMap" "size" "I") ∈ lw_all := lw_g (lw_at lw_m2 202 rfl) rfl
theorem q562 : (Jvm.Cond.fieldLink "java/util/HashMap" (202 : Nat) "java/util/HashMap" "modCount" "I") ∈ lw_all := lw_g (lw_at lw_m2 203 rfl) rfl
theorem q563 : (Jvm.Cond.fieldLink "java/util/HashMap" (88 : Nat) "java/util/HashMap" "threshold" "I") ∈ lw_all := lw_g (lw_at lw_m2 204 rfl) rfl
theorem q564 : (Jvm.Cond.fieldLink "java/util/HashMap" (81 : Nat) "java/util/HashMap" "loadFactor" "F") ∈ lw_all := lw_g (lw_at lw_m2 205 rfl) rfl
theorem q565 : (Jvm.Cond.lays "java/util/HashMap" "java/util/HashMap" "table" "[Ljava/util/HashMap$Node;") ∈ lw_all := lw_g (lw_at lw_m2 206 rfl) rfl
theorem q566 : (Jvm.Cond.soleField "java/util/HashMap" "table") ∈ lw_all := lw_g (lw_at lw_m2 207 rfl) rfl
theorem q567 : (Jvm.Cond.lays "java/util/HashMap" "java/util/HashMap" "entrySet" "Ljava/util/Set;") ∈ lw_all := lw_g (lw_at lw_m2 208 rfl) rfl
theorem q568 : (Jvm.Cond.soleField "java/util/HashMap" "entrySet") ∈ lw_all := lw_g (lw_at lw_m2 209 rfl) rfl
theorem q569 : (Jvm.Cond.lays "java/util/HashMap" "java/util/HashMap" "size" "I") ∈ lw_all := lw_g (lw_at lw_m2 210 rfl) rfl
theorem q570 : (Jvm.Cond.soleField "java/util/HashMap" "size") ∈ lw_all := lw_g (lw_at lw_m2 211 rfl) rfl
theorem q571 : (Jvm.Cond.lays "java/util/HashMap" "java/util/HashMap" "modCount" "I") ∈ lw_all := lw_g (lw_at lw_m2 212 rfl) rfl
theorem q572 : (Jvm.Cond.soleField "java/util/HashMap" "modCount") ∈ lw_all := lw_g (lw_at lw_m2 213 rfl) rfl
theorem q573 : (Jvm.Cond.lays "java/util/HashMap" "java/util/HashMap" "threshold" "I") ∈ lw_all := lw_g (lw_at lw_m2 214 rfl) rfl
theorem q574 : (Jvm.Cond.soleField "java/util/HashMap" "threshold") ∈ lw_all := lw_g (lw_at lw_m2 215 rfl) rfl
theorem q575 : (Jvm.Cond.laysFinal "java/util/HashMap" "java/util/HashMap" "loadFactor" "F") ∈ lw_all := lw_g (lw_at lw_m2 216 rfl) rfl
theorem q576 : (Jvm.Cond.soleField "java/util/HashMap" "loadFactor") ∈ lw_all := lw_g (lw_at lw_m2 217 rfl) rfl
theorem q577 : (Jvm.Cond.lays "java/util/HashMap" "java/util/AbstractMap" "keySet" "Ljava/util/Set;") ∈ lw_all := lw_g (lw_at lw_m2 218 rfl) rfl
theorem q579 : (Jvm.Cond.lays "java/util/HashMap" "java/util/AbstractMap" "values" "Ljava/util/Collection;") ∈ lw_all := lw_g (lw_at lw_m2 220 rfl) rfl
theorem q581 : (Jvm.Cond.superclass "java/util/HashMap" "java/util/AbstractMap") ∈ lw_all := lw_g (lw_at lw_m2 222 rfl) rfl
theorem q722 : (Jvm.Cond.selects "java/util/HashMap" ({ cls := "java/lang/Object", name := "getClass", desc := "()Ljava/lang/Class;" } : Jvm.MethodName) ({ cls := "java/lang/Object", name := "getClass", desc := "()Ljava/lang/Class;" } : Jvm.MethodName)) ∈ lw_all := lw_g (lw_at lw_m3 123 rfl) rfl
theorem q738 : (Jvm.Cond.castable "java/util/HashMap" "java/util/Map") ∈ lw_tbl := lw_at lw_m3 139 rfl
theorem q739 : (Jvm.Cond.selects "java/util/HashMap" ({ cls := "java/util/Map", name := "put", desc := "(Ljava/lang/Object;Ljava/lang/Object;)Ljava/lang/Object;" } : Jvm.MethodName) ({ cls := "java/util/HashMap", name := "put", desc := "(Ljava/lang/Object;Ljava/lang/Object;)Ljava/lang/Object;" } : Jvm.MethodName)) ∈ lw_all := lw_g (lw_at lw_m3 140 rfl) rfl
theorem q740 : (Jvm.Cond.unhidden "java/util/HashMap" "put" "(Ljava/lang/Object;Ljava/lang/Object;)Ljava/lang/Object;") ∈ lw_tbl := lw_at lw_m3 141 rfl
theorem q741 : (Jvm.Cond.instanceMethod ({ cls := "java/util/HashMap", name := "put", desc := "(Ljava/lang/Object;Ljava/lang/Object;)Ljava/lang/Object;" } : Jvm.MethodName)) ∈ lw_all := lw_g (lw_at lw_m3 142 rfl) rfl
theorem q742 : (Jvm.Cond.publicMethod ({ cls := "java/util/HashMap", name := "put", desc := "(Ljava/lang/Object;Ljava/lang/Object;)Ljava/lang/Object;" } : Jvm.MethodName)) ∈ lw_tbl := lw_at lw_m3 143 rfl
theorem q743 : (Jvm.Cond.code ({ cls := "java/util/HashMap", name := "put", desc := "(Ljava/lang/Object;Ljava/lang/Object;)Ljava/lang/Object;" } : Jvm.MethodName) prog_63_method_15_code (3 : Nat) (Option.some (Jvm.ClassFile.FieldType.object "java/lang/Object"))) ∈ lw_all := lw_g (lw_at lw_m3 144 rfl) rfl
theorem q744 : (Jvm.Cond.methodLink "java/util/HashMap" (149 : Nat) ({ cls := "java/util/HashMap", name := "hash", desc := "(Ljava/lang/Object;)I" } : Jvm.MethodName)) ∈ lw_all := lw_g (lw_at lw_m3 145 rfl) rfl
theorem q745 : (Jvm.Cond.static ({ cls := "java/util/HashMap", name := "hash", desc := "(Ljava/lang/Object;)I" } : Jvm.MethodName)) ∈ lw_all := lw_g (lw_at lw_m3 146 rfl) rfl
theorem q746 : (Jvm.Cond.code ({ cls := "java/util/HashMap", name := "hash", desc := "(Ljava/lang/Object;)I" } : Jvm.MethodName) prog_63_method_1_code (2 : Nat) (Option.some Jvm.ClassFile.FieldType.int)) ∈ lw_all := lw_g (lw_at lw_m3 147 rfl) rfl
theorem q748 : (Jvm.Cond.methodLink "java/util/HashMap" (1 : Nat) ({ cls := "java/lang/Object", name := "hashCode", desc := "()I" } : Jvm.MethodName)) ∈ lw_all := lw_g (lw_at lw_m3 149 rfl) rfl
theorem q845 : (Jvm.Cond.methodLink "java/util/HashMap" (152 : Nat) ({ cls := "java/util/HashMap", name := "putVal", desc := "(ILjava/lang/Object;Ljava/lang/Object;ZZ)Ljava/lang/Object;" } : Jvm.MethodName)) ∈ lw_all := lw_g (lw_at lw_m4 6 rfl) rfl
theorem q846 : (Jvm.Cond.instanceMethod ({ cls := "java/util/HashMap", name := "putVal", desc := "(ILjava/lang/Object;Ljava/lang/Object;ZZ)Ljava/lang/Object;" } : Jvm.MethodName)) ∈ lw_all := lw_g (lw_at lw_m4 7 rfl) rfl
theorem q847 : (Jvm.Cond.selects "java/util/HashMap" ({ cls := "java/util/HashMap", name := "putVal", desc := "(ILjava/lang/Object;Ljava/lang/Object;ZZ)Ljava/lang/Object;" } : Jvm.MethodName) ({ cls := "java/util/HashMap", name := "putVal", desc := "(ILjava/lang/Object;Ljava/lang/Object;ZZ)Ljava/lang/Object;" } : Jvm.MethodName)) ∈ lw_all := lw_g (lw_at lw_m4 8 rfl) rfl
theorem q848 : (Jvm.Cond.code ({ cls := "java/util/HashMap", name := "putVal", desc := "(ILjava/lang/Object;Ljava/lang/Object;ZZ)Ljava/lang/Object;" } : Jvm.MethodName) prog_63_method_16_code (13 : Nat) (Option.some (Jvm.ClassFile.FieldType.object "java/lang/Object"))) ∈ lw_all := lw_g (lw_at lw_m4 9 rfl) rfl
theorem q849 : (Jvm.Cond.methodLink "java/util/HashMap" (117 : Nat) ({ cls := "java/util/HashMap", name := "resize", desc := "()[Ljava/util/HashMap$Node;" } : Jvm.MethodName)) ∈ lw_all := lw_g (lw_at lw_m4 10 rfl) rfl
theorem q850 : (Jvm.Cond.instanceMethod ({ cls := "java/util/HashMap", name := "resize", desc := "()[Ljava/util/HashMap$Node;" } : Jvm.MethodName)) ∈ lw_all := lw_g (lw_at lw_m4 11 rfl) rfl
theorem q851 : (Jvm.Cond.selects "java/util/HashMap" ({ cls := "java/util/HashMap", name := "resize", desc := "()[Ljava/util/HashMap$Node;" } : Jvm.MethodName) ({ cls := "java/util/HashMap", name := "resize", desc := "()[Ljava/util/HashMap$Node;" } : Jvm.MethodName)) ∈ lw_all := lw_g (lw_at lw_m4 12 rfl) rfl
theorem q852 : (Jvm.Cond.code ({ cls := "java/util/HashMap", name := "resize", desc := "()[Ljava/util/HashMap$Node;" } : Jvm.MethodName) prog_63_method_17_code (14 : Nat) (Option.some (Jvm.ClassFile.FieldType.array (Jvm.ClassFile.FieldType.object "java/util/HashMap$Node")))) ∈ lw_all := lw_g (lw_at lw_m4 13 rfl) rfl
theorem q853 : (Jvm.Cond.constant "java/util/HashMap" (42 : Nat) (1073741824 : Int32)) ∈ lw_all := lw_g (lw_at lw_m4 14 rfl) rfl
theorem q854 : (Jvm.Cond.constant "java/util/HashMap" (209 : Nat) (2147483647 : Int32)) ∈ lw_all := lw_g (lw_at lw_m4 15 rfl) rfl
theorem q855 : (Jvm.Cond.constantFloat "java/util/HashMap" (210 : Nat) (1317011456 : UInt32)) ∈ lw_all := lw_g (lw_at lw_m4 16 rfl) rfl
theorem q856 : (Jvm.Cond.classLink "java/util/HashMap" (163 : Nat) "java/util/HashMap$Node") ∈ lw_all := lw_g (lw_at lw_m4 17 rfl) rfl
theorem q858 : (Jvm.Cond.classLink "java/util/HashMap" (180 : Nat) "java/util/HashMap$TreeNode") ∈ lw_all := lw_g (lw_at lw_m4 19 rfl) rfl
theorem q859 : (Jvm.Cond.methodLink "java/util/HashMap" (211 : Nat) ({ cls := "java/util/HashMap$TreeNode", name := "split", desc := "(Ljava/util/HashMap;[Ljava/util/HashMap$Node;II)V" } : Jvm.MethodName)) ∈ lw_all := lw_g (lw_at lw_m4 20 rfl) rfl
theorem q869 : (Jvm.Cond.instanceMethod ({ cls := "java/util/HashMap", name := "replacementNode", desc := "(Ljava/util/HashMap$Node;Ljava/util/HashMap$Node;)Ljava/util/HashMap$Node;" } : Jvm.MethodName)) ∈ lw_all := lw_g (lw_at lw_m4 30 rfl) rfl
theorem q870 : (Jvm.Cond.selects "java/util/HashMap" ({ cls := "java/util/HashMap", name := "replacementNode", desc := "(Ljava/util/HashMap$Node;Ljava/util/HashMap$Node;)Ljava/util/HashMap$Node;" } : Jvm.MethodName) ({ cls := "java/util/HashMap", name := "replacementNode", desc := "(Ljava/util/HashMap$Node;Ljava/util/HashMap$Node;)Ljava/util/HashMap$Node;" } : Jvm.MethodName)) ∈ lw_all := lw_g (lw_at lw_m4 31 rfl) rfl
theorem q871 : (Jvm.Cond.code ({ cls := "java/util/HashMap", name := "replacementNode", desc := "(Ljava/util/HashMap$Node;Ljava/util/HashMap$Node;)Ljava/util/HashMap$Node;" } : Jvm.MethodName) prog_63_method_47_code (3 : Nat) (Option.some (Jvm.ClassFile.FieldType.object "java/util/HashMap$Node"))) ∈ lw_all := lw_g (lw_at lw_m4 32 rfl) rfl
theorem q873 : (Jvm.Cond.methodLink "java/util/HashMap" (375 : Nat) ({ cls := "java/util/HashMap$Node", name := "<init>", desc := "(ILjava/lang/Object;Ljava/lang/Object;Ljava/util/HashMap$Node;)V" } : Jvm.MethodName)) ∈ lw_all := lw_g (lw_at lw_m4 34 rfl) rfl
theorem q880 : (Jvm.Cond.fieldLink "java/util/HashMap" (168 : Nat) "java/util/HashMap$Node" "hash" "I") ∈ lw_all := lw_g (lw_at lw_m4 41 rfl) rfl
theorem q884 : (Jvm.Cond.fieldLink "java/util/HashMap" (170 : Nat) "java/util/HashMap$Node" "key" "Ljava/lang/Object;") ∈ lw_all := lw_g (lw_at lw_m4 45 rfl) rfl
theorem q886 : (Jvm.Cond.fieldLink "java/util/HashMap" (162 : Nat) "java/util/HashMap$Node" "value" "Ljava/lang/Object;") ∈ lw_all := lw_g (lw_at lw_m4 47 rfl) rfl
theorem q891 : (Jvm.Cond.fieldLink "java/util/HashMap" (177 : Nat) "java/util/HashMap$Node" "next" "Ljava/util/HashMap$Node;") ∈ lw_all := lw_g (lw_at lw_m4 52 rfl) rfl
theorem q892 : (Jvm.Cond.fieldLink "java/util/HashMap" (223 : Nat) "java/util/HashMap$TreeNode" "next" "Ljava/util/HashMap$Node;") ∈ lw_all := lw_g (lw_at lw_m4 53 rfl) rfl
theorem q907 : (Jvm.Cond.static ({ cls := "java/util/HashMap", name := "comparableClassFor", desc := "(Ljava/lang/Object;)Ljava/lang/Class;" } : Jvm.MethodName)) ∈ lw_all := lw_g (lw_at lw_m4 68 rfl) rfl
theorem q908 : (Jvm.Cond.code ({ cls := "java/util/HashMap", name := "comparableClassFor", desc := "(Ljava/lang/Object;)Ljava/lang/Class;" } : Jvm.MethodName) prog_63_method_2_code (9 : Nat) (Option.some (Jvm.ClassFile.FieldType.object "java/lang/Class"))) ∈ lw_all := lw_g (lw_at lw_m4 69 rfl) rfl
theorem q909 : (Jvm.Cond.classLink "java/util/HashMap" (7 : Nat) "java/lang/Comparable") ∈ lw_all := lw_g (lw_at lw_m4 70 rfl) rfl
theorem q910 : (Jvm.Cond.methodLink "java/util/HashMap" (9 : Nat) ({ cls := "java/lang/Object", name := "getClass", desc := "()Ljava/lang/Class;" } : Jvm.MethodName)) ∈ lw_all := lw_g (lw_at lw_m4 71 rfl) rfl
theorem q911 : (Jvm.Cond.classLink "java/util/HashMap" (13 : Nat) "java/lang/String") ∈ lw_all := lw_g (lw_at lw_m4 72 rfl) rfl
theorem q913 : (Jvm.Cond.static ({ cls := "java/util/HashMap", name := "compareComparables", desc := "(Ljava/lang/Class;Ljava/lang/Object;Ljava/lang/Object;)I" } : Jvm.MethodName)) ∈ lw_all := lw_g (lw_at lw_m4 74 rfl) rfl
theorem q914 : (Jvm.Cond.code ({ cls := "java/util/HashMap", name := "compareComparables", desc := "(Ljava/lang/Class;Ljava/lang/Object;Ljava/lang/Object;)I" } : Jvm.MethodName) prog_63_method_3_code (3 : Nat) (Option.some Jvm.ClassFile.FieldType.int)) ∈ lw_all := lw_g (lw_at lw_m4 75 rfl) rfl
theorem q915 : (Jvm.Cond.interfaceEntry "java/util/HashMap" (30 : Nat)) ∈ lw_tbl := lw_at lw_m4 76 rfl
theorem q916 : (Jvm.Cond.methodLink "java/util/HashMap" (30 : Nat) ({ cls := "java/lang/Comparable", name := "compareTo", desc := "(Ljava/lang/Object;)I" } : Jvm.MethodName)) ∈ lw_all := lw_g (lw_at lw_m4 77 rfl) rfl
theorem q1150 : (Jvm.Cond.methodLink "java/util/HashMap" (186 : Nat) ({ cls := "java/util/HashMap", name := "newNode", desc := "(ILjava/lang/Object;Ljava/lang/Object;Ljava/util/HashMap$Node;)Ljava/util/HashMap$Node;" } : Jvm.MethodName)) ∈ lw_all := lw_g (lw_at lw_m5 71 rfl) rfl
theorem q1151 : (Jvm.Cond.instanceMethod ({ cls := "java/util/HashMap", name := "newNode", desc := "(ILjava/lang/Object;Ljava/lang/Object;Ljava/util/HashMap$Node;)Ljava/util/HashMap$Node;" } : Jvm.MethodName)) ∈ lw_all := lw_g (lw_at lw_m5 72 rfl) rfl
theorem q1152 : (Jvm.Cond.selects "java/util/HashMap" ({ cls := "java/util/HashMap", name := "newNode", desc := "(ILjava/lang/Object;Ljava/lang/Object;Ljava/util/HashMap$Node;)Ljava/util/HashMap$Node;" } : Jvm.MethodName) ({ cls := "java/util/HashMap", name := "newNode", desc := "(ILjava/lang/Object;Ljava/lang/Object;Ljava/util/HashMap$Node;)Ljava/util/HashMap$Node;" } : Jvm.MethodName)) ∈ lw_all := lw_g (lw_at lw_m5 73 rfl) rfl
theorem q1153 : (Jvm.Cond.code ({ cls := "java/util/HashMap", name := "newNode", desc := "(ILjava/lang/Object;Ljava/lang/Object;Ljava/util/HashMap$Node;)Ljava/util/HashMap$Node;" } : Jvm.MethodName) prog_63_method_46_code (5 : Nat) (Option.some (Jvm.ClassFile.FieldType.object "java/util/HashMap$Node"))) ∈ lw_all := lw_g (lw_at lw_m5 74 rfl) rfl
theorem q1155 : (Jvm.Cond.methodLink "java/util/HashMap" (173 : Nat) ({ cls := "java/lang/Object", name := "equals", desc := "(Ljava/lang/Object;)Z" } : Jvm.MethodName)) ∈ lw_all := lw_g (lw_at lw_m5 76 rfl) rfl
theorem q1195 : (Jvm.Cond.methodLink "java/util/HashMap" (190 : Nat) ({ cls := "java/util/HashMap$TreeNode", name := "putTreeVal", desc := "(Ljava/util/HashMap;[Ljava/util/HashMap$Node;ILjava/lang/Object;Ljava/lang/Object;)Ljava/util/HashMap$TreeNode;" } : Jvm.MethodName)) ∈ lw_all := lw_g (lw_at lw_m5 116 rfl) rfl
theorem q1209 : (Jvm.Cond.instanceMethod ({ cls := "java/util/HashMap", name := "newTreeNode", desc := "(ILjava/lang/Object;Ljava/lang/Object;Ljava/util/HashMap$Node;)Ljava/util/HashMap$TreeNode;" } : Jvm.MethodName)) ∈ lw_all := lw_g (lw_at lw_m5 130 rfl) rfl
theorem q1210 : (Jvm.Cond.selects "java/util/HashMap" ({ cls := "java/util/HashMap", name := "newTreeNode", desc := "(ILjava/lang/Object;Ljava/lang/Object;Ljava/util/HashMap$Node;)Ljava/util/HashMap$TreeNode;" } : Jvm.MethodName) ({ cls := "java/util/HashMap", name := "newTreeNode", desc := "(ILjava/lang/Object;Ljava/lang/Object;Ljava/util/HashMap$Node;)Ljava/util/HashMap$TreeNode;" } : Jvm.MethodName)) ∈ lw_all := lw_g (lw_at lw_m5 131 rfl) rfl
theorem q1211 : (Jvm.Cond.code ({ cls := "java/util/HashMap", name := "newTreeNode", desc := "(ILjava/lang/Object;Ljava/lang/Object;Ljava/util/HashMap$Node;)Ljava/util/HashMap$TreeNode;" } : Jvm.MethodName) prog_63_method_48_code (5 : Nat) (Option.some (Jvm.ClassFile.FieldType.object "java/util/HashMap$TreeNode"))) ∈ lw_all := lw_g (lw_at lw_m5 132 rfl) rfl
theorem q1213 : (Jvm.Cond.methodLink "java/util/HashMap" (378 : Nat) ({ cls := "java/util/HashMap$TreeNode", name := "<init>", desc := "(ILjava/lang/Object;Ljava/lang/Object;Ljava/util/HashMap$Node;)V" } : Jvm.MethodName)) ∈ lw_all := lw_g (lw_at lw_m5 134 rfl) rfl
theorem q1224 : (Jvm.Cond.fieldLink "java/util/HashMap" (219 : Nat) "java/util/HashMap$TreeNode" "prev" "Ljava/util/HashMap$TreeNode;") ∈ lw_all := lw_g (lw_at lw_m5 145 rfl) rfl
theorem q1245 : (Jvm.Cond.methodLink "java/util/HashMap" (194 : Nat) ({ cls := "java/util/HashMap", name := "treeifyBin", desc := "([Ljava/util/HashMap$Node;I)V" } : Jvm.MethodName)) ∈ lw_all := lw_g (lw_at lw_m5 166 rfl) rfl
theorem q1246 : (Jvm.Cond.instanceMethod ({ cls := "java/util/HashMap", name := "treeifyBin", desc := "([Ljava/util/HashMap$Node;I)V" } : Jvm.MethodName)) ∈ lw_all := lw_g (lw_at lw_m5 167 rfl) rfl
theorem q1247 : (Jvm.Cond.selects "java/util/HashMap" ({ cls := "java/util/HashMap", name := "treeifyBin", desc := "([Ljava/util/HashMap$Node;I)V" } : Jvm.MethodName) ({ cls := "java/util/HashMap", name := "treeifyBin", desc := "([Ljava/util/HashMap$Node;I)V" } : Jvm.MethodName)) ∈ lw_all := lw_g (lw_at lw_m5 168 rfl) rfl
theorem q1248 : (Jvm.Cond.code ({ cls := "java/util/HashMap", name := "treeifyBin", desc := "([Ljava/util/HashMap$Node;I)V" } : Jvm.MethodName) prog_63_method_18_code (9 : Nat) (Option.none : Option Jvm.ClassFile.FieldType)) ∈ lw_all := lw_g (lw_at lw_m5 169 rfl) rfl
theorem q1249 : (Jvm.Cond.methodLink "java/util/HashMap" (215 : Nat) ({ cls := "java/util/HashMap", name := "replacementTreeNode", desc := "(Ljava/util/HashMap$Node;Ljava/util/HashMap$Node;)Ljava/util/HashMap$TreeNode;" } : Jvm.MethodName)) ∈ lw_all := lw_g (lw_at lw_m5 170 rfl) rfl
theorem q1250 : (Jvm.Cond.instanceMethod ({ cls := "java/util/HashMap", name := "replacementTreeNode", desc := "(Ljava/util/HashMap$Node;Ljava/util/HashMap$Node;)Ljava/util/HashMap$TreeNode;" } : Jvm.MethodName)) ∈ lw_all := lw_g (lw_at lw_m5 171 rfl) rfl
theorem q1251 : (Jvm.Cond.selects "java/util/HashMap" ({ cls := "java/util/HashMap", name := "replacementTreeNode", desc := "(Ljava/util/HashMap$Node;Ljava/util/HashMap$Node;)Ljava/util/HashMap$TreeNode;" } : Jvm.MethodName) ({ cls := "java/util/HashMap", name := "replacementTreeNode", desc := "(Ljava/util/HashMap$Node;Ljava/util/HashMap$Node;)Ljava/util/HashMap$TreeNode;" } : Jvm.MethodName)) ∈ lw_all := lw_g (lw_at lw_m5 172 rfl) rfl
theorem q1252 : (Jvm.Cond.code ({ cls := "java/util/HashMap", name := "replacementTreeNode", desc := "(Ljava/util/HashMap$Node;Ljava/util/HashMap$Node;)Ljava/util/HashMap$TreeNode;" } : Jvm.MethodName) prog_63_method_49_code (3 : Nat) (Option.some (Jvm.ClassFile.FieldType.object "java/util/HashMap$TreeNode"))) ∈ lw_all := lw_g (lw_at lw_m5 173 rfl) rfl
theorem q1253 : (Jvm.Cond.methodLink "java/util/HashMap" (224 : Nat) ({ cls := "java/util/HashMap$TreeNode", name := "treeify", desc := "([Ljava/util/HashMap$Node;)V" } : Jvm.MethodName)) ∈ lw_all := lw_g (lw_at lw_m5 174 rfl) rfl
theorem q1254 : (Jvm.Cond.methodLink "java/util/HashMap" (198 : Nat) ({ cls := "java/util/HashMap", name := "afterNodeAccess", desc := "(Ljava/util/HashMap$Node;)V" } : Jvm.MethodName)) ∈ lw_all := lw_g (lw_at lw_m5 175 rfl) rfl
theorem q1255 : (Jvm.Cond.instanceMethod ({ cls := "java/util/HashMap", name := "afterNodeAccess", desc := "(Ljava/util/HashMap$Node;)V" } : Jvm.MethodName)) ∈ lw_all := lw_g (lw_at lw_m5 176 rfl) rfl
theorem q1256 : (Jvm.Cond.selects "java/util/HashMap" ({ cls := "java/util/HashMap", name := "afterNodeAccess", desc := "(Ljava/util/HashMap$Node;)V" } : Jvm.MethodName) ({ cls := "java/util/HashMap", name := "afterNodeAccess", desc := "(Ljava/util/HashMap$Node;)V" } : Jvm.MethodName)) ∈ lw_all := lw_g (lw_at lw_m5 177 rfl) rfl
theorem q1257 : (Jvm.Cond.code ({ cls := "java/util/HashMap", name := "afterNodeAccess", desc := "(Ljava/util/HashMap$Node;)V" } : Jvm.MethodName) prog_63_method_51_code (2 : Nat) (Option.none : Option Jvm.ClassFile.FieldType)) ∈ lw_all := lw_g (lw_at lw_m5 178 rfl) rfl
theorem q1258 : (Jvm.Cond.methodLink "java/util/HashMap" (205 : Nat) ({ cls := "java/util/HashMap", name := "afterNodeInsertion", desc := "(Z)V" } : Jvm.MethodName)) ∈ lw_all := lw_g (lw_at lw_m5 179 rfl) rfl
theorem q1259 : (Jvm.Cond.instanceMethod ({ cls := "java/util/HashMap", name := "afterNodeInsertion", desc := "(Z)V" } : Jvm.MethodName)) ∈ lw_all := lw_g (lw_at lw_m5 180 rfl) rfl
theorem q1260 : (Jvm.Cond.selects "java/util/HashMap" ({ cls := "java/util/HashMap", name := "afterNodeInsertion", desc := "(Z)V" } : Jvm.MethodName) ({ cls := "java/util/HashMap", name := "afterNodeInsertion", desc := "(Z)V" } : Jvm.MethodName)) ∈ lw_all := lw_g (lw_at lw_m5 181 rfl) rfl
theorem q1261 : (Jvm.Cond.code ({ cls := "java/util/HashMap", name := "afterNodeInsertion", desc := "(Z)V" } : Jvm.MethodName) prog_63_method_52_code (2 : Nat) (Option.none : Option Jvm.ClassFile.FieldType)) ∈ lw_all := lw_g (lw_at lw_m5 182 rfl) rfl
theorem q1406 : (Jvm.Cond.selects "java/util/HashMap" ({ cls := "java/util/Map", name := "get", desc := "(Ljava/lang/Object;)Ljava/lang/Object;" } : Jvm.MethodName) ({ cls := "java/util/HashMap", name := "get", desc := "(Ljava/lang/Object;)Ljava/lang/Object;" } : Jvm.MethodName)) ∈ lw_all := lw_g (lw_at lw_m6 87 rfl) rfl
theorem q1407 : (Jvm.Cond.unhidden "java/util/HashMap" "get" "(Ljava/lang/Object;)Ljava/lang/Object;") ∈ lw_tbl := lw_at lw_m6 88 rfl
theorem q1408 : (Jvm.Cond.instanceMethod ({ cls := "java/util/HashMap", name := "get", desc := "(Ljava/lang/Object;)Ljava/lang/Object;" } : Jvm.MethodName)) ∈ lw_all := lw_g (lw_at lw_m6 89 rfl) rfl
theorem q1409 : (Jvm.Cond.publicMethod ({ cls := "java/util/HashMap", name := "get", desc := "(Ljava/lang/Object;)Ljava/lang/Object;" } : Jvm.MethodName)) ∈ lw_tbl := lw_at lw_m6 90 rfl
theorem q1410 : (Jvm.Cond.code ({ cls := "java/util/HashMap", name := "get", desc := "(Ljava/lang/Object;)Ljava/lang/Object;" } : Jvm.MethodName) prog_63_method_12_code (3 : Nat) (Option.some (Jvm.ClassFile.FieldType.object "java/lang/Object"))) ∈ lw_all := lw_g (lw_at lw_m6 91 rfl) rfl
theorem q1411 : (Jvm.Cond.methodLink "java/util/HashMap" (158 : Nat) ({ cls := "java/util/HashMap", name := "getNode", desc := "(Ljava/lang/Object;)Ljava/util/HashMap$Node;" } : Jvm.MethodName)) ∈ lw_all := lw_g (lw_at lw_m6 92 rfl) rfl
theorem q1412 : (Jvm.Cond.instanceMethod ({ cls := "java/util/HashMap", name := "getNode", desc := "(Ljava/lang/Object;)Ljava/util/HashMap$Node;" } : Jvm.MethodName)) ∈ lw_all := lw_g (lw_at lw_m6 93 rfl) rfl
theorem q1413 : (Jvm.Cond.selects "java/util/HashMap" ({ cls := "java/util/HashMap", name := "getNode", desc := "(Ljava/lang/Object;)Ljava/util/HashMap$Node;" } : Jvm.MethodName) ({ cls := "java/util/HashMap", name := "getNode", desc := "(Ljava/lang/Object;)Ljava/util/HashMap$Node;" } : Jvm.MethodName)) ∈ lw_all := lw_g (lw_at lw_m6 94 rfl) rfl
theorem q1414 : (Jvm.Cond.code ({ cls := "java/util/HashMap", name := "getNode", desc := "(Ljava/lang/Object;)Ljava/util/HashMap$Node;" } : Jvm.MethodName) prog_63_method_13_code (8 : Nat) (Option.some (Jvm.ClassFile.FieldType.object "java/util/HashMap$Node"))) ∈ lw_all := lw_g (lw_at lw_m6 95 rfl) rfl
theorem q1415 : (Jvm.Cond.methodLink "java/util/HashMap" (182 : Nat) ({ cls := "java/util/HashMap$TreeNode", name := "getTreeNode", desc := "(ILjava/lang/Object;)Ljava/util/HashMap$TreeNode;" } : Jvm.MethodName)) ∈ lw_all := lw_g (lw_at lw_m6 96 rfl) rfl
theorem q1910 : (Jvm.Cond.selects "java/util/HashMap" ({ cls := "java/util/Map", name := "remove", desc := "(Ljava/lang/Object;)Ljava/lang/Object;" } : Jvm.MethodName) ({ cls := "java/util/HashMap", name := "remove", desc := "(Ljava/lang/Object;)Ljava/lang/Object;" } : Jvm.MethodName)) ∈ lw_all := lw_g (lw_at lw_m8 111 rfl) rfl
theorem q1911 : (Jvm.Cond.unhidden "java/util/HashMap" "remove" "(Ljava/lang/Object;)Ljava/lang/Object;") ∈ lw_tbl := lw_at lw_m8 112 rfl
theorem q1912 : (Jvm.Cond.instanceMethod ({ cls := "java/util/HashMap", name := "remove", desc := "(Ljava/lang/Object;)Ljava/lang/Object;" } : Jvm.MethodName)) ∈ lw_all := lw_g (lw_at lw_m8 113 rfl) rfl
theorem q1913 : (Jvm.Cond.publicMethod ({ cls := "java/util/HashMap", name := "remove", desc := "(Ljava/lang/Object;)Ljava/lang/Object;" } : Jvm.MethodName)) ∈ lw_tbl := lw_at lw_m8 114 rfl
theorem q1914 : (Jvm.Cond.code ({ cls := "java/util/HashMap", name := "remove", desc := "(Ljava/lang/Object;)Ljava/lang/Object;" } : Jvm.MethodName) prog_63_method_20_code (3 : Nat) (Option.some (Jvm.ClassFile.FieldType.object "java/lang/Object"))) ∈ lw_all := lw_g (lw_at lw_m8 115 rfl) rfl
theorem q1915 : (Jvm.Cond.methodLink "java/util/HashMap" (228 : Nat) ({ cls := "java/util/HashMap", name := "removeNode", desc := "(ILjava/lang/Object;Ljava/lang/Object;ZZ)Ljava/util/HashMap$Node;" } : Jvm.MethodName)) ∈ lw_all := lw_g (lw_at lw_m8 116 rfl) rfl
theorem q1916 : (Jvm.Cond.instanceMethod ({ cls := "java/util/HashMap", name := "removeNode", desc := "(ILjava/lang/Object;Ljava/lang/Object;ZZ)Ljava/util/HashMap$Node;" } : Jvm.MethodName)) ∈ lw_all := lw_g (lw_at lw_m8 117 rfl) rfl
theorem q1917 : (Jvm.Cond.selects "java/util/HashMap" ({ cls := "java/util/HashMap", name := "removeNode", desc := "(ILjava/lang/Object;Ljava/lang/Object;ZZ)Ljava/util/HashMap$Node;" } : Jvm.MethodName) ({ cls := "java/util/HashMap", name := "removeNode", desc := "(ILjava/lang/Object;Ljava/lang/Object;ZZ)Ljava/util/HashMap$Node;" } : Jvm.MethodName)) ∈ lw_all := lw_g (lw_at lw_m8 118 rfl) rfl
theorem q1918 : (Jvm.Cond.code ({ cls := "java/util/HashMap", name := "removeNode", desc := "(ILjava/lang/Object;Ljava/lang/Object;ZZ)Ljava/util/HashMap$Node;" } : Jvm.MethodName) prog_63_method_21_code (14 : Nat) (Option.some (Jvm.ClassFile.FieldType.object "java/util/HashMap$Node"))) ∈ lw_all := lw_g (lw_at lw_m8 119 rfl) rfl
theorem q1919 : (Jvm.Cond.methodLink "java/util/HashMap" (232 : Nat) ({ cls := "java/util/HashMap$TreeNode", name := "removeTreeNode", desc := "(Ljava/util/HashMap;[Ljava/util/HashMap$Node;Z)V" } : Jvm.MethodName)) ∈ lw_all := lw_g (lw_at lw_m8 120 rfl) rfl
theorem q1926 : (Jvm.Cond.methodLink "java/util/HashMap" (236 : Nat) ({ cls := "java/util/HashMap", name := "afterNodeRemoval", desc := "(Ljava/util/HashMap$Node;)V" } : Jvm.MethodName)) ∈ lw_all := lw_g (lw_at lw_m8 127 rfl) rfl
theorem q1927 : (Jvm.Cond.instanceMethod ({ cls := "java/util/HashMap", name := "afterNodeRemoval", desc := "(Ljava/util/HashMap$Node;)V" } : Jvm.MethodName)) ∈ lw_all := lw_g (lw_at lw_m8 128 rfl) rfl
theorem q1928 : (Jvm.Cond.selects "java/util/HashMap" ({ cls := "java/util/HashMap", name := "afterNodeRemoval", desc := "(Ljava/util/HashMap$Node;)V" } : Jvm.MethodName) ({ cls := "java/util/HashMap", name := "afterNodeRemoval", desc := "(Ljava/util/HashMap$Node;)V" } : Jvm.MethodName)) ∈ lw_all := lw_g (lw_at lw_m8 129 rfl) rfl
theorem q1929 : (Jvm.Cond.code ({ cls := "java/util/HashMap", name := "afterNodeRemoval", desc := "(Ljava/util/HashMap$Node;)V" } : Jvm.MethodName) prog_63_method_53_code (2 : Nat) (Option.none : Option Jvm.ClassFile.FieldType)) ∈ lw_all := lw_g (lw_at lw_m8 130 rfl) rfl
theorem q3440 : (Jvm.Cond.castable "java/util/HashMap" "java/lang/Object") ∈ lw_tbl := lw_at lw_m14 201 rfl
theorem in_J19 : ∀ w ∈ wsJ190, w ∈ lw_all := lw_in wsJ190 [577, 579, 565, 567, 569, 571, 573, 575] (by decide +kernel) (by decide +kernel)
/-! java/util/HashMap$Node -/
set_option maxRecDepth 100000
def RJ20 : String := "java/util/HashMap$Node"
def TJ20 : u_T := fun k => match k with
  | 0 => ("java/util/HashMap$Node", "hash", "I", true)
  | 1 => ("java/util/HashMap$Node", "key", "Ljava/lang/Object;", true)
  | 2 => ("java/util/HashMap$Node", "value", "Ljava/lang/Object;", false)
  | _ => ("java/util/HashMap$Node", "next", "Ljava/util/HashMap$Node;", false)
def tyJ20 : Nat → FieldType := fun k => match k with
  | 0 => .int
  | 1 => .object "java/lang/Object"
  | 2 => .object "java/lang/Object"
  | _ => .object "java/util/HashMap$Node"
abbrev wsJ200 : List Cond := u_ws RJ20 TJ20 4
theorem nmJ20 : ∀ a, a < 4 → ∀ b, b < 4 → a ≠ b → (TJ20 a).2.1 ≠ (TJ20 b).2.1 := by decide +kernel
theorem tyJ20_ok : ∀ k, k < 4 → parseFieldDescriptor (TJ20 k).2.2.1 = some (tyJ20 k) := by decide +kernel
abbrev cJ20_init : ByteArray := prog_64_method_1_code
def yJ20_init : MethodName := ⟨RJ20, "<init>", "(ILjava/lang/Object;Ljava/lang/Object;Ljava/util/HashMap$Node;)V"⟩
def dkwJ20_init_1 : List UInt8 := [181, 0, 20, 177]
abbrev dktJ20_init_1 : List UInt8 := dkwJ20_init_1 ++ []
def dkwJ20_init_0 : List UInt8 := [42, 183, 0, 1, 42, 27, 181, 0, 7, 42, 44, 181, 0, 13, 42, 45, 181, 0, 17, 42, 25, 4]
abbrev dktJ20_init_0 : List UInt8 := dkwJ20_init_0 ++ dktJ20_init_1
theorem dksJ20_init_0 : cJ20_init.data.toList.drop 0 = dktJ20_init_0 := by decide +kernel
theorem dksJ20_init_1 : cJ20_init.data.toList.drop 22 = dktJ20_init_1 := dk_seg dksJ20_init_0 22 rfl rfl
theorem dJ20_init_0 : decode cJ20_init 0 = .ok (.aload_n 0, 1) := dk_42 (dk_at dksJ20_init_0 0 rfl rfl)
theorem dJ20_init_1 : decode cJ20_init 1 = .ok (.invokespecial 1, 3) := dk_183 0 1 (dk_at dksJ20_init_0 1 rfl rfl)
theorem dJ20_init_4 : decode cJ20_init 4 = .ok (.aload_n 0, 1) := dk_42 (dk_at dksJ20_init_0 4 rfl rfl)
theorem dJ20_init_5 : decode cJ20_init 5 = .ok (.iload_n 1, 1) := dk_27 (dk_at dksJ20_init_0 5 rfl rfl)
theorem dJ20_init_6 : decode cJ20_init 6 = .ok (.putfield 7, 3) := dk_181 0 7 (dk_at dksJ20_init_0 6 rfl rfl)
theorem dJ20_init_9 : decode cJ20_init 9 = .ok (.aload_n 0, 1) := dk_42 (dk_at dksJ20_init_0 9 rfl rfl)
theorem dJ20_init_10 : decode cJ20_init 10 = .ok (.aload_n 2, 1) := dk_44 (dk_at dksJ20_init_0 10 rfl rfl)
theorem dJ20_init_11 : decode cJ20_init 11 = .ok (.putfield 13, 3) := dk_181 0 13 (dk_at dksJ20_init_0 11 rfl rfl)
theorem dJ20_init_14 : decode cJ20_init 14 = .ok (.aload_n 0, 1) := dk_42 (dk_at dksJ20_init_0 14 rfl rfl)
theorem dJ20_init_15 : decode cJ20_init 15 = .ok (.aload_n 3, 1) := dk_45 (dk_at dksJ20_init_0 15 rfl rfl)
theorem dJ20_init_16 : decode cJ20_init 16 = .ok (.putfield 17, 3) := dk_181 0 17 (dk_at dksJ20_init_0 16 rfl rfl)
theorem dJ20_init_19 : decode cJ20_init 19 = .ok (.aload_n 0, 1) := dk_42 (dk_at dksJ20_init_0 19 rfl rfl)
theorem dJ20_init_20 : decode cJ20_init 20 = .ok (.aload 4, 2) := dk_25 4 (dk_at dksJ20_init_0 20 rfl rfl)
theorem dJ20_init_22 : decode cJ20_init 22 = .ok (.putfield 20, 3) := dk_181 0 20 (dk_at dksJ20_init_1 0 rfl rfl)
theorem dJ20_init_25 : decode cJ20_init 25 = .ok (.return_, 1) := dk_177 (dk_at dksJ20_init_1 3 rfl rfl)
theorem q146 : (Jvm.Cond.initialized "java/util/HashMap$Node") ∈ lw_all := lw_g (lw_at lw_m1 27 rfl) rfl
theorem q723 : (Jvm.Cond.selects "java/util/HashMap$Node" ({ cls := "java/lang/Object", name := "getClass", desc := "()Ljava/lang/Class;" } : Jvm.MethodName) ({ cls := "java/lang/Object", name := "getClass", desc := "()Ljava/lang/Class;" } : Jvm.MethodName)) ∈ lw_all := lw_g (lw_at lw_m3 124 rfl) rfl
theorem q872 : (Jvm.Cond.instantiable "java/util/HashMap$Node" (4 : Nat)) ∈ lw_all := lw_g (lw_at lw_m4 33 rfl) rfl
theorem q874 : (Jvm.Cond.instanceMethod ({ cls := "java/util/HashMap$Node", name := "<init>", desc := "(ILjava/lang/Object;Ljava/lang/Object;Ljava/util/HashMap$Node;)V" } : Jvm.MethodName)) ∈ lw_all := lw_g (lw_at lw_m4 35 rfl) rfl
theorem q875 : (Jvm.Cond.code ({ cls := "java/util/HashMap$Node", name := "<init>", desc := "(ILjava/lang/Object;Ljava/lang/Object;Ljava/util/HashMap$Node;)V" } : Jvm.MethodName) prog_64_method_1_code (5 : Nat) (Option.none : Option Jvm.ClassFile.FieldType)) ∈ lw_all := lw_g (lw_at lw_m4 36 rfl) rfl
theorem q876 : (Jvm.Cond.methodLink "java/util/HashMap$Node" (1 : Nat) ({ cls := "java/lang/Object", name := "<init>", desc := "()V" } : Jvm.MethodName)) ∈ lw_all := lw_g (lw_at lw_m4 37 rfl) rfl
theorem q877 : (Jvm.Cond.fieldLink "java/util/HashMap$Node" (7 : Nat) "java/util/HashMap$Node" "hash" "I") ∈ lw_all := lw_g (lw_at lw_m4 38 rfl) rfl
theorem q881 : (Jvm.Cond.fieldLink "java/util/HashMap$Node" (13 : Nat) "java/util/HashMap$Node" "key" "Ljava/lang/Object;") ∈ lw_all := lw_g (lw_at lw_m4 42 rfl) rfl
theorem q885 : (Jvm.Cond.fieldLink "java/util/HashMap$Node" (17 : Nat) "java/util/HashMap$Node" "value" "Ljava/lang/Object;") ∈ lw_all := lw_g (lw_at lw_m4 46 rfl) rfl
theorem q887 : (Jvm.Cond.fieldLink "java/util/HashMap$Node" (20 : Nat) "java/util/HashMap$Node" "next" "Ljava/util/HashMap$Node;") ∈ lw_all := lw_g (lw_at lw_m4 48 rfl) rfl
theorem q893 : (Jvm.Cond.laysFinal "java/util/HashMap$Node" "java/util/HashMap$Node" "hash" "I") ∈ lw_all := lw_g (lw_at lw_m4 54 rfl) rfl
theorem q894 : (Jvm.Cond.soleField "java/util/HashMap$Node" "hash") ∈ lw_all := lw_g (lw_at lw_m4 55 rfl) rfl
theorem q895 : (Jvm.Cond.laysFinal "java/util/HashMap$Node" "java/util/HashMap$Node" "key" "Ljava/lang/Object;") ∈ lw_all := lw_g (lw_at lw_m4 56 rfl) rfl
theorem q896 : (Jvm.Cond.soleField "java/util/HashMap$Node" "key") ∈ lw_all := lw_g (lw_at lw_m4 57 rfl) rfl
theorem q897 : (Jvm.Cond.lays "java/util/HashMap$Node" "java/util/HashMap$Node" "value" "Ljava/lang/Object;") ∈ lw_all := lw_g (lw_at lw_m4 58 rfl) rfl
theorem q898 : (Jvm.Cond.soleField "java/util/HashMap$Node" "value") ∈ lw_all := lw_g (lw_at lw_m4 59 rfl) rfl
theorem q899 : (Jvm.Cond.lays "java/util/HashMap$Node" "java/util/HashMap$Node" "next" "Ljava/util/HashMap$Node;") ∈ lw_all := lw_g (lw_at lw_m4 60 rfl) rfl
theorem q900 : (Jvm.Cond.soleField "java/util/HashMap$Node" "next") ∈ lw_all := lw_g (lw_at lw_m4 61 rfl) rfl
theorem q901 : (Jvm.Cond.superclass "java/util/HashMap$Node" "java/lang/Object") ∈ lw_all := lw_g (lw_at lw_m4 62 rfl) rfl
theorem q3431 : (Jvm.Cond.castable "java/util/HashMap$Node" "java/lang/Object") ∈ lw_tbl := lw_at lw_m14 192 rfl
theorem in_J20 : ∀ w ∈ wsJ200, w ∈ lw_all := lw_in wsJ200 [893, 895, 897, 899] (by decide +kernel) (by decide +kernel)
/-! java/lang/Long -/
set_option maxRecDepth 100000
def RJ22 : String := "java/lang/Long"
abbrev cJ22_numberOfLeadingZeros : ByteArray := prog_40_method_48_code
def yJ22_numberOfLeadingZeros : MethodName := ⟨RJ22, "numberOfLeadingZeros", "(J)I"⟩
def dkwJ22_numberOfLeadingZeros_1 : List UInt8 := [184, 1, 52, 172]
abbrev dktJ22_numberOfLeadingZeros_1 : List UInt8 := dkwJ22_numberOfLeadingZeros_1 ++ []
def dkwJ22_numberOfLeadingZeros_0 : List UInt8 := [30, 16, 32, 125, 136, 61, 28, 154, 0, 14, 16, 32, 30, 136, 184, 1, 52, 96, 167, 0, 7, 28]
abbrev dktJ22_numberOfLeadingZeros_0 : List UInt8 := dkwJ22_numberOfLeadingZeros_0 ++ dktJ22_numberOfLeadingZeros_1
theorem dksJ22_numberOfLeadingZeros_0 : cJ22_numberOfLeadingZeros.data.toList.drop 0 = dktJ22_numberOfLeadingZeros_0 := by decide +kernel
theorem dksJ22_numberOfLeadingZeros_1 : cJ22_numberOfLeadingZeros.data.toList.drop 22 = dktJ22_numberOfLeadingZeros_1 := dk_seg dksJ22_numberOfLeadingZeros_0 22 rfl rfl
theorem dJ22_numberOfLeadingZeros_0 : decode cJ22_numberOfLeadingZeros 0 = .ok (.lload_n 0, 1) := dk_30 (dk_at dksJ22_numberOfLeadingZeros_0 0 rfl rfl)
theorem dJ22_numberOfLeadingZeros_1 : decode cJ22_numberOfLeadingZeros 1 = .ok (.bipush 32, 2) := dk_16 32 (dk_at dksJ22_numberOfLeadingZeros_0 1 rfl rfl)
theorem dJ22_numberOfLeadingZeros_3 : decode cJ22_numberOfLeadingZeros 3 = .ok (.lushr, 1) := dk_125 (dk_at dksJ22_numberOfLeadingZeros_0 3 rfl rfl)
theorem dJ22_numberOfLeadingZeros_4 : decode cJ22_numberOfLeadingZeros 4 = .ok (.l2i, 1) := dk_136 (dk_at dksJ22_numberOfLeadingZeros_0 4 rfl rfl)
theorem dJ22_numberOfLeadingZeros_5 : decode cJ22_numberOfLeadingZeros 5 = .ok (.istore_n 2, 1) := dk_61 (dk_at dksJ22_numberOfLeadingZeros_0 5 rfl rfl)
theorem dJ22_numberOfLeadingZeros_6 : decode cJ22_numberOfLeadingZeros 6 = .ok (.iload_n 2, 1) := dk_28 (dk_at dksJ22_numberOfLeadingZeros_0 6 rfl rfl)
theorem dJ22_numberOfLeadingZeros_7 : decode cJ22_numberOfLeadingZeros 7 = .ok (.ifCond .ne 14, 3) := dk_154 0 14 (dk_at dksJ22_numberOfLeadingZeros_0 7 rfl rfl)
theorem dJ22_numberOfLeadingZeros_10 : decode cJ22_numberOfLeadingZeros 10 = .ok (.bipush 32, 2) := dk_16 32 (dk_at dksJ22_numberOfLeadingZeros_0 10 rfl rfl)
theorem dJ22_numberOfLeadingZeros_12 : decode cJ22_numberOfLeadingZeros 12 = .ok (.lload_n 0, 1) := dk_30 (dk_at dksJ22_numberOfLeadingZeros_0 12 rfl rfl)
theorem dJ22_numberOfLeadingZeros_13 : decode cJ22_numberOfLeadingZeros 13 = .ok (.l2i, 1) := dk_136 (dk_at dksJ22_numberOfLeadingZeros_0 13 rfl rfl)
theorem dJ22_numberOfLeadingZeros_14 : decode cJ22_numberOfLeadingZeros 14 = .ok (.invokestatic 308, 3) := dk_184 1 52 (dk_at dksJ22_numberOfLeadingZeros_0 14 rfl rfl)
theorem dJ22_numberOfLeadingZeros_17 : decode cJ22_numberOfLeadingZeros 17 = .ok (.iadd, 1) := dk_96 (dk_at dksJ22_numberOfLeadingZeros_0 17 rfl rfl)
theorem dJ22_numberOfLeadingZeros_18 : decode cJ22_numberOfLeadingZeros 18 = .ok (.goto 7, 3) := dk_167 0 7 (dk_at dksJ22_numberOfLeadingZeros_0 18 rfl rfl)
theorem dJ22_numberOfLeadingZeros_21 : decode cJ22_numberOfLeadingZeros 21 = .ok (.iload_n 2, 1) := dk_28 (dk_at dksJ22_numberOfLeadingZeros_0 21 rfl rfl)
theorem dJ22_numberOfLeadingZeros_22 : decode cJ22_numberOfLeadingZeros 22 = .ok (.invokestatic 308, 3) := dk_184 1 52 (dk_at dksJ22_numberOfLeadingZeros_1 0 rfl rfl)
theorem dJ22_numberOfLeadingZeros_25 : decode cJ22_numberOfLeadingZeros 25 = .ok (.ireturn, 1) := dk_172 (dk_at dksJ22_numberOfLeadingZeros_1 3 rfl rfl)
abbrev cJ22_numberOfTrailingZeros : ByteArray := prog_40_method_49_code
def yJ22_numberOfTrailingZeros : MethodName := ⟨RJ22, "numberOfTrailingZeros", "(J)I"⟩
def dkwJ22_numberOfTrailingZeros_1 : List UInt8 := [184, 1, 55, 172]
abbrev dktJ22_numberOfTrailingZeros_1 : List UInt8 := dkwJ22_numberOfTrailingZeros_1 ++ []
def dkwJ22_numberOfTrailingZeros_0 : List UInt8 := [30, 136, 61, 28, 154, 0, 17, 16, 32, 30, 16, 32, 125, 136, 184, 1, 55, 96, 167, 0, 7, 28]
abbrev dktJ22_numberOfTrailingZeros_0 : List UInt8 := dkwJ22_numberOfTrailingZeros_0 ++ dktJ22_numberOfTrailingZeros_1
theorem dksJ22_numberOfTrailingZeros_0 : cJ22_numberOfTrailingZeros.data.toList.drop 0 = dktJ22_numberOfTrailingZeros_0 := by decide +kernel
theorem dksJ22_numberOfTrailingZeros_1 : cJ22_numberOfTrailingZeros.data.toList.drop 22 = dktJ22_numberOfTrailingZeros_1 := dk_seg dksJ22_numberOfTrailingZeros_0 22 rfl rfl
theorem dJ22_numberOfTrailingZeros_0 : decode cJ22_numberOfTrailingZeros 0 = .ok (.lload_n 0, 1) := dk_30 (dk_at dksJ22_numberOfTrailingZeros_0 0 rfl rfl)
theorem dJ22_numberOfTrailingZeros_1 : decode cJ22_numberOfTrailingZeros 1 = .ok (.l2i, 1) := dk_136 (dk_at dksJ22_numberOfTrailingZeros_0 1 rfl rfl)
theorem dJ22_numberOfTrailingZeros_2 : decode cJ22_numberOfTrailingZeros 2 = .ok (.istore_n 2, 1) := dk_61 (dk_at dksJ22_numberOfTrailingZeros_0 2 rfl rfl)
theorem dJ22_numberOfTrailingZeros_3 : decode cJ22_numberOfTrailingZeros 3 = .ok (.iload_n 2, 1) := dk_28 (dk_at dksJ22_numberOfTrailingZeros_0 3 rfl rfl)
theorem dJ22_numberOfTrailingZeros_4 : decode cJ22_numberOfTrailingZeros 4 = .ok (.ifCond .ne 17, 3) := dk_154 0 17 (dk_at dksJ22_numberOfTrailingZeros_0 4 rfl rfl)
theorem dJ22_numberOfTrailingZeros_7 : decode cJ22_numberOfTrailingZeros 7 = .ok (.bipush 32, 2) := dk_16 32 (dk_at dksJ22_numberOfTrailingZeros_0 7 rfl rfl)
theorem dJ22_numberOfTrailingZeros_9 : decode cJ22_numberOfTrailingZeros 9 = .ok (.lload_n 0, 1) := dk_30 (dk_at dksJ22_numberOfTrailingZeros_0 9 rfl rfl)
theorem dJ22_numberOfTrailingZeros_10 : decode cJ22_numberOfTrailingZeros 10 = .ok (.bipush 32, 2) := dk_16 32 (dk_at dksJ22_numberOfTrailingZeros_0 10 rfl rfl)
theorem dJ22_numberOfTrailingZeros_12 : decode cJ22_numberOfTrailingZeros 12 = .ok (.lushr, 1) := dk_125 (dk_at dksJ22_numberOfTrailingZeros_0 12 rfl rfl)
theorem dJ22_numberOfTrailingZeros_13 : decode cJ22_numberOfTrailingZeros 13 = .ok (.l2i, 1) := dk_136 (dk_at dksJ22_numberOfTrailingZeros_0 13 rfl rfl)
theorem dJ22_numberOfTrailingZeros_14 : decode cJ22_numberOfTrailingZeros 14 = .ok (.invokestatic 311, 3) := dk_184 1 55 (dk_at dksJ22_numberOfTrailingZeros_0 14 rfl rfl)
theorem dJ22_numberOfTrailingZeros_17 : decode cJ22_numberOfTrailingZeros 17 = .ok (.iadd, 1) := dk_96 (dk_at dksJ22_numberOfTrailingZeros_0 17 rfl rfl)
theorem dJ22_numberOfTrailingZeros_18 : decode cJ22_numberOfTrailingZeros 18 = .ok (.goto 7, 3) := dk_167 0 7 (dk_at dksJ22_numberOfTrailingZeros_0 18 rfl rfl)
theorem dJ22_numberOfTrailingZeros_21 : decode cJ22_numberOfTrailingZeros 21 = .ok (.iload_n 2, 1) := dk_28 (dk_at dksJ22_numberOfTrailingZeros_0 21 rfl rfl)
theorem dJ22_numberOfTrailingZeros_22 : decode cJ22_numberOfTrailingZeros 22 = .ok (.invokestatic 311, 3) := dk_184 1 55 (dk_at dksJ22_numberOfTrailingZeros_1 0 rfl rfl)
theorem dJ22_numberOfTrailingZeros_25 : decode cJ22_numberOfTrailingZeros 25 = .ok (.ireturn, 1) := dk_172 (dk_at dksJ22_numberOfTrailingZeros_1 3 rfl rfl)
theorem q149 : (Jvm.Cond.initialized "java/lang/Long") ∈ lw_all := lw_g (lw_at lw_m1 30 rfl) rfl
theorem q1044 : (Jvm.Cond.static ({ cls := "java/lang/Long", name := "numberOfLeadingZeros", desc := "(J)I" } : Jvm.MethodName)) ∈ lw_all := lw_g (lw_at lw_m4 205 rfl) rfl
theorem q1045 : (Jvm.Cond.code ({ cls := "java/lang/Long", name := "numberOfLeadingZeros", desc := "(J)I" } : Jvm.MethodName) prog_40_method_48_code (3 : Nat) (Option.some Jvm.ClassFile.FieldType.int)) ∈ lw_all := lw_g (lw_at lw_m4 206 rfl) rfl
theorem q1046 : (Jvm.Cond.methodLink "java/lang/Long" (308 : Nat) ({ cls := "java/lang/Integer", name := "numberOfLeadingZeros", desc := "(I)I" } : Jvm.MethodName)) ∈ lw_all := lw_g (lw_at lw_m4 207 rfl) rfl
theorem q1053 : (Jvm.Cond.static ({ cls := "java/lang/Long", name := "numberOfTrailingZeros", desc := "(J)I" } : Jvm.MethodName)) ∈ lw_all := lw_g (lw_at lw_m4 214 rfl) rfl
theorem q1054 : (Jvm.Cond.code ({ cls := "java/lang/Long", name := "numberOfTrailingZeros", desc := "(J)I" } : Jvm.MethodName) prog_40_method_49_code (3 : Nat) (Option.some Jvm.ClassFile.FieldType.int)) ∈ lw_all := lw_g (lw_at lw_m4 215 rfl) rfl
theorem q1055 : (Jvm.Cond.methodLink "java/lang/Long" (311 : Nat) ({ cls := "java/lang/Integer", name := "numberOfTrailingZeros", desc := "(I)I" } : Jvm.MethodName)) ∈ lw_all := lw_g (lw_at lw_m4 216 rfl) rfl
/-! java/util/ArrayList$Itr -/
set_option maxRecDepth 100000
def RJ25 : String := "java/util/ArrayList$Itr"
def TJ25 : u_T := fun k => match k with
  | 0 => ("java/util/ArrayList$Itr", "cursor", "I", false)
  | 1 => ("java/util/ArrayList$Itr", "lastRet", "I", false)
  | 2 => ("java/util/ArrayList$Itr", "expectedModCount", "I", false)
  | _ => ("java/util/ArrayList$Itr", "this$0", "Ljava/util/ArrayList;", true)
def tyJ25 : Nat → FieldType := fun k => match k with
  | 0 => .int
  | 1 => .int
  | 2 => .int
  | _ => .object "java/util/ArrayList"
abbrev wsJ250 : List Cond := u_ws RJ25 TJ25 4
theorem nmJ25 : ∀ a, a < 4 → ∀ b, b < 4 → a ≠ b → (TJ25 a).2.1 ≠ (TJ25 b).2.1 := by decide +kernel
theorem tyJ25_ok : ∀ k, k < 4 → parseFieldDescriptor (TJ25 k).2.2.1 = some (tyJ25 k) := by decide +kernel
abbrev cJ25_init : ByteArray := prog_58_method_1_code
def yJ25_init : MethodName := ⟨RJ25, "<init>", "(Ljava/util/ArrayList;)V"⟩
def dkwJ25_init_1 : List UInt8 := [181, 0, 22, 177]
abbrev dktJ25_init_1 : List UInt8 := dkwJ25_init_1 ++ []
def dkwJ25_init_0 : List UInt8 := [42, 43, 181, 0, 1, 42, 183, 0, 7, 42, 2, 181, 0, 13, 42, 42, 180, 0, 1, 180, 0, 17]
abbrev dktJ25_init_0 : List UInt8 := dkwJ25_init_0 ++ dktJ25_init_1
theorem dksJ25_init_0 : cJ25_init.data.toList.drop 0 = dktJ25_init_0 := by decide +kernel
theorem dksJ25_init_1 : cJ25_init.data.toList.drop 22 = dktJ25_init_1 := dk_seg dksJ25_init_0 22 rfl rfl
theorem dJ25_init_0 : decode cJ25_init 0 = .ok (.aload_n 0, 1) := dk_42 (dk_at dksJ25_init_0 0 rfl rfl)
theorem dJ25_init_1 : decode cJ25_init 1 = .ok (.aload_n 1, 1) := dk_43 (dk_at dksJ25_init_0 1 rfl rfl)
theorem dJ25_init_2 : decode cJ25_init 2 = .ok (.putfield 1, 3) := dk_181 0 1 (dk_at dksJ25_init_0 2 rfl rfl)
theorem dJ25_init_5 : decode cJ25_init 5 = .ok (.aload_n 0, 1) := dk_42 (dk_at dksJ25_init_0 5 rfl rfl)
theorem dJ25_init_6 : decode cJ25_init 6 = .ok (.invokespecial 7, 3) := dk_183 0 7 (dk_at dksJ25_init_0 6 rfl rfl)
theorem dJ25_init_9 : decode cJ25_init 9 = .ok (.aload_n 0, 1) := dk_42 (dk_at dksJ25_init_0 9 rfl rfl)
theorem dJ25_init_10 : decode cJ25_init 10 = .ok (.iconst (-1), 1) := dk_2 (dk_at dksJ25_init_0 10 rfl rfl)
theorem dJ25_init_11 : decode cJ25_init 11 = .ok (.putfield 13, 3) := dk_181 0 13 (dk_at dksJ25_init_0 11 rfl rfl)
theorem dJ25_init_14 : decode cJ25_init 14 = .ok (.aload_n 0, 1) := dk_42 (dk_at dksJ25_init_0 14 rfl rfl)
theorem dJ25_init_15 : decode cJ25_init 15 = .ok (.aload_n 0, 1) := dk_42 (dk_at dksJ25_init_0 15 rfl rfl)
theorem dJ25_init_16 : decode cJ25_init 16 = .ok (.getfield 1, 3) := dk_180 0 1 (dk_at dksJ25_init_0 16 rfl rfl)
theorem dJ25_init_19 : decode cJ25_init 19 = .ok (.getfield 17, 3) := dk_180 0 17 (dk_at dksJ25_init_0 19 rfl rfl)
theorem dJ25_init_22 : decode cJ25_init 22 = .ok (.putfield 22, 3) := dk_181 0 22 (dk_at dksJ25_init_1 0 rfl rfl)
theorem dJ25_init_25 : decode cJ25_init 25 = .ok (.return_, 1) := dk_177 (dk_at dksJ25_init_1 3 rfl rfl)
abbrev cJ25_hasNext : ByteArray := prog_58_method_2_code
def yJ25_hasNext : MethodName := ⟨RJ25, "hasNext", "()Z"⟩
def dkwJ25_hasNext_0 : List UInt8 := [42, 180, 0, 25, 42, 180, 0, 1, 180, 0, 28, 159, 0, 7, 4, 167, 0, 4, 3, 172]
abbrev dktJ25_hasNext_0 : List UInt8 := dkwJ25_hasNext_0 ++ []
theorem dksJ25_hasNext_0 : cJ25_hasNext.data.toList.drop 0 = dktJ25_hasNext_0 := by decide +kernel
theorem dJ25_hasNext_0 : decode cJ25_hasNext 0 = .ok (.aload_n 0, 1) := dk_42 (dk_at dksJ25_hasNext_0 0 rfl rfl)
theorem dJ25_hasNext_1 : decode cJ25_hasNext 1 = .ok (.getfield 25, 3) := dk_180 0 25 (dk_at dksJ25_hasNext_0 1 rfl rfl)
theorem dJ25_hasNext_4 : decode cJ25_hasNext 4 = .ok (.aload_n 0, 1) := dk_42 (dk_at dksJ25_hasNext_0 4 rfl rfl)
theorem dJ25_hasNext_5 : decode cJ25_hasNext 5 = .ok (.getfield 1, 3) := dk_180 0 1 (dk_at dksJ25_hasNext_0 5 rfl rfl)
theorem dJ25_hasNext_8 : decode cJ25_hasNext 8 = .ok (.getfield 28, 3) := dk_180 0 28 (dk_at dksJ25_hasNext_0 8 rfl rfl)
theorem dJ25_hasNext_11 : decode cJ25_hasNext 11 = .ok (.if_icmp .eq 7, 3) := dk_159 0 7 (dk_at dksJ25_hasNext_0 11 rfl rfl)
theorem dJ25_hasNext_14 : decode cJ25_hasNext 14 = .ok (.iconst 1, 1) := dk_4 (dk_at dksJ25_hasNext_0 14 rfl rfl)
theorem dJ25_hasNext_15 : decode cJ25_hasNext 15 = .ok (.goto 4, 3) := dk_167 0 4 (dk_at dksJ25_hasNext_0 15 rfl rfl)
theorem dJ25_hasNext_18 : decode cJ25_hasNext 18 = .ok (.iconst 0, 1) := dk_3 (dk_at dksJ25_hasNext_0 18 rfl rfl)
theorem dJ25_hasNext_19 : decode cJ25_hasNext 19 = .ok (.ireturn, 1) := dk_172 (dk_at dksJ25_hasNext_0 19 rfl rfl)
abbrev cJ25_next : ByteArray := prog_58_method_3_code
def yJ25_next : MethodName := ⟨RJ25, "next", "()Ljava/lang/Object;"⟩
def dkwJ25_next_2 : List UInt8 := [183, 0, 43, 191, 42, 27, 4, 96, 181, 0, 25, 44, 42, 27, 90, 181, 0, 13, 50, 176]
abbrev dktJ25_next_2 : List UInt8 := dkwJ25_next_2 ++ []
def dkwJ25_next_1 : List UInt8 := [183, 0, 36, 191, 42, 180, 0, 1, 180, 0, 37, 77, 27, 44, 190, 161, 0, 11, 187, 0, 41, 89]
abbrev dktJ25_next_1 : List UInt8 := dkwJ25_next_1 ++ dktJ25_next_2
def dkwJ25_next_0 : List UInt8 := [42, 182, 0, 31, 42, 180, 0, 25, 60, 27, 42, 180, 0, 1, 180, 0, 28, 161, 0, 11, 187, 0, 34, 89]
abbrev dktJ25_next_0 : List UInt8 := dkwJ25_next_0 ++ dktJ25_next_1
theorem dksJ25_next_0 : cJ25_next.data.toList.drop 0 = dktJ25_next_0 := by decide +kernel
theorem dksJ25_next_1 : cJ25_next.data.toList.drop 24 = dktJ25_next_1 := dk_seg dksJ25_next_0 24 rfl rfl
theorem dksJ25_next_2 : cJ25_next.data.toList.drop 46 = dktJ25_next_2 := dk_seg dksJ25_next_1 22 rfl rfl
theorem dJ25_next_0 : decode cJ25_next 0 = .ok (.aload_n 0, 1) := dk_42 (dk_at dksJ25_next_0 0 rfl rfl)
theorem dJ25_next_1 : decode cJ25_next 1 = .ok (.invokevirtual 31, 3) := dk_182 0 31 (dk_at dksJ25_next_0 1 rfl rfl)
theorem dJ25_next_4 : decode cJ25_next 4 = .ok (.aload_n 0, 1) := dk_42 (dk_at dksJ25_next_0 4 rfl rfl)
theorem dJ25_next_5 : decode cJ25_next 5 = .ok (.getfield 25, 3) := dk_180 0 25 (dk_at dksJ25_next_0 5 rfl rfl)
theorem dJ25_next_8 : decode cJ25_next 8 = .ok (.istore_n 1, 1) := dk_60 (dk_at dksJ25_next_0 8 rfl rfl)
theorem dJ25_next_9 : decode cJ25_next 9 = .ok (.iload_n 1, 1) := dk_27 (dk_at dksJ25_next_0 9 rfl rfl)
theorem dJ25_next_10 : decode cJ25_next 10 = .ok (.aload_n 0, 1) := dk_42 (dk_at dksJ25_next_0 10 rfl rfl)
theorem dJ25_next_11 : decode cJ25_next 11 = .ok (.getfield 1, 3) := dk_180 0 1 (dk_at dksJ25_next_0 11 rfl rfl)
theorem dJ25_next_14 : decode cJ25_next 14 = .ok (.getfield 28, 3) := dk_180 0 28 (dk_at dksJ25_next_0 14 rfl rfl)
theorem dJ25_next_17 : decode cJ25_next 17 = .ok (.if_icmp .lt 11, 3) := dk_161 0 11 (dk_at dksJ25_next_0 17 rfl rfl)
theorem dJ25_next_20 : decode cJ25_next 20 = .ok (.new 34, 3) := dk_187 0 34 (dk_at dksJ25_next_0 20 rfl rfl)
theorem dJ25_next_23 : decode cJ25_next 23 = .ok (.dup, 1) := dk_89 (dk_at dksJ25_next_0 23 rfl rfl)
theorem dJ25_next_24 : decode cJ25_next 24 = .ok (.invokespecial 36, 3) := dk_183 0 36 (dk_at dksJ25_next_1 0 rfl rfl)
theorem dJ25_next_27 : decode cJ25_next 27 = .ok (.athrow, 1) := dk_191 (dk_at dksJ25_next_1 3 rfl rfl)
theorem dJ25_next_28 : decode cJ25_next 28 = .ok (.aload_n 0, 1) := dk_42 (dk_at dksJ25_next_1 4 rfl rfl)
theorem dJ25_next_29 : decode cJ25_next 29 = .ok (.getfield 1, 3) := dk_180 0 1 (dk_at dksJ25_next_1 5 rfl rfl)
theorem dJ25_next_32 : decode cJ25_next 32 = .ok (.getfield 37, 3) := dk_180 0 37 (dk_at dksJ25_next_1 8 rfl rfl)
theorem dJ25_next_35 : decode cJ25_next 35 = .ok (.astore_n 2, 1) := dk_77 (dk_at dksJ25_next_1 11 rfl rfl)
theorem dJ25_next_36 : decode cJ25_next 36 = .ok (.iload_n 1, 1) := dk_27 (dk_at dksJ25_next_1 12 rfl rfl)
theorem dJ25_next_37 : decode cJ25_next 37 = .ok (.aload_n 2, 1) := dk_44 (dk_at dksJ25_next_1 13 rfl rfl)
theorem dJ25_next_38 : decode cJ25_next 38 = .ok (.arraylength, 1) := dk_190 (dk_at dksJ25_next_1 14 rfl rfl)
theorem dJ25_next_39 : decode cJ25_next 39 = .ok (.if_icmp .lt 11, 3) := dk_161 0 11 (dk_at dksJ25_next_1 15 rfl rfl)
theorem dJ25_next_42 : decode cJ25_next 42 = .ok (.new 41, 3) := dk_187 0 41 (dk_at dksJ25_next_1 18 rfl rfl)
theorem dJ25_next_45 : decode cJ25_next 45 = .ok (.dup, 1) := dk_89 (dk_at dksJ25_next_1 21 rfl rfl)
theorem dJ25_next_46 : decode cJ25_next 46 = .ok (.invokespecial 43, 3) := dk_183 0 43 (dk_at dksJ25_next_2 0 rfl rfl)
theorem dJ25_next_49 : decode cJ25_next 49 = .ok (.athrow, 1) := dk_191 (dk_at dksJ25_next_2 3 rfl rfl)
theorem dJ25_next_50 : decode cJ25_next 50 = .ok (.aload_n 0, 1) := dk_42 (dk_at dksJ25_next_2 4 rfl rfl)
theorem dJ25_next_51 : decode cJ25_next 51 = .ok (.iload_n 1, 1) := dk_27 (dk_at dksJ25_next_2 5 rfl rfl)
theorem dJ25_next_52 : decode cJ25_next 52 = .ok (.iconst 1, 1) := dk_4 (dk_at dksJ25_next_2 6 rfl rfl)
theorem dJ25_next_53 : decode cJ25_next 53 = .ok (.iadd, 1) := dk_96 (dk_at dksJ25_next_2 7 rfl rfl)
theorem dJ25_next_54 : decode cJ25_next 54 = .ok (.putfield 25, 3) := dk_181 0 25 (dk_at dksJ25_next_2 8 rfl rfl)
theorem dJ25_next_57 : decode cJ25_next 57 = .ok (.aload_n 2, 1) := dk_44 (dk_at dksJ25_next_2 11 rfl rfl)
theorem dJ25_next_58 : decode cJ25_next 58 = .ok (.aload_n 0, 1) := dk_42 (dk_at dksJ25_next_2 12 rfl rfl)
theorem dJ25_next_59 : decode cJ25_next 59 = .ok (.iload_n 1, 1) := dk_27 (dk_at dksJ25_next_2 13 rfl rfl)
theorem dJ25_next_60 : decode cJ25_next 60 = .ok (.dup_x1, 1) := dk_90 (dk_at dksJ25_next_2 14 rfl rfl)
theorem dJ25_next_61 : decode cJ25_next 61 = .ok (.putfield 13, 3) := dk_181 0 13 (dk_at dksJ25_next_2 15 rfl rfl)
theorem dJ25_next_64 : decode cJ25_next 64 = .ok (.aaload, 1) := dk_50 (dk_at dksJ25_next_2 18 rfl rfl)
theorem dJ25_next_65 : decode cJ25_next 65 = .ok (.areturn, 1) := dk_176 (dk_at dksJ25_next_2 19 rfl rfl)
abbrev cJ25_checkForComodification : ByteArray := prog_58_method_6_code
def yJ25_checkForComodification : MethodName := ⟨RJ25, "checkForComodification", "()V"⟩
def dkwJ25_checkForComodification_0 : List UInt8 := [42, 180, 0, 1, 180, 0, 17, 42, 180, 0, 22, 159, 0, 11, 187, 0, 41, 89, 183, 0, 43, 191, 177]
abbrev dktJ25_checkForComodification_0 : List UInt8 := dkwJ25_checkForComodification_0 ++ []
theorem dksJ25_checkForComodification_0 : cJ25_checkForComodification.data.toList.drop 0 = dktJ25_checkForComodification_0 := by decide +kernel
theorem dJ25_checkForComodification_0 : decode cJ25_checkForComodification 0 = .ok (.aload_n 0, 1) := dk_42 (dk_at dksJ25_checkForComodification_0 0 rfl rfl)
theorem dJ25_checkForComodification_1 : decode cJ25_checkForComodification 1 = .ok (.getfield 1, 3) := dk_180 0 1 (dk_at dksJ25_checkForComodification_0 1 rfl rfl)
theorem dJ25_checkForComodification_4 : decode cJ25_checkForComodification 4 = .ok (.getfield 17, 3) := dk_180 0 17 (dk_at dksJ25_checkForComodification_0 4 rfl rfl)
theorem dJ25_checkForComodification_7 : decode cJ25_checkForComodification 7 = .ok (.aload_n 0, 1) := dk_42 (dk_at dksJ25_checkForComodification_0 7 rfl rfl)
theorem dJ25_checkForComodification_8 : decode cJ25_checkForComodification 8 = .ok (.getfield 22, 3) := dk_180 0 22 (dk_at dksJ25_checkForComodification_0 8 rfl rfl)
theorem dJ25_checkForComodification_11 : decode cJ25_checkForComodification 11 = .ok (.if_icmp .eq 11, 3) := dk_159 0 11 (dk_at dksJ25_checkForComodification_0 11 rfl rfl)
theorem dJ25_checkForComodification_14 : decode cJ25_checkForComodification 14 = .ok (.new 41, 3) := dk_187 0 41 (dk_at dksJ25_checkForComodification_0 14 rfl rfl)
theorem dJ25_checkForComodification_17 : decode cJ25_checkForComodification 17 = .ok (.dup, 1) := dk_89 (dk_at dksJ25_checkForComodification_0 17 rfl rfl)
theorem dJ25_checkForComodification_18 : decode cJ25_checkForComodification 18 = .ok (.invokespecial 43, 3) := dk_183 0 43 (dk_at dksJ25_checkForComodification_0 18 rfl rfl)
theorem dJ25_checkForComodification_21 : decode cJ25_checkForComodification 21 = .ok (.athrow, 1) := dk_191 (dk_at dksJ25_checkForComodification_0 21 rfl rfl)
theorem dJ25_checkForComodification_22 : decode cJ25_checkForComodification 22 = .ok (.return_, 1) := dk_177 (dk_at dksJ25_checkForComodification_0 22 rfl rfl)
theorem q152 : (Jvm.Cond.initialized "java/util/ArrayList$Itr") ∈ lw_all := lw_g (lw_at lw_m1 33 rfl) rfl
theorem q536 : (Jvm.Cond.fieldLink "java/util/ArrayList$Itr" (37 : Nat) "java/util/ArrayList" "elementData" "[Ljava/lang/Object;") ∈ lw_all := lw_g (lw_at lw_m2 177 rfl) rfl
theorem q537 : (Jvm.Cond.fieldLinkNest "java/util/ArrayList$Itr" (28 : Nat) "java/util/ArrayList" "size" "I" "java/util/ArrayList") ∈ lw_tbl := lw_at lw_m2 178 rfl
theorem q540 : (Jvm.Cond.fieldLink "java/util/ArrayList$Itr" (17 : Nat) "java/util/ArrayList" "modCount" "I") ∈ lw_all := lw_g (lw_at lw_m2 181 rfl) rfl
theorem q721 : (Jvm.Cond.selects "java/util/ArrayList$Itr" ({ cls := "java/lang/Object", name := "getClass", desc := "()Ljava/lang/Class;" } : Jvm.MethodName) ({ cls := "java/lang/Object", name := "getClass", desc := "()Ljava/lang/Class;" } : Jvm.MethodName)) ∈ lw_all := lw_g (lw_at lw_m3 122 rfl) rfl
theorem q1323 : (Jvm.Cond.instantiable "java/util/ArrayList$Itr" (4 : Nat)) ∈ lw_all := lw_g (lw_at lw_m6 4 rfl) rfl
theorem q1325 : (Jvm.Cond.instanceMethod ({ cls := "java/util/ArrayList$Itr", name := "<init>", desc := "(Ljava/util/ArrayList;)V" } : Jvm.MethodName)) ∈ lw_all := lw_g (lw_at lw_m6 6 rfl) rfl
theorem q1326 : (Jvm.Cond.code ({ cls := "java/util/ArrayList$Itr", name := "<init>", desc := "(Ljava/util/ArrayList;)V" } : Jvm.MethodName) prog_58_method_1_code (2 : Nat) (Option.none : Option Jvm.ClassFile.FieldType)) ∈ lw_all := lw_g (lw_at lw_m6 7 rfl) rfl
theorem q1327 : (Jvm.Cond.methodLink "java/util/ArrayList$Itr" (7 : Nat) ({ cls := "java/lang/Object", name := "<init>", desc := "()V" } : Jvm.MethodName)) ∈ lw_all := lw_g (lw_at lw_m6 8 rfl) rfl
theorem q1328 : (Jvm.Cond.fieldLink "java/util/ArrayList$Itr" (25 : Nat) "java/util/ArrayList$Itr" "cursor" "I") ∈ lw_all := lw_g (lw_at lw_m6 9 rfl) rfl
theorem q1329 : (Jvm.Cond.fieldLink "java/util/ArrayList$Itr" (13 : Nat) "java/util/ArrayList$Itr" "lastRet" "I") ∈ lw_all := lw_g (lw_at lw_m6 10 rfl) rfl
theorem q1330 : (Jvm.Cond.fieldLink "java/util/ArrayList$Itr" (22 : Nat) "java/util/ArrayList$Itr" "expectedModCount" "I") ∈ lw_all := lw_g (lw_at lw_m6 11 rfl) rfl
theorem q1331 : (Jvm.Cond.fieldLink "java/util/ArrayList$Itr" (1 : Nat) "java/util/ArrayList$Itr" "this$0" "Ljava/util/ArrayList;") ∈ lw_all := lw_g (lw_at lw_m6 12 rfl) rfl
theorem q1332 : (Jvm.Cond.lays "java/util/ArrayList$Itr" "java/util/ArrayList$Itr" "cursor" "I") ∈ lw_all := lw_g (lw_at lw_m6 13 rfl) rfl
theorem q1333 : (Jvm.Cond.soleField "java/util/ArrayList$Itr" "cursor") ∈ lw_all := lw_g (lw_at lw_m6 14 rfl) rfl
theorem q1334 : (Jvm.Cond.lays "java/util/ArrayList$Itr" "java/util/ArrayList$Itr" "lastRet" "I") ∈ lw_all := lw_g (lw_at lw_m6 15 rfl) rfl
theorem q1335 : (Jvm.Cond.soleField "java/util/ArrayList$Itr" "lastRet") ∈ lw_all := lw_g (lw_at lw_m6 16 rfl) rfl
theorem q1336 : (Jvm.Cond.lays "java/util/ArrayList$Itr" "java/util/ArrayList$Itr" "expectedModCount" "I") ∈ lw_all := lw_g (lw_at lw_m6 17 rfl) rfl
theorem q1337 : (Jvm.Cond.soleField "java/util/ArrayList$Itr" "expectedModCount") ∈ lw_all := lw_g (lw_at lw_m6 18 rfl) rfl
theorem q1338 : (Jvm.Cond.laysFinal "java/util/ArrayList$Itr" "java/util/ArrayList$Itr" "this$0" "Ljava/util/ArrayList;") ∈ lw_all := lw_g (lw_at lw_m6 19 rfl) rfl
theorem q1339 : (Jvm.Cond.soleField "java/util/ArrayList$Itr" "this$0") ∈ lw_all := lw_g (lw_at lw_m6 20 rfl) rfl
theorem q1340 : (Jvm.Cond.superclass "java/util/ArrayList$Itr" "java/lang/Object") ∈ lw_all := lw_g (lw_at lw_m6 21 rfl) rfl
theorem q1345 : (Jvm.Cond.castable "java/util/ArrayList$Itr" "java/util/Iterator") ∈ lw_tbl := lw_at lw_m6 26 rfl
theorem q1346 : (Jvm.Cond.selects "java/util/ArrayList$Itr" ({ cls := "java/util/Iterator", name := "hasNext", desc := "()Z" } : Jvm.MethodName) ({ cls := "java/util/ArrayList$Itr", name := "hasNext", desc := "()Z" } : Jvm.MethodName)) ∈ lw_all := lw_g (lw_at lw_m6 27 rfl) rfl
theorem q1347 : (Jvm.Cond.unhidden "java/util/ArrayList$Itr" "hasNext" "()Z") ∈ lw_tbl := lw_at lw_m6 28 rfl
theorem q1348 : (Jvm.Cond.instanceMethod ({ cls := "java/util/ArrayList$Itr", name := "hasNext", desc := "()Z" } : Jvm.MethodName)) ∈ lw_all := lw_g (lw_at lw_m6 29 rfl) rfl
theorem q1349 : (Jvm.Cond.publicMethod ({ cls := "java/util/ArrayList$Itr", name := "hasNext", desc := "()Z" } : Jvm.MethodName)) ∈ lw_tbl := lw_at lw_m6 30 rfl
theorem q1350 : (Jvm.Cond.code ({ cls := "java/util/ArrayList$Itr", name := "hasNext", desc := "()Z" } : Jvm.MethodName) prog_58_method_2_code (1 : Nat) (Option.some Jvm.ClassFile.FieldType.boolean)) ∈ lw_all := lw_g (lw_at lw_m6 31 rfl) rfl
theorem q1355 : (Jvm.Cond.selects "java/util/ArrayList$Itr" ({ cls := "java/util/Iterator", name := "next", desc := "()Ljava/lang/Object;" } : Jvm.MethodName) ({ cls := "java/util/ArrayList$Itr", name := "next", desc := "()Ljava/lang/Object;" } : Jvm.MethodName)) ∈ lw_all := lw_g (lw_at lw_m6 36 rfl) rfl
theorem q1356 : (Jvm.Cond.unhidden "java/util/ArrayList$Itr" "next" "()Ljava/lang/Object;") ∈ lw_tbl := lw_at lw_m6 37 rfl
theorem q1357 : (Jvm.Cond.instanceMethod ({ cls := "java/util/ArrayList$Itr", name := "next", desc := "()Ljava/lang/Object;" } : Jvm.MethodName)) ∈ lw_all := lw_g (lw_at lw_m6 38 rfl) rfl
theorem q1358 : (Jvm.Cond.publicMethod ({ cls := "java/util/ArrayList$Itr", name := "next", desc := "()Ljava/lang/Object;" } : Jvm.MethodName)) ∈ lw_tbl := lw_at lw_m6 39 rfl
theorem q1359 : (Jvm.Cond.code ({ cls := "java/util/ArrayList$Itr", name := "next", desc := "()Ljava/lang/Object;" } : Jvm.MethodName) prog_58_method_3_code (3 : Nat) (Option.some (Jvm.ClassFile.FieldType.object "java/lang/Object"))) ∈ lw_all := lw_g (lw_at lw_m6 40 rfl) rfl
theorem q1360 : (Jvm.Cond.methodLink "java/util/ArrayList$Itr" (31 : Nat) ({ cls := "java/util/ArrayList$Itr", name := "checkForComodification", desc := "()V" } : Jvm.MethodName)) ∈ lw_all := lw_g (lw_at lw_m6 41 rfl) rfl
theorem q1361 : (Jvm.Cond.instanceMethod ({ cls := "java/util/ArrayList$Itr", name := "checkForComodification", desc := "()V" } : Jvm.MethodName)) ∈ lw_all := lw_g (lw_at lw_m6 42 rfl) rfl
theorem q1362 : (Jvm.Cond.selects "java/util/ArrayList$Itr" ({ cls := "java/util/ArrayList$Itr", name := "checkForComodification", desc := "()V" } : Jvm.MethodName) ({ cls := "java/util/ArrayList$Itr", name := "checkForComodification", desc := "()V" } : Jvm.MethodName)) ∈ lw_all := lw_g (lw_at lw_m6 43 rfl) rfl
theorem q1363 : (Jvm.Cond.code ({ cls := "java/util/ArrayList$Itr", name := "checkForComodification", desc := "()V" } : Jvm.MethodName) prog_58_method_6_code (1 : Nat) (Option.none : Option Jvm.ClassFile.FieldType)) ∈ lw_all := lw_g (lw_at lw_m6 44 rfl) rfl
theorem q1364 : (Jvm.Cond.classLink "java/util/ArrayList$Itr" (34 : Nat) "java/util/NoSuchElementException") ∈ lw_all := lw_g (lw_at lw_m6 45 rfl) rfl
theorem q1373 : (Jvm.Cond.methodLink "java/util/ArrayList$Itr" (36 : Nat) ({ cls := "java/util/NoSuchElementException", name := "<init>", desc := "()V" } : Jvm.MethodName)) ∈ lw_all := lw_g (lw_at lw_m6 54 rfl) rfl
theorem q3446 : (Jvm.Cond.castable "java/util/ArrayList$Itr" "java/lang/Object") ∈ lw_tbl := lw_at lw_m14 207 rfl
theorem in_J25 : ∀ w ∈ wsJ250, w ∈ lw_all := lw_in wsJ250 [1332, 1334, 1336, 1338] (by decide +kernel) (by decide +kernel)
/-! java/util/NoSuchElementException -/
set_option maxRecDepth 100000
def RJ26 : String := "java/util/NoSuchElementException"
def TJ26 : u_T := fun k => match k with
  | 0 => ("java/lang/Throwable", "cause", "Ljava/lang/Throwable;", false)
  | 1 => ("java/lang/Throwable", "stackTrace", "[Ljava/lang/StackTraceElement;", false)
  | 2 => ("java/lang/Throwable", "suppressedExceptions", "Ljava/util/List;", false)
  | 3 => ("java/lang/Throwable", "detailMessage", "Ljava/lang/String;", false)
  | 4 => ("java/lang/Throwable", "backtrace", "Ljava/lang/Object;", false)
  | _ => ("java/lang/Throwable", "depth", "I", false)
def tyJ26 : Nat → FieldType := fun k => match k with
  | 0 => .object "java/lang/Throwable"
  | 1 => .array (.object "java/lang/StackTraceElement")
  | 2 => .object "java/util/List"
  | 3 => .object "java/lang/String"
  | 4 => .object "java/lang/Object"
  | _ => .int
abbrev wsJ260 : List Cond := u_ws RJ26 TJ26 6
theorem nmJ26 : ∀ a, a < 6 → ∀ b, b < 6 → a ≠ b → (TJ26 a).2.1 ≠ (TJ26 b).2.1 := by decide +kernel
theorem tyJ26_ok : ∀ k, k < 6 → parseFieldDescriptor (TJ26 k).2.2.1 = some (tyJ26 k) := by decide +kernel
abbrev cJ26_init : ByteArray := prog_71_method_1_code
def yJ26_init : MethodName := ⟨RJ26, "<init>", "()V"⟩
theorem dJ26_init_0 : decode cJ26_init 0 = .ok (.aload_n 0, 1) := by decide +kernel
theorem dJ26_init_1 : decode cJ26_init 1 = .ok (.invokespecial 1, 3) := by decide +kernel
theorem dJ26_init_4 : decode cJ26_init 4 = .ok (.return_, 1) := by decide +kernel
theorem q153 : (Jvm.Cond.initialized "java/util/NoSuchElementException") ∈ lw_all := lw_g (lw_at lw_m1 34 rfl) rfl
theorem q256 : (Jvm.Cond.selects "java/util/NoSuchElementException" ({ cls := "java/lang/Throwable", name := "fillInStackTrace", desc := "()Ljava/lang/Throwable;" } : Jvm.MethodName) ({ cls := "java/lang/Throwable", name := "fillInStackTrace", desc := "()Ljava/lang/Throwable;" } : Jvm.MethodName)) ∈ lw_all := lw_g (lw_at lw_m1 137 rfl) rfl
theorem q725 : (Jvm.Cond.selects "java/util/NoSuchElementException" ({ cls := "java/lang/Object", name := "getClass", desc := "()Ljava/lang/Class;" } : Jvm.MethodName) ({ cls := "java/lang/Object", name := "getClass", desc := "()Ljava/lang/Class;" } : Jvm.MethodName)) ∈ lw_all := lw_g (lw_at lw_m3 126 rfl) rfl
theorem q1365 : (Jvm.Cond.instantiable "java/util/NoSuchElementException" (6 : Nat)) ∈ lw_all := lw_g (lw_at lw_m6 46 rfl) rfl
theorem q1366 : (Jvm.Cond.castable "java/util/NoSuchElementException" "java/util/NoSuchElementException") ∈ lw_tbl := lw_at lw_m6 47 rfl
theorem q1367 : (Jvm.Cond.selects "java/util/NoSuchElementException" ({ cls := "java/lang/Throwable", name := "fillInStackTrace", desc := "(I)Ljava/lang/Throwable;" } : Jvm.MethodName) ({ cls := "java/lang/Throwable", name := "fillInStackTrace", desc := "(I)Ljava/lang/Throwable;" } : Jvm.MethodName)) ∈ lw_all := lw_g (lw_at lw_m6 48 rfl) rfl
theorem q1368 : (Jvm.Cond.lays "java/util/NoSuchElementException" "java/lang/Throwable" "cause" "Ljava/lang/Throwable;") ∈ lw_all := lw_g (lw_at lw_m6 49 rfl) rfl
theorem q1369 : (Jvm.Cond.lays "java/util/NoSuchElementException" "java/lang/Throwable" "stackTrace" "[Ljava/lang/StackTraceElement;") ∈ lw_all := lw_g (lw_at lw_m6 50 rfl) rfl
theorem q1370 : (Jvm.Cond.lays "java/util/NoSuchElementException" "java/lang/Throwable" "suppressedExceptions" "Ljava/util/List;") ∈ lw_all := lw_g (lw_at lw_m6 51 rfl) rfl
theorem q1371 : (Jvm.Cond.lays "java/util/NoSuchElementException" "java/lang/Throwable" "detailMessage" "Ljava/lang/String;") ∈ lw_all := lw_g (lw_at lw_m6 52 rfl) rfl
theorem q1372 : (Jvm.Cond.lays "java/util/NoSuchElementException" "java/lang/Throwable" "backtrace" "Ljava/lang/Object;") ∈ lw_all := lw_g (lw_at lw_m6 53 rfl) rfl
theorem q1374 : (Jvm.Cond.instanceMethod ({ cls := "java/util/NoSuchElementException", name := "<init>", desc := "()V" } : Jvm.MethodName)) ∈ lw_all := lw_g (lw_at lw_m6 55 rfl) rfl
theorem q1375 : (Jvm.Cond.code ({ cls := "java/util/NoSuchElementException", name := "<init>", desc := "()V" } : Jvm.MethodName) prog_71_method_1_code (1 : Nat) (Option.none : Option Jvm.ClassFile.FieldType)) ∈ lw_all := lw_g (lw_at lw_m6 56 rfl) rfl
theorem q1376 : (Jvm.Cond.methodLink "java/util/NoSuchElementException" (1 : Nat) ({ cls := "java/lang/RuntimeException", name := "<init>", desc := "()V" } : Jvm.MethodName)) ∈ lw_all := lw_g (lw_at lw_m6 57 rfl) rfl
theorem q1383 : (Jvm.Cond.lays "java/util/NoSuchElementException" "java/lang/Throwable" "depth" "I") ∈ lw_all := lw_g (lw_at lw_m6 64 rfl) rfl
theorem q1384 : (Jvm.Cond.superclass "java/util/NoSuchElementException" "java/lang/RuntimeException") ∈ lw_all := lw_g (lw_at lw_m6 65 rfl) rfl
theorem q3447 : (Jvm.Cond.castable "java/util/NoSuchElementException" "java/lang/Object") ∈ lw_tbl := lw_at lw_m14 208 rfl
theorem in_J26 : ∀ w ∈ wsJ260, w ∈ lw_all := lw_in wsJ260 [1368, 1369, 1370, 1371, 1372, 1383] (by decide +kernel) (by decide +kernel)
/-! java/lang/Enum -/
set_option maxRecDepth 100000
def RJ27 : String := "java/lang/Enum"
abbrev cJ27_hashCode : ByteArray := prog_35_method_6_code
def yJ27_hashCode : MethodName := ⟨RJ27, "hashCode", "()I"⟩
def dkwJ27_hashCode_0 : List UInt8 := [42, 180, 0, 17, 60, 27, 154, 0, 13, 42, 42, 184, 0, 20, 90, 181, 0, 17, 60, 27, 172]
abbrev dktJ27_hashCode_0 : List UInt8 := dkwJ27_hashCode_0 ++ []
theorem dksJ27_hashCode_0 : cJ27_hashCode.data.toList.drop 0 = dktJ27_hashCode_0 := by decide +kernel
theorem dJ27_hashCode_0 : decode cJ27_hashCode 0 = .ok (.aload_n 0, 1) := dk_42 (dk_at dksJ27_hashCode_0 0 rfl rfl)
theorem dJ27_hashCode_1 : decode cJ27_hashCode 1 = .ok (.getfield 17, 3) := dk_180 0 17 (dk_at dksJ27_hashCode_0 1 rfl rfl)
theorem dJ27_hashCode_4 : decode cJ27_hashCode 4 = .ok (.istore_n 1, 1) := dk_60 (dk_at dksJ27_hashCode_0 4 rfl rfl)
theorem dJ27_hashCode_5 : decode cJ27_hashCode 5 = .ok (.iload_n 1, 1) := dk_27 (dk_at dksJ27_hashCode_0 5 rfl rfl)
theorem dJ27_hashCode_6 : decode cJ27_hashCode 6 = .ok (.ifCond .ne 13, 3) := dk_154 0 13 (dk_at dksJ27_hashCode_0 6 rfl rfl)
theorem dJ27_hashCode_9 : decode cJ27_hashCode 9 = .ok (.aload_n 0, 1) := dk_42 (dk_at dksJ27_hashCode_0 9 rfl rfl)
theorem dJ27_hashCode_10 : decode cJ27_hashCode 10 = .ok (.aload_n 0, 1) := dk_42 (dk_at dksJ27_hashCode_0 10 rfl rfl)
theorem dJ27_hashCode_11 : decode cJ27_hashCode 11 = .ok (.invokestatic 20, 3) := dk_184 0 20 (dk_at dksJ27_hashCode_0 11 rfl rfl)
theorem dJ27_hashCode_14 : decode cJ27_hashCode 14 = .ok (.dup_x1, 1) := dk_90 (dk_at dksJ27_hashCode_0 14 rfl rfl)
theorem dJ27_hashCode_15 : decode cJ27_hashCode 15 = .ok (.putfield 17, 3) := dk_181 0 17 (dk_at dksJ27_hashCode_0 15 rfl rfl)
theorem dJ27_hashCode_18 : decode cJ27_hashCode 18 = .ok (.istore_n 1, 1) := dk_60 (dk_at dksJ27_hashCode_0 18 rfl rfl)
theorem dJ27_hashCode_19 : decode cJ27_hashCode 19 = .ok (.iload_n 1, 1) := dk_27 (dk_at dksJ27_hashCode_0 19 rfl rfl)
theorem dJ27_hashCode_20 : decode cJ27_hashCode 20 = .ok (.ireturn, 1) := dk_172 (dk_at dksJ27_hashCode_0 20 rfl rfl)
abbrev cJ27_compareTo : ByteArray := prog_35_method_15_code
def yJ27_compareTo : MethodName := ⟨RJ27, "compareTo", "(Ljava/lang/Object;)I"⟩
def dkwJ27_compareTo_0 : List UInt8 := [42, 43, 192, 0, 2, 182, 0, 101, 172]
abbrev dktJ27_compareTo_0 : List UInt8 := dkwJ27_compareTo_0 ++ []
theorem dksJ27_compareTo_0 : cJ27_compareTo.data.toList.drop 0 = dktJ27_compareTo_0 := by decide +kernel
theorem dJ27_compareTo_0 : decode cJ27_compareTo 0 = .ok (.aload_n 0, 1) := dk_42 (dk_at dksJ27_compareTo_0 0 rfl rfl)
theorem dJ27_compareTo_1 : decode cJ27_compareTo 1 = .ok (.aload_n 1, 1) := dk_43 (dk_at dksJ27_compareTo_0 1 rfl rfl)
theorem dJ27_compareTo_2 : decode cJ27_compareTo 2 = .ok (.checkcast 2, 3) := dk_192 0 2 (dk_at dksJ27_compareTo_0 2 rfl rfl)
theorem dJ27_compareTo_5 : decode cJ27_compareTo 5 = .ok (.invokevirtual 101, 3) := dk_182 0 101 (dk_at dksJ27_compareTo_0 5 rfl rfl)
theorem dJ27_compareTo_8 : decode cJ27_compareTo 8 = .ok (.ireturn, 1) := dk_172 (dk_at dksJ27_compareTo_0 8 rfl rfl)
abbrev cJ27_compareTo_2 : ByteArray := prog_35_method_8_code
def yJ27_compareTo_2 : MethodName := ⟨RJ27, "compareTo", "(Ljava/lang/Enum;)I"⟩
def dkwJ27_compareTo_2_1 : List UInt8 := [165, 0, 11, 187, 0, 36, 89, 183, 0, 38, 191, 45, 180, 0, 7, 44, 180, 0, 7, 100, 172]
abbrev dktJ27_compareTo_2_1 : List UInt8 := dkwJ27_compareTo_2_1 ++ []
def dkwJ27_compareTo_2_0 : List UInt8 := [43, 77, 42, 78, 45, 182, 0, 29, 44, 182, 0, 29, 165, 0, 22, 45, 182, 0, 33, 44, 182, 0, 33]
abbrev dktJ27_compareTo_2_0 : List UInt8 := dkwJ27_compareTo_2_0 ++ dktJ27_compareTo_2_1
theorem dksJ27_compareTo_2_0 : cJ27_compareTo_2.data.toList.drop 0 = dktJ27_compareTo_2_0 := by decide +kernel
theorem dksJ27_compareTo_2_1 : cJ27_compareTo_2.data.toList.drop 23 = dktJ27_compareTo_2_1 := dk_seg dksJ27_compareTo_2_0 23 rfl rfl
theorem dJ27_compareTo_2_0 : decode cJ27_compareTo_2 0 = .ok (.aload_n 1, 1) := dk_43 (dk_at dksJ27_compareTo_2_0 0 rfl rfl)
theorem dJ27_compareTo_2_1 : decode cJ27_compareTo_2 1 = .ok (.astore_n 2, 1) := dk_77 (dk_at dksJ27_compareTo_2_0 1 rfl rfl)
theorem dJ27_compareTo_2_2 : decode cJ27_compareTo_2 2 = .ok (.aload_n 0, 1) := dk_42 (dk_at dksJ27_compareTo_2_0 2 rfl rfl)
theorem dJ27_compareTo_2_3 : decode cJ27_compareTo_2 3 = .ok (.astore_n 3, 1) := dk_78 (dk_at dksJ27_compareTo_2_0 3 rfl rfl)
theorem dJ27_compareTo_2_4 : decode cJ27_compareTo_2 4 = .ok (.aload_n 3, 1) := dk_45 (dk_at dksJ27_compareTo_2_0 4 rfl rfl)
theorem dJ27_compareTo_2_5 : decode cJ27_compareTo_2 5 = .ok (.invokevirtual 29, 3) := dk_182 0 29 (dk_at dksJ27_compareTo_2_0 5 rfl rfl)
theorem dJ27_compareTo_2_8 : decode cJ27_compareTo_2 8 = .ok (.aload_n 2, 1) := dk_44 (dk_at dksJ27_compareTo_2_0 8 rfl rfl)
theorem dJ27_compareTo_2_9 : decode cJ27_compareTo_2 9 = .ok (.invokevirtual 29, 3) := dk_182 0 29 (dk_at dksJ27_compareTo_2_0 9 rfl rfl)
theorem dJ27_compareTo_2_12 : decode cJ27_compareTo_2 12 = .ok (.if_acmp .eq 22, 3) := dk_165 0 22 (dk_at dksJ27_compareTo_2_0 12 rfl rfl)
theorem dJ27_compareTo_2_15 : decode cJ27_compareTo_2 15 = .ok (.aload_n 3, 1) := dk_45 (dk_at dksJ27_compareTo_2_0 15 rfl rfl)
theorem dJ27_compareTo_2_16 : decode cJ27_compareTo_2 16 = .ok (.invokevirtual 33, 3) := dk_182 0 33 (dk_at dksJ27_compareTo_2_0 16 rfl rfl)
theorem dJ27_compareTo_2_19 : decode cJ27_compareTo_2 19 = .ok (.aload_n 2, 1) := dk_44 (dk_at dksJ27_compareTo_2_0 19 rfl rfl)
theorem dJ27_compareTo_2_20 : decode cJ27_compareTo_2 20 = .ok (.invokevirtual 33, 3) := dk_182 0 33 (dk_at dksJ27_compareTo_2_0 20 rfl rfl)
theorem dJ27_compareTo_2_23 : decode cJ27_compareTo_2 23 = .ok (.if_acmp .eq 11, 3) := dk_165 0 11 (dk_at dksJ27_compareTo_2_1 0 rfl rfl)
theorem dJ27_compareTo_2_26 : decode cJ27_compareTo_2 26 = .ok (.new 36, 3) := dk_187 0 36 (dk_at dksJ27_compareTo_2_1 3 rfl rfl)
theorem dJ27_compareTo_2_29 : decode cJ27_compareTo_2 29 = .ok (.dup, 1) := dk_89 (dk_at dksJ27_compareTo_2_1 6 rfl rfl)
theorem dJ27_compareTo_2_30 : decode cJ27_compareTo_2 30 = .ok (.invokespecial 38, 3) := dk_183 0 38 (dk_at dksJ27_compareTo_2_1 7 rfl rfl)
theorem dJ27_compareTo_2_33 : decode cJ27_compareTo_2 33 = .ok (.athrow, 1) := dk_191 (dk_at dksJ27_compareTo_2_1 10 rfl rfl)
theorem dJ27_compareTo_2_34 : decode cJ27_compareTo_2 34 = .ok (.aload_n 3, 1) := dk_45 (dk_at dksJ27_compareTo_2_1 11 rfl rfl)
theorem dJ27_compareTo_2_35 : decode cJ27_compareTo_2 35 = .ok (.getfield 7, 3) := dk_180 0 7 (dk_at dksJ27_compareTo_2_1 12 rfl rfl)
theorem dJ27_compareTo_2_38 : decode cJ27_compareTo_2 38 = .ok (.aload_n 2, 1) := dk_44 (dk_at dksJ27_compareTo_2_1 15 rfl rfl)
theorem dJ27_compareTo_2_39 : decode cJ27_compareTo_2 39 = .ok (.getfield 7, 3) := dk_180 0 7 (dk_at dksJ27_compareTo_2_1 16 rfl rfl)
theorem dJ27_compareTo_2_42 : decode cJ27_compareTo_2 42 = .ok (.isub, 1) := dk_100 (dk_at dksJ27_compareTo_2_1 19 rfl rfl)
theorem dJ27_compareTo_2_43 : decode cJ27_compareTo_2 43 = .ok (.ireturn, 1) := dk_172 (dk_at dksJ27_compareTo_2_1 20 rfl rfl)
abbrev cJ27_getDeclaringClass : ByteArray := prog_35_method_9_code
def yJ27_getDeclaringClass : MethodName := ⟨RJ27, "getDeclaringClass", "()Ljava/lang/Class;"⟩
def dkwJ27_getDeclaringClass_0 : List UInt8 := [42, 182, 0, 29, 76, 43, 182, 0, 39, 77, 44, 18, 2, 166, 0, 7, 43, 167, 0, 4, 44, 176]
abbrev dktJ27_getDeclaringClass_0 : List UInt8 := dkwJ27_getDeclaringClass_0 ++ []
theorem dksJ27_getDeclaringClass_0 : cJ27_getDeclaringClass.data.toList.drop 0 = dktJ27_getDeclaringClass_0 := by decide +kernel
theorem dJ27_getDeclaringClass_0 : decode cJ27_getDeclaringClass 0 = .ok (.aload_n 0, 1) := dk_42 (dk_at dksJ27_getDeclaringClass_0 0 rfl rfl)
theorem dJ27_getDeclaringClass_1 : decode cJ27_getDeclaringClass 1 = .ok (.invokevirtual 29, 3) := dk_182 0 29 (dk_at dksJ27_getDeclaringClass_0 1 rfl rfl)
theorem dJ27_getDeclaringClass_4 : decode cJ27_getDeclaringClass 4 = .ok (.astore_n 1, 1) := dk_76 (dk_at dksJ27_getDeclaringClass_0 4 rfl rfl)
theorem dJ27_getDeclaringClass_5 : decode cJ27_getDeclaringClass 5 = .ok (.aload_n 1, 1) := dk_43 (dk_at dksJ27_getDeclaringClass_0 5 rfl rfl)
theorem dJ27_getDeclaringClass_6 : decode cJ27_getDeclaringClass 6 = .ok (.invokevirtual 39, 3) := dk_182 0 39 (dk_at dksJ27_getDeclaringClass_0 6 rfl rfl)
theorem dJ27_getDeclaringClass_9 : decode cJ27_getDeclaringClass 9 = .ok (.astore_n 2, 1) := dk_77 (dk_at dksJ27_getDeclaringClass_0 9 rfl rfl)
theorem dJ27_getDeclaringClass_10 : decode cJ27_getDeclaringClass 10 = .ok (.aload_n 2, 1) := dk_44 (dk_at dksJ27_getDeclaringClass_0 10 rfl rfl)
theorem dJ27_getDeclaringClass_11 : decode cJ27_getDeclaringClass 11 = .ok (.ldc 2, 2) := dk_18 2 (dk_at dksJ27_getDeclaringClass_0 11 rfl rfl)
theorem dJ27_getDeclaringClass_13 : decode cJ27_getDeclaringClass 13 = .ok (.if_acmp .ne 7, 3) := dk_166 0 7 (dk_at dksJ27_getDeclaringClass_0 13 rfl rfl)
theorem dJ27_getDeclaringClass_16 : decode cJ27_getDeclaringClass 16 = .ok (.aload_n 1, 1) := dk_43 (dk_at dksJ27_getDeclaringClass_0 16 rfl rfl)
theorem dJ27_getDeclaringClass_17 : decode cJ27_getDeclaringClass 17 = .ok (.goto 4, 3) := dk_167 0 4 (dk_at dksJ27_getDeclaringClass_0 17 rfl rfl)
theorem dJ27_getDeclaringClass_20 : decode cJ27_getDeclaringClass 20 = .ok (.aload_n 2, 1) := dk_44 (dk_at dksJ27_getDeclaringClass_0 20 rfl rfl)
theorem dJ27_getDeclaringClass_21 : decode cJ27_getDeclaringClass 21 = .ok (.areturn, 1) := dk_176 (dk_at dksJ27_getDeclaringClass_0 21 rfl rfl)
abbrev cJ27_equals : ByteArray := prog_35_method_5_code
def yJ27_equals : MethodName := ⟨RJ27, "equals", "(Ljava/lang/Object;)Z"⟩
def dkwJ27_equals_0 : List UInt8 := [42, 43, 166, 0, 7, 4, 167, 0, 4, 3, 172]
abbrev dktJ27_equals_0 : List UInt8 := dkwJ27_equals_0 ++ []
theorem dksJ27_equals_0 : cJ27_equals.data.toList.drop 0 = dktJ27_equals_0 := by decide +kernel
theorem dJ27_equals_0 : decode cJ27_equals 0 = .ok (.aload_n 0, 1) := dk_42 (dk_at dksJ27_equals_0 0 rfl rfl)
theorem dJ27_equals_1 : decode cJ27_equals 1 = .ok (.aload_n 1, 1) := dk_43 (dk_at dksJ27_equals_0 1 rfl rfl)
theorem dJ27_equals_2 : decode cJ27_equals 2 = .ok (.if_acmp .ne 7, 3) := dk_166 0 7 (dk_at dksJ27_equals_0 2 rfl rfl)
theorem dJ27_equals_5 : decode cJ27_equals 5 = .ok (.iconst 1, 1) := dk_4 (dk_at dksJ27_equals_0 5 rfl rfl)
theorem dJ27_equals_6 : decode cJ27_equals 6 = .ok (.goto 4, 3) := dk_167 0 4 (dk_at dksJ27_equals_0 6 rfl rfl)
theorem dJ27_equals_9 : decode cJ27_equals 9 = .ok (.iconst 0, 1) := dk_3 (dk_at dksJ27_equals_0 9 rfl rfl)
theorem dJ27_equals_10 : decode cJ27_equals 10 = .ok (.ireturn, 1) := dk_172 (dk_at dksJ27_equals_0 10 rfl rfl)
theorem q156 : (Jvm.Cond.initialized "java/lang/Enum") ∈ lw_all := lw_g (lw_at lw_m1 37 rfl) rfl
theorem q766 : (Jvm.Cond.instanceMethod ({ cls := "java/lang/Enum", name := "hashCode", desc := "()I" } : Jvm.MethodName)) ∈ lw_all := lw_g (lw_at lw_m3 167 rfl) rfl
theorem q767 : (Jvm.Cond.code ({ cls := "java/lang/Enum", name := "hashCode", desc := "()I" } : Jvm.MethodName) prog_35_method_6_code (2 : Nat) (Option.some Jvm.ClassFile.FieldType.int)) ∈ lw_all := lw_g (lw_at lw_m3 168 rfl) rfl
theorem q768 : (Jvm.Cond.methodLink "java/lang/Enum" (20 : Nat) ({ cls := "java/lang/System", name := "identityHashCode", desc := "(Ljava/lang/Object;)I" } : Jvm.MethodName)) ∈ lw_all := lw_g (lw_at lw_m3 169 rfl) rfl
theorem q922 : (Jvm.Cond.instanceMethod ({ cls := "java/lang/Enum", name := "compareTo", desc := "(Ljava/lang/Object;)I" } : Jvm.MethodName)) ∈ lw_all := lw_g (lw_at lw_m4 83 rfl) rfl
theorem q923 : (Jvm.Cond.publicMethod ({ cls := "java/lang/Enum", name := "compareTo", desc := "(Ljava/lang/Object;)I" } : Jvm.MethodName)) ∈ lw_tbl := lw_at lw_m4 84 rfl
theorem q924 : (Jvm.Cond.code ({ cls := "java/lang/Enum", name := "compareTo", desc := "(Ljava/lang/Object;)I" } : Jvm.MethodName) prog_35_method_15_code (2 : Nat) (Option.some Jvm.ClassFile.FieldType.int)) ∈ lw_all := lw_g (lw_at lw_m4 85 rfl) rfl
theorem q925 : (Jvm.Cond.classLink "java/lang/Enum" (2 : Nat) "java/lang/Enum") ∈ lw_all := lw_g (lw_at lw_m4 86 rfl) rfl
theorem q926 : (Jvm.Cond.methodLink "java/lang/Enum" (101 : Nat) ({ cls := "java/lang/Enum", name := "compareTo", desc := "(Ljava/lang/Enum;)I" } : Jvm.MethodName)) ∈ lw_all := lw_g (lw_at lw_m4 87 rfl) rfl
theorem q927 : (Jvm.Cond.instanceMethod ({ cls := "java/lang/Enum", name := "compareTo", desc := "(Ljava/lang/Enum;)I" } : Jvm.MethodName)) ∈ lw_all := lw_g (lw_at lw_m4 88 rfl) rfl
theorem q928 : (Jvm.Cond.sameMethod "java/lang/Enum" "java/lang/Enum" "compareTo" "(Ljava/lang/Enum;)I") ∈ lw_all := lw_g (lw_at lw_m4 89 rfl) rfl
theorem q934 : (Jvm.Cond.code ({ cls := "java/lang/Enum", name := "compareTo", desc := "(Ljava/lang/Enum;)I" } : Jvm.MethodName) prog_35_method_8_code (4 : Nat) (Option.some Jvm.ClassFile.FieldType.int)) ∈ lw_all := lw_g (lw_at lw_m4 95 rfl) rfl
theorem q935 : (Jvm.Cond.methodLink "java/lang/Enum" (29 : Nat) ({ cls := "java/lang/Object", name := "getClass", desc := "()Ljava/lang/Class;" } : Jvm.MethodName)) ∈ lw_all := lw_g (lw_at lw_m4 96 rfl) rfl
theorem q936 : (Jvm.Cond.methodLink "java/lang/Enum" (33 : Nat) ({ cls := "java/lang/Enum", name := "getDeclaringClass", desc := "()Ljava/lang/Class;" } : Jvm.MethodName)) ∈ lw_all := lw_g (lw_at lw_m4 97 rfl) rfl
theorem q937 : (Jvm.Cond.instanceMethod ({ cls := "java/lang/Enum", name := "getDeclaringClass", desc := "()Ljava/lang/Class;" } : Jvm.MethodName)) ∈ lw_all := lw_g (lw_at lw_m4 98 rfl) rfl
theorem q938 : (Jvm.Cond.sameMethod "java/lang/Enum" "java/lang/Enum" "getDeclaringClass" "()Ljava/lang/Class;") ∈ lw_all := lw_g (lw_at lw_m4 99 rfl) rfl
theorem q944 : (Jvm.Cond.code ({ cls := "java/lang/Enum", name := "getDeclaringClass", desc := "()Ljava/lang/Class;" } : Jvm.MethodName) prog_35_method_9_code (3 : Nat) (Option.some (Jvm.ClassFile.FieldType.object "java/lang/Class"))) ∈ lw_all := lw_g (lw_at lw_m4 105 rfl) rfl
theorem q1173 : (Jvm.Cond.instanceMethod ({ cls := "java/lang/Enum", name := "equals", desc := "(Ljava/lang/Object;)Z" } : Jvm.MethodName)) ∈ lw_all := lw_g (lw_at lw_m5 94 rfl) rfl
theorem q1174 : (Jvm.Cond.code ({ cls := "java/lang/Enum", name := "equals", desc := "(Ljava/lang/Object;)Z" } : Jvm.MethodName) prog_35_method_5_code (2 : Nat) (Option.some Jvm.ClassFile.FieldType.boolean)) ∈ lw_all := lw_g (lw_at lw_m5 95 rfl) rfl
theorem q3486 : (Jvm.Cond.fieldLink "java/lang/Enum" (17 : Nat) "java/lang/Enum" "hash" "I") ∈ lw_all := lw_g (lw_at lw_m15 7 rfl) rfl
theorem q3487 : (Jvm.Cond.fieldLink "java/lang/Enum" (7 : Nat) "java/lang/Enum" "ordinal" "I") ∈ lw_all := lw_g (lw_at lw_m15 8 rfl) rfl
/-! java/util/Objects -/
set_option maxRecDepth 100000
def RJ28 : String := "java/util/Objects"
abbrev cJ28_checkIndex : ByteArray := prog_72_method_17_code
def yJ28_checkIndex : MethodName := ⟨RJ28, "checkIndex", "(II)I"⟩
def dkwJ28_checkIndex_0 : List UInt8 := [26, 27, 1, 184, 0, 105, 172]
abbrev dktJ28_checkIndex_0 : List UInt8 := dkwJ28_checkIndex_0 ++ []
theorem dksJ28_checkIndex_0 : cJ28_checkIndex.data.toList.drop 0 = dktJ28_checkIndex_0 := by decide +kernel
theorem dJ28_checkIndex_0 : decode cJ28_checkIndex 0 = .ok (.iload_n 0, 1) := dk_26 (dk_at dksJ28_checkIndex_0 0 rfl rfl)
theorem dJ28_checkIndex_1 : decode cJ28_checkIndex 1 = .ok (.iload_n 1, 1) := dk_27 (dk_at dksJ28_checkIndex_0 1 rfl rfl)
theorem dJ28_checkIndex_2 : decode cJ28_checkIndex 2 = .ok (.aconst_null, 1) := dk_1 (dk_at dksJ28_checkIndex_0 2 rfl rfl)
theorem dJ28_checkIndex_3 : decode cJ28_checkIndex 3 = .ok (.invokestatic 105, 3) := dk_184 0 105 (dk_at dksJ28_checkIndex_0 3 rfl rfl)
theorem dJ28_checkIndex_6 : decode cJ28_checkIndex 6 = .ok (.ireturn, 1) := dk_172 (dk_at dksJ28_checkIndex_0 6 rfl rfl)
theorem q158 : (Jvm.Cond.initialized "java/util/Objects") ∈ lw_all := lw_g (lw_at lw_m1 39 rfl) rfl
theorem q1582 : (Jvm.Cond.static ({ cls := "java/util/Objects", name := "checkIndex", desc := "(II)I" } : Jvm.MethodName)) ∈ lw_all := lw_g (lw_at lw_m7 23 rfl) rfl
theorem q1583 : (Jvm.Cond.code ({ cls := "java/util/Objects", name := "checkIndex", desc := "(II)I" } : Jvm.MethodName) prog_72_method_17_code (2 : Nat) (Option.some Jvm.ClassFile.FieldType.int)) ∈ lw_all := lw_g (lw_at lw_m7 24 rfl) rfl
theorem q1584 : (Jvm.Cond.methodLink "java/util/Objects" (105 : Nat) ({ cls := "jdk/internal/util/Preconditions", name := "checkIndex", desc := "(IILjava/util/function/BiFunction;)I" } : Jvm.MethodName)) ∈ lw_all := lw_g (lw_at lw_m7 25 rfl) rfl
/-! java/lang/Object -/
set_option maxRecDepth 100000
def RJ29 : String := "java/lang/Object"
abbrev cJ29_init : ByteArray := object_method_1_code
def yJ29_init : MethodName := ⟨RJ29, "<init>", "()V"⟩
theorem dJ29_init_0 : decode cJ29_init 0 = .ok (.return_, 1) := by decide +kernel
abbrev cJ29_equals : ByteArray := object_method_4_code
def yJ29_equals : MethodName := ⟨RJ29, "equals", "(Ljava/lang/Object;)Z"⟩
def dkwJ29_equals_0 : List UInt8 := [42, 43, 166, 0, 7, 4, 167, 0, 4, 3, 172]
abbrev dktJ29_equals_0 : List UInt8 := dkwJ29_equals_0 ++ []
theorem dksJ29_equals_0 : cJ29_equals.data.toList.drop 0 = dktJ29_equals_0 := by decide +kernel
theorem dJ29_equals_0 : decode cJ29_equals 0 = .ok (.aload_n 0, 1) := dk_42 (dk_at dksJ29_equals_0 0 rfl rfl)
theorem dJ29_equals_1 : decode cJ29_equals 1 = .ok (.aload_n 1, 1) := dk_43 (dk_at dksJ29_equals_0 1 rfl rfl)
theorem dJ29_equals_2 : decode cJ29_equals 2 = .ok (.if_acmp .ne 7, 3) := dk_166 0 7 (dk_at dksJ29_equals_0 2 rfl rfl)
theorem dJ29_equals_5 : decode cJ29_equals 5 = .ok (.iconst 1, 1) := dk_4 (dk_at dksJ29_equals_0 5 rfl rfl)
theorem dJ29_equals_6 : decode cJ29_equals 6 = .ok (.goto 4, 3) := dk_167 0 4 (dk_at dksJ29_equals_0 6 rfl rfl)
theorem dJ29_equals_9 : decode cJ29_equals 9 = .ok (.iconst 0, 1) := dk_3 (dk_at dksJ29_equals_0 9 rfl rfl)
theorem dJ29_equals_10 : decode cJ29_equals 10 = .ok (.ireturn, 1) := dk_172 (dk_at dksJ29_equals_0 10 rfl rfl)
theorem q180 : (Jvm.Cond.instanceMethod ({ cls := "java/lang/Object", name := "<init>", desc := "()V" } : Jvm.MethodName)) ∈ lw_all := lw_g (lw_at lw_m1 61 rfl) rfl
theorem q181 : (Jvm.Cond.code ({ cls := "java/lang/Object", name := "<init>", desc := "()V" } : Jvm.MethodName) object_method_1_code (1 : Nat) (Option.none : Option Jvm.ClassFile.FieldType)) ∈ lw_all := lw_g (lw_at lw_m1 62 rfl) rfl
theorem q330 : (Jvm.Cond.native ({ cls := "java/lang/Object", name := "clone", desc := "()Ljava/lang/Object;" } : Jvm.MethodName)) ∈ lw_all := lw_g (lw_at lw_m1 211 rfl) rfl
theorem q331 : (Jvm.Cond.instanceMethod ({ cls := "java/lang/Object", name := "clone", desc := "()Ljava/lang/Object;" } : Jvm.MethodName)) ∈ lw_all := lw_g (lw_at lw_m1 212 rfl) rfl
theorem q689 : (Jvm.Cond.instanceMethod ({ cls := "java/lang/Object", name := "getClass", desc := "()Ljava/lang/Class;" } : Jvm.MethodName)) ∈ lw_all := lw_g (lw_at lw_m3 90 rfl) rfl
theorem q690 : (Jvm.Cond.sameMethod "java/lang/Object" "java/lang/Object" "getClass" "()Ljava/lang/Class;") ∈ lw_all := lw_g (lw_at lw_m3 91 rfl) rfl
theorem q727 : (Jvm.Cond.native ({ cls := "java/lang/Object", name := "getClass", desc := "()Ljava/lang/Class;" } : Jvm.MethodName)) ∈ lw_all := lw_g (lw_at lw_m3 128 rfl) rfl
theorem q747 : (Jvm.Cond.declares ({ cls := "java/lang/Object", name := "hashCode", desc := "()I" } : Jvm.MethodName)) ∈ lw_tbl := lw_at lw_m3 148 rfl
theorem q749 : (Jvm.Cond.instanceMethod ({ cls := "java/lang/Object", name := "hashCode", desc := "()I" } : Jvm.MethodName)) ∈ lw_all := lw_g (lw_at lw_m3 150 rfl) rfl
theorem q750 : (Jvm.Cond.sameMethod "java/lang/Object" "java/lang/Object" "hashCode" "()I") ∈ lw_all := lw_g (lw_at lw_m3 151 rfl) rfl
theorem q844 : (Jvm.Cond.native ({ cls := "java/lang/Object", name := "hashCode", desc := "()I" } : Jvm.MethodName)) ∈ lw_all := lw_g (lw_at lw_m4 5 rfl) rfl
theorem q1154 : (Jvm.Cond.declares ({ cls := "java/lang/Object", name := "equals", desc := "(Ljava/lang/Object;)Z" } : Jvm.MethodName)) ∈ lw_tbl := lw_at lw_m5 75 rfl
theorem q1156 : (Jvm.Cond.instanceMethod ({ cls := "java/lang/Object", name := "equals", desc := "(Ljava/lang/Object;)Z" } : Jvm.MethodName)) ∈ lw_all := lw_g (lw_at lw_m5 77 rfl) rfl
theorem q1157 : (Jvm.Cond.sameMethod "java/lang/Object" "java/lang/Object" "equals" "(Ljava/lang/Object;)Z") ∈ lw_all := lw_g (lw_at lw_m5 78 rfl) rfl
theorem q1194 : (Jvm.Cond.code ({ cls := "java/lang/Object", name := "equals", desc := "(Ljava/lang/Object;)Z" } : Jvm.MethodName) object_method_4_code (2 : Nat) (Option.some Jvm.ClassFile.FieldType.boolean)) ∈ lw_all := lw_g (lw_at lw_m5 115 rfl) rfl
theorem q1297 : (Jvm.Cond.declares ({ cls := "java/lang/Object", name := "getClass", desc := "()Ljava/lang/Class;" } : Jvm.MethodName)) ∈ lw_tbl := lw_at lw_m5 218 rfl
theorem q1299 : (Jvm.Cond.publicMethod ({ cls := "java/lang/Object", name := "getClass", desc := "()Ljava/lang/Class;" } : Jvm.MethodName)) ∈ lw_tbl := lw_at lw_m5 220 rfl
theorem q3416 : (Jvm.Cond.initialized "java/lang/Object") ∈ lw_all := lw_g (lw_at lw_m14 177 rfl) rfl
/-! java/lang/System$2 -/
set_option maxRecDepth 100000
def RJ30 : String := "java/lang/System$2"
abbrev cJ30_getUTF16Char : ByteArray := prog_49_method_45_code
def yJ30_getUTF16Char : MethodName := ⟨RJ30, "getUTF16Char", "([BI)C"⟩
def dkwJ30_getUTF16Char_0 : List UInt8 := [43, 28, 184, 0, 185, 172]
abbrev dktJ30_getUTF16Char_0 : List UInt8 := dkwJ30_getUTF16Char_0 ++ []
theorem dksJ30_getUTF16Char_0 : cJ30_getUTF16Char.data.toList.drop 0 = dktJ30_getUTF16Char_0 := by decide +kernel
theorem dJ30_getUTF16Char_0 : decode cJ30_getUTF16Char 0 = .ok (.aload_n 1, 1) := dk_43 (dk_at dksJ30_getUTF16Char_0 0 rfl rfl)
theorem dJ30_getUTF16Char_1 : decode cJ30_getUTF16Char 1 = .ok (.iload_n 2, 1) := dk_28 (dk_at dksJ30_getUTF16Char_0 1 rfl rfl)
theorem dJ30_getUTF16Char_2 : decode cJ30_getUTF16Char 2 = .ok (.invokestatic 185, 3) := dk_184 0 185 (dk_at dksJ30_getUTF16Char_0 2 rfl rfl)
theorem dJ30_getUTF16Char_5 : decode cJ30_getUTF16Char 5 = .ok (.ireturn, 1) := dk_172 (dk_at dksJ30_getUTF16Char_0 5 rfl rfl)
theorem q718 : (Jvm.Cond.selects "java/lang/System$2" ({ cls := "java/lang/Object", name := "getClass", desc := "()Ljava/lang/Class;" } : Jvm.MethodName) ({ cls := "java/lang/Object", name := "getClass", desc := "()Ljava/lang/Class;" } : Jvm.MethodName)) ∈ lw_all := lw_g (lw_at lw_m3 119 rfl) rfl
theorem q807 : (Jvm.Cond.castable "java/lang/System$2" "jdk/internal/access/JavaLangAccess") ∈ lw_tbl := lw_at lw_m3 208 rfl
theorem q808 : (Jvm.Cond.selects "java/lang/System$2" ({ cls := "jdk/internal/access/JavaLangAccess", name := "getUTF16Char", desc := "([BI)C" } : Jvm.MethodName) ({ cls := "java/lang/System$2", name := "getUTF16Char", desc := "([BI)C" } : Jvm.MethodName)) ∈ lw_all := lw_g (lw_at lw_m3 209 rfl) rfl
theorem q809 : (Jvm.Cond.unhidden "java/lang/System$2" "getUTF16Char" "([BI)C") ∈ lw_tbl := lw_at lw_m3 210 rfl
theorem q810 : (Jvm.Cond.instanceMethod ({ cls := "java/lang/System$2", name := "getUTF16Char", desc := "([BI)C" } : Jvm.MethodName)) ∈ lw_all := lw_g (lw_at lw_m3 211 rfl) rfl
theorem q811 : (Jvm.Cond.publicMethod ({ cls := "java/lang/System$2", name := "getUTF16Char", desc := "([BI)C" } : Jvm.MethodName)) ∈ lw_tbl := lw_at lw_m3 212 rfl
theorem q812 : (Jvm.Cond.code ({ cls := "java/lang/System$2", name := "getUTF16Char", desc := "([BI)C" } : Jvm.MethodName) prog_49_method_45_code (3 : Nat) (Option.some Jvm.ClassFile.FieldType.char)) ∈ lw_all := lw_g (lw_at lw_m3 213 rfl) rfl
theorem q813 : (Jvm.Cond.methodLink "java/lang/System$2" (185 : Nat) ({ cls := "java/lang/StringUTF16", name := "getChar", desc := "([BI)C" } : Jvm.MethodName)) ∈ lw_all := lw_g (lw_at lw_m3 214 rfl) rfl
theorem q842 : (Jvm.Cond.selects "java/lang/System$2" ({ cls := "java/lang/Object", name := "hashCode", desc := "()I" } : Jvm.MethodName) ({ cls := "java/lang/Object", name := "hashCode", desc := "()I" } : Jvm.MethodName)) ∈ lw_all := lw_g (lw_at lw_m4 3 rfl) rfl
theorem q1192 : (Jvm.Cond.selects "java/lang/System$2" ({ cls := "java/lang/Object", name := "equals", desc := "(Ljava/lang/Object;)Z" } : Jvm.MethodName) ({ cls := "java/lang/Object", name := "equals", desc := "(Ljava/lang/Object;)Z" } : Jvm.MethodName)) ∈ lw_all := lw_g (lw_at lw_m5 113 rfl) rfl
theorem q3443 : (Jvm.Cond.castable "java/lang/System$2" "java/lang/Object") ∈ lw_tbl := lw_at lw_m14 204 rfl
