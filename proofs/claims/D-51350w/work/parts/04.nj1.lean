/-! java/util/AbstractCollection -/
set_option maxRecDepth 100000
def RJ0 : String := "java/util/AbstractCollection"
abbrev cJ0_init : ByteArray := prog_53_method_1_code
def yJ0_init : MethodName := ⟨RJ0, "<init>", "()V"⟩
theorem dJ0_init_0 : decode cJ0_init 0 = .ok (.aload_n 0, 1) := by decide +kernel
theorem dJ0_init_1 : decode cJ0_init 1 = .ok (.invokespecial 1, 3) := by decide +kernel
theorem dJ0_init_4 : decode cJ0_init 4 = .ok (.return_, 1) := by decide +kernel
theorem q121 : (Jvm.Cond.initialized "java/util/AbstractCollection") ∈ lw_all := lw_g (lw_at lw_m1 2 rfl) rfl
theorem q188 : (Jvm.Cond.instanceMethod ({ cls := "java/util/AbstractCollection", name := "<init>", desc := "()V" } : Jvm.MethodName)) ∈ lw_all := lw_g (lw_at lw_m1 69 rfl) rfl
theorem q189 : (Jvm.Cond.code ({ cls := "java/util/AbstractCollection", name := "<init>", desc := "()V" } : Jvm.MethodName) prog_53_method_1_code (1 : Nat) (Option.none : Option Jvm.ClassFile.FieldType)) ∈ lw_all := lw_g (lw_at lw_m1 70 rfl) rfl
theorem q190 : (Jvm.Cond.methodLink "java/util/AbstractCollection" (1 : Nat) ({ cls := "java/lang/Object", name := "<init>", desc := "()V" } : Jvm.MethodName)) ∈ lw_all := lw_g (lw_at lw_m1 71 rfl) rfl
/-! java/util/ArrayDeque -/
set_option maxRecDepth 100000
def RJ1 : String := "java/util/ArrayDeque"
def TJ1 : u_T := fun k => match k with
  | 0 => ("java/util/ArrayDeque", "elements", "[Ljava/lang/Object;", false)
  | 1 => ("java/util/ArrayDeque", "head", "I", false)
  | _ => ("java/util/ArrayDeque", "tail", "I", false)
def tyJ1 : Nat → FieldType := fun k => match k with
  | 0 => .array (.object "java/lang/Object")
  | 1 => .int
  | _ => .int
abbrev wsJ10 : List Cond := u_ws RJ1 TJ1 3
theorem nmJ1 : ∀ a, a < 3 → ∀ b, b < 3 → a ≠ b → (TJ1 a).2.1 ≠ (TJ1 b).2.1 := by decide +kernel
theorem tyJ1_ok : ∀ k, k < 3 → parseFieldDescriptor (TJ1 k).2.2.1 = some (tyJ1 k) := by decide +kernel
abbrev cJ1_init : ByteArray := prog_56_method_3_code
def yJ1_init : MethodName := ⟨RJ1, "<init>", "()V"⟩
def dkwJ1_init_0 : List UInt8 := [42, 183, 0, 42, 42, 16, 17, 189, 0, 47, 181, 0, 3, 177]
abbrev dktJ1_init_0 : List UInt8 := dkwJ1_init_0 ++ []
theorem dksJ1_init_0 : cJ1_init.data.toList.drop 0 = dktJ1_init_0 := by decide +kernel
theorem dJ1_init_0 : decode cJ1_init 0 = .ok (.aload_n 0, 1) := dk_42 (dk_at dksJ1_init_0 0 rfl rfl)
theorem dJ1_init_1 : decode cJ1_init 1 = .ok (.invokespecial 42, 3) := dk_183 0 42 (dk_at dksJ1_init_0 1 rfl rfl)
theorem dJ1_init_4 : decode cJ1_init 4 = .ok (.aload_n 0, 1) := dk_42 (dk_at dksJ1_init_0 4 rfl rfl)
theorem dJ1_init_5 : decode cJ1_init 5 = .ok (.bipush 17, 2) := dk_16 17 (dk_at dksJ1_init_0 5 rfl rfl)
theorem dJ1_init_7 : decode cJ1_init 7 = .ok (.anewarray 47, 3) := dk_189 0 47 (dk_at dksJ1_init_0 7 rfl rfl)
theorem dJ1_init_10 : decode cJ1_init 10 = .ok (.putfield 3, 3) := dk_181 0 3 (dk_at dksJ1_init_0 10 rfl rfl)
theorem dJ1_init_13 : decode cJ1_init 13 = .ok (.return_, 1) := dk_177 (dk_at dksJ1_init_0 13 rfl rfl)
abbrev cJ1_toArray : ByteArray := prog_56_method_55_code
def yJ1_toArray : MethodName := ⟨RJ1, "toArray", "()[Ljava/lang/Object;"⟩
def dkwJ1_toArray_0 : List UInt8 := [42, 18, 188, 182, 0, 189, 176]
abbrev dktJ1_toArray_0 : List UInt8 := dkwJ1_toArray_0 ++ []
theorem dksJ1_toArray_0 : cJ1_toArray.data.toList.drop 0 = dktJ1_toArray_0 := by decide +kernel
theorem dJ1_toArray_0 : decode cJ1_toArray 0 = .ok (.aload_n 0, 1) := dk_42 (dk_at dksJ1_toArray_0 0 rfl rfl)
theorem dJ1_toArray_1 : decode cJ1_toArray 1 = .ok (.ldc 188, 2) := dk_18 188 (dk_at dksJ1_toArray_0 1 rfl rfl)
theorem dJ1_toArray_3 : decode cJ1_toArray 3 = .ok (.invokevirtual 189, 3) := dk_182 0 189 (dk_at dksJ1_toArray_0 3 rfl rfl)
theorem dJ1_toArray_6 : decode cJ1_toArray 6 = .ok (.areturn, 1) := dk_176 (dk_at dksJ1_toArray_0 6 rfl rfl)
abbrev cJ1_toArray_2 : ByteArray := prog_56_method_56_code
def yJ1_toArray_2 : MethodName := ⟨RJ1, "toArray", "(Ljava/lang/Class;)[Ljava/lang/Object;"⟩
def dkwJ1_toArray_2_4 : List UInt8 := [21, 5, 184, 0, 27, 45, 176]
abbrev dktJ1_toArray_2_4 : List UInt8 := dkwJ1_toArray_2_4 ++ []
def dkwJ1_toArray_2_3 : List UInt8 := [44, 190, 21, 4, 100, 184, 0, 27, 21, 6, 21, 5, 159, 0, 16, 44, 3, 45, 44, 190, 21, 4, 100]
abbrev dktJ1_toArray_2_3 : List UInt8 := dkwJ1_toArray_2_3 ++ dktJ1_toArray_2_4
def dkwJ1_toArray_2_2 : List UInt8 := [184, 0, 193, 78, 167, 0, 28, 44, 3, 21, 6, 21, 4, 100, 43, 184, 0, 193, 78, 44, 21, 4, 45, 3]
abbrev dktJ1_toArray_2_2 : List UInt8 := dkwJ1_toArray_2_2 ++ dktJ1_toArray_2_3
def dkwJ1_toArray_2_1 : List UInt8 := [163, 0, 7, 3, 167, 0, 5, 44, 190, 96, 89, 54, 6, 155, 0, 16, 44, 21, 4, 21, 6, 43]
abbrev dktJ1_toArray_2_1 : List UInt8 := dkwJ1_toArray_2_1 ++ dktJ1_toArray_2_2
def dkwJ1_toArray_2_0 : List UInt8 := [42, 180, 0, 3, 77, 42, 180, 0, 24, 54, 4, 42, 180, 0, 20, 54, 5, 21, 5, 21, 4, 21, 5]
abbrev dktJ1_toArray_2_0 : List UInt8 := dkwJ1_toArray_2_0 ++ dktJ1_toArray_2_1
theorem dksJ1_toArray_2_0 : cJ1_toArray_2.data.toList.drop 0 = dktJ1_toArray_2_0 := by decide +kernel
theorem dksJ1_toArray_2_1 : cJ1_toArray_2.data.toList.drop 23 = dktJ1_toArray_2_1 := dk_seg dksJ1_toArray_2_0 23 rfl rfl
theorem dksJ1_toArray_2_2 : cJ1_toArray_2.data.toList.drop 45 = dktJ1_toArray_2_2 := dk_seg dksJ1_toArray_2_1 22 rfl rfl
theorem dksJ1_toArray_2_3 : cJ1_toArray_2.data.toList.drop 69 = dktJ1_toArray_2_3 := dk_seg dksJ1_toArray_2_2 24 rfl rfl
theorem dksJ1_toArray_2_4 : cJ1_toArray_2.data.toList.drop 92 = dktJ1_toArray_2_4 := dk_seg dksJ1_toArray_2_3 23 rfl rfl
theorem dJ1_toArray_2_0 : decode cJ1_toArray_2 0 = .ok (.aload_n 0, 1) := dk_42 (dk_at dksJ1_toArray_2_0 0 rfl rfl)
theorem dJ1_toArray_2_1 : decode cJ1_toArray_2 1 = .ok (.getfield 3, 3) := dk_180 0 3 (dk_at dksJ1_toArray_2_0 1 rfl rfl)
theorem dJ1_toArray_2_4 : decode cJ1_toArray_2 4 = .ok (.astore_n 2, 1) := dk_77 (dk_at dksJ1_toArray_2_0 4 rfl rfl)
theorem dJ1_toArray_2_5 : decode cJ1_toArray_2 5 = .ok (.aload_n 0, 1) := dk_42 (dk_at dksJ1_toArray_2_0 5 rfl rfl)
theorem dJ1_toArray_2_6 : decode cJ1_toArray_2 6 = .ok (.getfield 24, 3) := dk_180 0 24 (dk_at dksJ1_toArray_2_0 6 rfl rfl)
theorem dJ1_toArray_2_9 : decode cJ1_toArray_2 9 = .ok (.istore 4, 2) := dk_54 4 (dk_at dksJ1_toArray_2_0 9 rfl rfl)
theorem dJ1_toArray_2_11 : decode cJ1_toArray_2 11 = .ok (.aload_n 0, 1) := dk_42 (dk_at dksJ1_toArray_2_0 11 rfl rfl)
theorem dJ1_toArray_2_12 : decode cJ1_toArray_2 12 = .ok (.getfield 20, 3) := dk_180 0 20 (dk_at dksJ1_toArray_2_0 12 rfl rfl)
theorem dJ1_toArray_2_15 : decode cJ1_toArray_2 15 = .ok (.istore 5, 2) := dk_54 5 (dk_at dksJ1_toArray_2_0 15 rfl rfl)
theorem dJ1_toArray_2_17 : decode cJ1_toArray_2 17 = .ok (.iload 5, 2) := dk_21 5 (dk_at dksJ1_toArray_2_0 17 rfl rfl)
theorem dJ1_toArray_2_19 : decode cJ1_toArray_2 19 = .ok (.iload 4, 2) := dk_21 4 (dk_at dksJ1_toArray_2_0 19 rfl rfl)
theorem dJ1_toArray_2_21 : decode cJ1_toArray_2 21 = .ok (.iload 5, 2) := dk_21 5 (dk_at dksJ1_toArray_2_0 21 rfl rfl)
theorem dJ1_toArray_2_23 : decode cJ1_toArray_2 23 = .ok (.if_icmp .gt 7, 3) := dk_163 0 7 (dk_at dksJ1_toArray_2_1 0 rfl rfl)
theorem dJ1_toArray_2_26 : decode cJ1_toArray_2 26 = .ok (.iconst 0, 1) := dk_3 (dk_at dksJ1_toArray_2_1 3 rfl rfl)
theorem dJ1_toArray_2_27 : decode cJ1_toArray_2 27 = .ok (.goto 5, 3) := dk_167 0 5 (dk_at dksJ1_toArray_2_1 4 rfl rfl)
theorem dJ1_toArray_2_30 : decode cJ1_toArray_2 30 = .ok (.aload_n 2, 1) := dk_44 (dk_at dksJ1_toArray_2_1 7 rfl rfl)
theorem dJ1_toArray_2_31 : decode cJ1_toArray_2 31 = .ok (.arraylength, 1) := dk_190 (dk_at dksJ1_toArray_2_1 8 rfl rfl)
theorem dJ1_toArray_2_32 : decode cJ1_toArray_2 32 = .ok (.iadd, 1) := dk_96 (dk_at dksJ1_toArray_2_1 9 rfl rfl)
theorem dJ1_toArray_2_33 : decode cJ1_toArray_2 33 = .ok (.dup, 1) := dk_89 (dk_at dksJ1_toArray_2_1 10 rfl rfl)
theorem dJ1_toArray_2_34 : decode cJ1_toArray_2 34 = .ok (.istore 6, 2) := dk_54 6 (dk_at dksJ1_toArray_2_1 11 rfl rfl)
theorem dJ1_toArray_2_36 : decode cJ1_toArray_2 36 = .ok (.ifCond .lt 16, 3) := dk_155 0 16 (dk_at dksJ1_toArray_2_1 13 rfl rfl)
theorem dJ1_toArray_2_39 : decode cJ1_toArray_2 39 = .ok (.aload_n 2, 1) := dk_44 (dk_at dksJ1_toArray_2_1 16 rfl rfl)
theorem dJ1_toArray_2_40 : decode cJ1_toArray_2 40 = .ok (.iload 4, 2) := dk_21 4 (dk_at dksJ1_toArray_2_1 17 rfl rfl)
theorem dJ1_toArray_2_42 : decode cJ1_toArray_2 42 = .ok (.iload 6, 2) := dk_21 6 (dk_at dksJ1_toArray_2_1 19 rfl rfl)
theorem dJ1_toArray_2_44 : decode cJ1_toArray_2 44 = .ok (.aload_n 1, 1) := dk_43 (dk_at dksJ1_toArray_2_1 21 rfl rfl)
theorem dJ1_toArray_2_45 : decode cJ1_toArray_2 45 = .ok (.invokestatic 193, 3) := dk_184 0 193 (dk_at dksJ1_toArray_2_2 0 rfl rfl)
theorem dJ1_toArray_2_48 : decode cJ1_toArray_2 48 = .ok (.astore_n 3, 1) := dk_78 (dk_at dksJ1_toArray_2_2 3 rfl rfl)
theorem dJ1_toArray_2_49 : decode cJ1_toArray_2 49 = .ok (.goto 28, 3) := dk_167 0 28 (dk_at dksJ1_toArray_2_2 4 rfl rfl)
theorem dJ1_toArray_2_52 : decode cJ1_toArray_2 52 = .ok (.aload_n 2, 1) := dk_44 (dk_at dksJ1_toArray_2_2 7 rfl rfl)
theorem dJ1_toArray_2_53 : decode cJ1_toArray_2 53 = .ok (.iconst 0, 1) := dk_3 (dk_at dksJ1_toArray_2_2 8 rfl rfl)
theorem dJ1_toArray_2_54 : decode cJ1_toArray_2 54 = .ok (.iload 6, 2) := dk_21 6 (dk_at dksJ1_toArray_2_2 9 rfl rfl)
theorem dJ1_toArray_2_56 : decode cJ1_toArray_2 56 = .ok (.iload 4, 2) := dk_21 4 (dk_at dksJ1_toArray_2_2 11 rfl rfl)
theorem dJ1_toArray_2_58 : decode cJ1_toArray_2 58 = .ok (.isub, 1) := dk_100 (dk_at dksJ1_toArray_2_2 13 rfl rfl)
theorem dJ1_toArray_2_59 : decode cJ1_toArray_2 59 = .ok (.aload_n 1, 1) := dk_43 (dk_at dksJ1_toArray_2_2 14 rfl rfl)
theorem dJ1_toArray_2_60 : decode cJ1_toArray_2 60 = .ok (.invokestatic 193, 3) := dk_184 0 193 (dk_at dksJ1_toArray_2_2 15 rfl rfl)
theorem dJ1_toArray_2_63 : decode cJ1_toArray_2 63 = .ok (.astore_n 3, 1) := dk_78 (dk_at dksJ1_toArray_2_2 18 rfl rfl)
theorem dJ1_toArray_2_64 : decode cJ1_toArray_2 64 = .ok (.aload_n 2, 1) := dk_44 (dk_at dksJ1_toArray_2_2 19 rfl rfl)
theorem dJ1_toArray_2_65 : decode cJ1_toArray_2 65 = .ok (.iload 4, 2) := dk_21 4 (dk_at dksJ1_toArray_2_2 20 rfl rfl)
theorem dJ1_toArray_2_67 : decode cJ1_toArray_2 67 = .ok (.aload_n 3, 1) := dk_45 (dk_at dksJ1_toArray_2_2 22 rfl rfl)
theorem dJ1_toArray_2_68 : decode cJ1_toArray_2 68 = .ok (.iconst 0, 1) := dk_3 (dk_at dksJ1_toArray_2_2 23 rfl rfl)
theorem dJ1_toArray_2_69 : decode cJ1_toArray_2 69 = .ok (.aload_n 2, 1) := dk_44 (dk_at dksJ1_toArray_2_3 0 rfl rfl)
theorem dJ1_toArray_2_70 : decode cJ1_toArray_2 70 = .ok (.arraylength, 1) := dk_190 (dk_at dksJ1_toArray_2_3 1 rfl rfl)
theorem dJ1_toArray_2_71 : decode cJ1_toArray_2 71 = .ok (.iload 4, 2) := dk_21 4 (dk_at dksJ1_toArray_2_3 2 rfl rfl)
theorem dJ1_toArray_2_73 : decode cJ1_toArray_2 73 = .ok (.isub, 1) := dk_100 (dk_at dksJ1_toArray_2_3 4 rfl rfl)
theorem dJ1_toArray_2_74 : decode cJ1_toArray_2 74 = .ok (.invokestatic 27, 3) := dk_184 0 27 (dk_at dksJ1_toArray_2_3 5 rfl rfl)
theorem dJ1_toArray_2_77 : decode cJ1_toArray_2 77 = .ok (.iload 6, 2) := dk_21 6 (dk_at dksJ1_toArray_2_3 8 rfl rfl)
theorem dJ1_toArray_2_79 : decode cJ1_toArray_2 79 = .ok (.iload 5, 2) := dk_21 5 (dk_at dksJ1_toArray_2_3 10 rfl rfl)
theorem dJ1_toArray_2_81 : decode cJ1_toArray_2 81 = .ok (.if_icmp .eq 16, 3) := dk_159 0 16 (dk_at dksJ1_toArray_2_3 12 rfl rfl)
theorem dJ1_toArray_2_84 : decode cJ1_toArray_2 84 = .ok (.aload_n 2, 1) := dk_44 (dk_at dksJ1_toArray_2_3 15 rfl rfl)
theorem dJ1_toArray_2_85 : decode cJ1_toArray_2 85 = .ok (.iconst 0, 1) := dk_3 (dk_at dksJ1_toArray_2_3 16 rfl rfl)
theorem dJ1_toArray_2_86 : decode cJ1_toArray_2 86 = .ok (.aload_n 3, 1) := dk_45 (dk_at dksJ1_toArray_2_3 17 rfl rfl)
theorem dJ1_toArray_2_87 : decode cJ1_toArray_2 87 = .ok (.aload_n 2, 1) := dk_44 (dk_at dksJ1_toArray_2_3 18 rfl rfl)
theorem dJ1_toArray_2_88 : decode cJ1_toArray_2 88 = .ok (.arraylength, 1) := dk_190 (dk_at dksJ1_toArray_2_3 19 rfl rfl)
theorem dJ1_toArray_2_89 : decode cJ1_toArray_2 89 = .ok (.iload 4, 2) := dk_21 4 (dk_at dksJ1_toArray_2_3 20 rfl rfl)
theorem dJ1_toArray_2_91 : decode cJ1_toArray_2 91 = .ok (.isub, 1) := dk_100 (dk_at dksJ1_toArray_2_3 22 rfl rfl)
theorem dJ1_toArray_2_92 : decode cJ1_toArray_2 92 = .ok (.iload 5, 2) := dk_21 5 (dk_at dksJ1_toArray_2_4 0 rfl rfl)
theorem dJ1_toArray_2_94 : decode cJ1_toArray_2 94 = .ok (.invokestatic 27, 3) := dk_184 0 27 (dk_at dksJ1_toArray_2_4 2 rfl rfl)
theorem dJ1_toArray_2_97 : decode cJ1_toArray_2 97 = .ok (.aload_n 3, 1) := dk_45 (dk_at dksJ1_toArray_2_4 5 rfl rfl)
theorem dJ1_toArray_2_98 : decode cJ1_toArray_2 98 = .ok (.areturn, 1) := dk_176 (dk_at dksJ1_toArray_2_4 6 rfl rfl)
abbrev cJ1_size : ByteArray := prog_56_method_37_code
def yJ1_size : MethodName := ⟨RJ1, "size", "()I"⟩
def dkwJ1_size_0 : List UInt8 := [42, 180, 0, 20, 42, 180, 0, 24, 42, 180, 0, 3, 190, 184, 0, 127, 172]
abbrev dktJ1_size_0 : List UInt8 := dkwJ1_size_0 ++ []
theorem dksJ1_size_0 : cJ1_size.data.toList.drop 0 = dktJ1_size_0 := by decide +kernel
theorem dJ1_size_0 : decode cJ1_size 0 = .ok (.aload_n 0, 1) := dk_42 (dk_at dksJ1_size_0 0 rfl rfl)
theorem dJ1_size_1 : decode cJ1_size 1 = .ok (.getfield 20, 3) := dk_180 0 20 (dk_at dksJ1_size_0 1 rfl rfl)
theorem dJ1_size_4 : decode cJ1_size 4 = .ok (.aload_n 0, 1) := dk_42 (dk_at dksJ1_size_0 4 rfl rfl)
theorem dJ1_size_5 : decode cJ1_size 5 = .ok (.getfield 24, 3) := dk_180 0 24 (dk_at dksJ1_size_0 5 rfl rfl)
theorem dJ1_size_8 : decode cJ1_size 8 = .ok (.aload_n 0, 1) := dk_42 (dk_at dksJ1_size_0 8 rfl rfl)
theorem dJ1_size_9 : decode cJ1_size 9 = .ok (.getfield 3, 3) := dk_180 0 3 (dk_at dksJ1_size_0 9 rfl rfl)
theorem dJ1_size_12 : decode cJ1_size 12 = .ok (.arraylength, 1) := dk_190 (dk_at dksJ1_size_0 12 rfl rfl)
theorem dJ1_size_13 : decode cJ1_size 13 = .ok (.invokestatic 127, 3) := dk_184 0 127 (dk_at dksJ1_size_0 13 rfl rfl)
theorem dJ1_size_16 : decode cJ1_size 16 = .ok (.ireturn, 1) := dk_172 (dk_at dksJ1_size_0 16 rfl rfl)
abbrev cJ1_sub : ByteArray := prog_56_method_9_code
def yJ1_sub : MethodName := ⟨RJ1, "sub", "(III)I"⟩
def dkwJ1_sub_0 : List UInt8 := [26, 27, 100, 89, 59, 156, 0, 7, 26, 28, 96, 59, 26, 172]
abbrev dktJ1_sub_0 : List UInt8 := dkwJ1_sub_0 ++ []
theorem dksJ1_sub_0 : cJ1_sub.data.toList.drop 0 = dktJ1_sub_0 := by decide +kernel
theorem dJ1_sub_0 : decode cJ1_sub 0 = .ok (.iload_n 0, 1) := dk_26 (dk_at dksJ1_sub_0 0 rfl rfl)
theorem dJ1_sub_1 : decode cJ1_sub 1 = .ok (.iload_n 1, 1) := dk_27 (dk_at dksJ1_sub_0 1 rfl rfl)
theorem dJ1_sub_2 : decode cJ1_sub 2 = .ok (.isub, 1) := dk_100 (dk_at dksJ1_sub_0 2 rfl rfl)
theorem dJ1_sub_3 : decode cJ1_sub 3 = .ok (.dup, 1) := dk_89 (dk_at dksJ1_sub_0 3 rfl rfl)
theorem dJ1_sub_4 : decode cJ1_sub 4 = .ok (.istore_n 0, 1) := dk_59 (dk_at dksJ1_sub_0 4 rfl rfl)
theorem dJ1_sub_5 : decode cJ1_sub 5 = .ok (.ifCond .ge 7, 3) := dk_156 0 7 (dk_at dksJ1_sub_0 5 rfl rfl)
theorem dJ1_sub_8 : decode cJ1_sub 8 = .ok (.iload_n 0, 1) := dk_26 (dk_at dksJ1_sub_0 8 rfl rfl)
theorem dJ1_sub_9 : decode cJ1_sub 9 = .ok (.iload_n 2, 1) := dk_28 (dk_at dksJ1_sub_0 9 rfl rfl)
theorem dJ1_sub_10 : decode cJ1_sub 10 = .ok (.iadd, 1) := dk_96 (dk_at dksJ1_sub_0 10 rfl rfl)
theorem dJ1_sub_11 : decode cJ1_sub 11 = .ok (.istore_n 0, 1) := dk_59 (dk_at dksJ1_sub_0 11 rfl rfl)
theorem dJ1_sub_12 : decode cJ1_sub 12 = .ok (.iload_n 0, 1) := dk_26 (dk_at dksJ1_sub_0 12 rfl rfl)
theorem dJ1_sub_13 : decode cJ1_sub 13 = .ok (.ireturn, 1) := dk_172 (dk_at dksJ1_sub_0 13 rfl rfl)
abbrev cJ1_removeFirst : ByteArray := prog_56_method_18_code
def yJ1_removeFirst : MethodName := ⟨RJ1, "removeFirst", "()Ljava/lang/Object;"⟩
def dkwJ1_removeFirst_0 : List UInt8 := [42, 182, 0, 93, 76, 43, 199, 0, 11, 187, 0, 97, 89, 183, 0, 99, 191, 43, 176]
abbrev dktJ1_removeFirst_0 : List UInt8 := dkwJ1_removeFirst_0 ++ []
theorem dksJ1_removeFirst_0 : cJ1_removeFirst.data.toList.drop 0 = dktJ1_removeFirst_0 := by decide +kernel
theorem dJ1_removeFirst_0 : decode cJ1_removeFirst 0 = .ok (.aload_n 0, 1) := dk_42 (dk_at dksJ1_removeFirst_0 0 rfl rfl)
theorem dJ1_removeFirst_1 : decode cJ1_removeFirst 1 = .ok (.invokevirtual 93, 3) := dk_182 0 93 (dk_at dksJ1_removeFirst_0 1 rfl rfl)
theorem dJ1_removeFirst_4 : decode cJ1_removeFirst 4 = .ok (.astore_n 1, 1) := dk_76 (dk_at dksJ1_removeFirst_0 4 rfl rfl)
theorem dJ1_removeFirst_5 : decode cJ1_removeFirst 5 = .ok (.aload_n 1, 1) := dk_43 (dk_at dksJ1_removeFirst_0 5 rfl rfl)
theorem dJ1_removeFirst_6 : decode cJ1_removeFirst 6 = .ok (.ifnonnull 11, 3) := dk_199 0 11 (dk_at dksJ1_removeFirst_0 6 rfl rfl)
theorem dJ1_removeFirst_9 : decode cJ1_removeFirst 9 = .ok (.new 97, 3) := dk_187 0 97 (dk_at dksJ1_removeFirst_0 9 rfl rfl)
theorem dJ1_removeFirst_12 : decode cJ1_removeFirst 12 = .ok (.dup, 1) := dk_89 (dk_at dksJ1_removeFirst_0 12 rfl rfl)
theorem dJ1_removeFirst_13 : decode cJ1_removeFirst 13 = .ok (.invokespecial 99, 3) := dk_183 0 99 (dk_at dksJ1_removeFirst_0 13 rfl rfl)
theorem dJ1_removeFirst_16 : decode cJ1_removeFirst 16 = .ok (.athrow, 1) := dk_191 (dk_at dksJ1_removeFirst_0 16 rfl rfl)
theorem dJ1_removeFirst_17 : decode cJ1_removeFirst 17 = .ok (.aload_n 1, 1) := dk_43 (dk_at dksJ1_removeFirst_0 17 rfl rfl)
theorem dJ1_removeFirst_18 : decode cJ1_removeFirst 18 = .ok (.areturn, 1) := dk_176 (dk_at dksJ1_removeFirst_0 18 rfl rfl)
abbrev cJ1_pollFirst : ByteArray := prog_56_method_20_code
def yJ1_pollFirst : MethodName := ⟨RJ1, "pollFirst", "()Ljava/lang/Object;"⟩
def dkwJ1_pollFirst_1 : List UInt8 := [42, 28, 43, 190, 184, 0, 74, 181, 0, 24, 45, 176]
abbrev dktJ1_pollFirst_1 : List UInt8 := dkwJ1_pollFirst_1 ++ []
def dkwJ1_pollFirst_0 : List UInt8 := [42, 180, 0, 3, 89, 76, 42, 180, 0, 24, 89, 61, 184, 0, 103, 78, 45, 198, 0, 17, 43, 28, 1, 83]
abbrev dktJ1_pollFirst_0 : List UInt8 := dkwJ1_pollFirst_0 ++ dktJ1_pollFirst_1
theorem dksJ1_pollFirst_0 : cJ1_pollFirst.data.toList.drop 0 = dktJ1_pollFirst_0 := by decide +kernel
theorem dksJ1_pollFirst_1 : cJ1_pollFirst.data.toList.drop 24 = dktJ1_pollFirst_1 := dk_seg dksJ1_pollFirst_0 24 rfl rfl
theorem dJ1_pollFirst_0 : decode cJ1_pollFirst 0 = .ok (.aload_n 0, 1) := dk_42 (dk_at dksJ1_pollFirst_0 0 rfl rfl)
theorem dJ1_pollFirst_1 : decode cJ1_pollFirst 1 = .ok (.getfield 3, 3) := dk_180 0 3 (dk_at dksJ1_pollFirst_0 1 rfl rfl)
theorem dJ1_pollFirst_4 : decode cJ1_pollFirst 4 = .ok (.dup, 1) := dk_89 (dk_at dksJ1_pollFirst_0 4 rfl rfl)
theorem dJ1_pollFirst_5 : decode cJ1_pollFirst 5 = .ok (.astore_n 1, 1) := dk_76 (dk_at dksJ1_pollFirst_0 5 rfl rfl)
theorem dJ1_pollFirst_6 : decode cJ1_pollFirst 6 = .ok (.aload_n 0, 1) := dk_42 (dk_at dksJ1_pollFirst_0 6 rfl rfl)
theorem dJ1_pollFirst_7 : decode cJ1_pollFirst 7 = .ok (.getfield 24, 3) := dk_180 0 24 (dk_at dksJ1_pollFirst_0 7 rfl rfl)
theorem dJ1_pollFirst_10 : decode cJ1_pollFirst 10 = .ok (.dup, 1) := dk_89 (dk_at dksJ1_pollFirst_0 10 rfl rfl)
theorem dJ1_pollFirst_11 : decode cJ1_pollFirst 11 = .ok (.istore_n 2, 1) := dk_61 (dk_at dksJ1_pollFirst_0 11 rfl rfl)
theorem dJ1_pollFirst_12 : decode cJ1_pollFirst 12 = .ok (.invokestatic 103, 3) := dk_184 0 103 (dk_at dksJ1_pollFirst_0 12 rfl rfl)
theorem dJ1_pollFirst_15 : decode cJ1_pollFirst 15 = .ok (.astore_n 3, 1) := dk_78 (dk_at dksJ1_pollFirst_0 15 rfl rfl)
theorem dJ1_pollFirst_16 : decode cJ1_pollFirst 16 = .ok (.aload_n 3, 1) := dk_45 (dk_at dksJ1_pollFirst_0 16 rfl rfl)
theorem dJ1_pollFirst_17 : decode cJ1_pollFirst 17 = .ok (.ifnull 17, 3) := dk_198 0 17 (dk_at dksJ1_pollFirst_0 17 rfl rfl)
theorem dJ1_pollFirst_20 : decode cJ1_pollFirst 20 = .ok (.aload_n 1, 1) := dk_43 (dk_at dksJ1_pollFirst_0 20 rfl rfl)
theorem dJ1_pollFirst_21 : decode cJ1_pollFirst 21 = .ok (.iload_n 2, 1) := dk_28 (dk_at dksJ1_pollFirst_0 21 rfl rfl)
theorem dJ1_pollFirst_22 : decode cJ1_pollFirst 22 = .ok (.aconst_null, 1) := dk_1 (dk_at dksJ1_pollFirst_0 22 rfl rfl)
theorem dJ1_pollFirst_23 : decode cJ1_pollFirst 23 = .ok (.aastore, 1) := dk_83 (dk_at dksJ1_pollFirst_0 23 rfl rfl)
theorem dJ1_pollFirst_24 : decode cJ1_pollFirst 24 = .ok (.aload_n 0, 1) := dk_42 (dk_at dksJ1_pollFirst_1 0 rfl rfl)
theorem dJ1_pollFirst_25 : decode cJ1_pollFirst 25 = .ok (.iload_n 2, 1) := dk_28 (dk_at dksJ1_pollFirst_1 1 rfl rfl)
theorem dJ1_pollFirst_26 : decode cJ1_pollFirst 26 = .ok (.aload_n 1, 1) := dk_43 (dk_at dksJ1_pollFirst_1 2 rfl rfl)
theorem dJ1_pollFirst_27 : decode cJ1_pollFirst 27 = .ok (.arraylength, 1) := dk_190 (dk_at dksJ1_pollFirst_1 3 rfl rfl)
theorem dJ1_pollFirst_28 : decode cJ1_pollFirst 28 = .ok (.invokestatic 74, 3) := dk_184 0 74 (dk_at dksJ1_pollFirst_1 4 rfl rfl)
theorem dJ1_pollFirst_31 : decode cJ1_pollFirst 31 = .ok (.putfield 24, 3) := dk_181 0 24 (dk_at dksJ1_pollFirst_1 7 rfl rfl)
theorem dJ1_pollFirst_34 : decode cJ1_pollFirst 34 = .ok (.aload_n 3, 1) := dk_45 (dk_at dksJ1_pollFirst_1 10 rfl rfl)
theorem dJ1_pollFirst_35 : decode cJ1_pollFirst 35 = .ok (.areturn, 1) := dk_176 (dk_at dksJ1_pollFirst_1 11 rfl rfl)
abbrev cJ1_elementAt : ByteArray := prog_56_method_10_code
def yJ1_elementAt : MethodName := ⟨RJ1, "elementAt", "([Ljava/lang/Object;I)Ljava/lang/Object;"⟩
def dkwJ1_elementAt_0 : List UInt8 := [42, 27, 50, 176]
abbrev dktJ1_elementAt_0 : List UInt8 := dkwJ1_elementAt_0 ++ []
theorem dksJ1_elementAt_0 : cJ1_elementAt.data.toList.drop 0 = dktJ1_elementAt_0 := by decide +kernel
theorem dJ1_elementAt_0 : decode cJ1_elementAt 0 = .ok (.aload_n 0, 1) := dk_42 (dk_at dksJ1_elementAt_0 0 rfl rfl)
theorem dJ1_elementAt_1 : decode cJ1_elementAt 1 = .ok (.iload_n 1, 1) := dk_27 (dk_at dksJ1_elementAt_0 1 rfl rfl)
theorem dJ1_elementAt_2 : decode cJ1_elementAt 2 = .ok (.aaload, 1) := dk_50 (dk_at dksJ1_elementAt_0 2 rfl rfl)
theorem dJ1_elementAt_3 : decode cJ1_elementAt 3 = .ok (.areturn, 1) := dk_176 (dk_at dksJ1_elementAt_0 3 rfl rfl)
abbrev cJ1_inc : ByteArray := prog_56_method_6_code
def yJ1_inc : MethodName := ⟨RJ1, "inc", "(II)I"⟩
def dkwJ1_inc_0 : List UInt8 := [132, 0, 1, 26, 27, 161, 0, 5, 3, 59, 26, 172]
abbrev dktJ1_inc_0 : List UInt8 := dkwJ1_inc_0 ++ []
theorem dksJ1_inc_0 : cJ1_inc.data.toList.drop 0 = dktJ1_inc_0 := by decide +kernel
theorem dJ1_inc_0 : decode cJ1_inc 0 = .ok (.iinc 0 1, 3) := dk_132 0 1 (dk_at dksJ1_inc_0 0 rfl rfl)
theorem dJ1_inc_3 : decode cJ1_inc 3 = .ok (.iload_n 0, 1) := dk_26 (dk_at dksJ1_inc_0 3 rfl rfl)
theorem dJ1_inc_4 : decode cJ1_inc 4 = .ok (.iload_n 1, 1) := dk_27 (dk_at dksJ1_inc_0 4 rfl rfl)
theorem dJ1_inc_5 : decode cJ1_inc 5 = .ok (.if_icmp .lt 5, 3) := dk_161 0 5 (dk_at dksJ1_inc_0 5 rfl rfl)
theorem dJ1_inc_8 : decode cJ1_inc 8 = .ok (.iconst 0, 1) := dk_3 (dk_at dksJ1_inc_0 8 rfl rfl)
theorem dJ1_inc_9 : decode cJ1_inc 9 = .ok (.istore_n 0, 1) := dk_59 (dk_at dksJ1_inc_0 9 rfl rfl)
theorem dJ1_inc_10 : decode cJ1_inc 10 = .ok (.iload_n 0, 1) := dk_26 (dk_at dksJ1_inc_0 10 rfl rfl)
theorem dJ1_inc_11 : decode cJ1_inc 11 = .ok (.ireturn, 1) := dk_172 (dk_at dksJ1_inc_0 11 rfl rfl)
abbrev cJ1_addLast : ByteArray := prog_56_method_13_code
def yJ1_addLast : MethodName := ⟨RJ1, "addLast", "(Ljava/lang/Object;)V"⟩
def dkwJ1_addLast_2 : List UInt8 := [182, 0, 71, 177]
abbrev dktJ1_addLast_2 : List UInt8 := dkwJ1_addLast_2 ++ []
def dkwJ1_addLast_1 : List UInt8 := [42, 180, 0, 24, 42, 42, 180, 0, 20, 44, 190, 184, 0, 74, 90, 181, 0, 20, 160, 0, 8, 42, 4]
abbrev dktJ1_addLast_1 : List UInt8 := dkwJ1_addLast_1 ++ dktJ1_addLast_2
def dkwJ1_addLast_0 : List UInt8 := [43, 199, 0, 11, 187, 0, 65, 89, 183, 0, 67, 191, 42, 180, 0, 3, 77, 44, 42, 180, 0, 20, 43, 83]
abbrev dktJ1_addLast_0 : List UInt8 := dkwJ1_addLast_0 ++ dktJ1_addLast_1
theorem dksJ1_addLast_0 : cJ1_addLast.data.toList.drop 0 = dktJ1_addLast_0 := by decide +kernel
theorem dksJ1_addLast_1 : cJ1_addLast.data.toList.drop 24 = dktJ1_addLast_1 := dk_seg dksJ1_addLast_0 24 rfl rfl
theorem dksJ1_addLast_2 : cJ1_addLast.data.toList.drop 47 = dktJ1_addLast_2 := dk_seg dksJ1_addLast_1 23 rfl rfl
theorem dJ1_addLast_0 : decode cJ1_addLast 0 = .ok (.aload_n 1, 1) := dk_43 (dk_at dksJ1_addLast_0 0 rfl rfl)
theorem dJ1_addLast_1 : decode cJ1_addLast 1 = .ok (.ifnonnull 11, 3) := dk_199 0 11 (dk_at dksJ1_addLast_0 1 rfl rfl)
theorem dJ1_addLast_4 : decode cJ1_addLast 4 = .ok (.new 65, 3) := dk_187 0 65 (dk_at dksJ1_addLast_0 4 rfl rfl)
theorem dJ1_addLast_7 : decode cJ1_addLast 7 = .ok (.dup, 1) := dk_89 (dk_at dksJ1_addLast_0 7 rfl rfl)
theorem dJ1_addLast_8 : decode cJ1_addLast 8 = .ok (.invokespecial 67, 3) := dk_183 0 67 (dk_at dksJ1_addLast_0 8 rfl rfl)
theorem dJ1_addLast_11 : decode cJ1_addLast 11 = .ok (.athrow, 1) := dk_191 (dk_at dksJ1_addLast_0 11 rfl rfl)
theorem dJ1_addLast_12 : decode cJ1_addLast 12 = .ok (.aload_n 0, 1) := dk_42 (dk_at dksJ1_addLast_0 12 rfl rfl)
theorem dJ1_addLast_13 : decode cJ1_addLast 13 = .ok (.getfield 3, 3) := dk_180 0 3 (dk_at dksJ1_addLast_0 13 rfl rfl)
theorem dJ1_addLast_16 : decode cJ1_addLast 16 = .ok (.astore_n 2, 1) := dk_77 (dk_at dksJ1_addLast_0 16 rfl rfl)
theorem dJ1_addLast_17 : decode cJ1_addLast 17 = .ok (.aload_n 2, 1) := dk_44 (dk_at dksJ1_addLast_0 17 rfl rfl)
theorem dJ1_addLast_18 : decode cJ1_addLast 18 = .ok (.aload_n 0, 1) := dk_42 (dk_at dksJ1_addLast_0 18 rfl rfl)
theorem dJ1_addLast_19 : decode cJ1_addLast 19 = .ok (.getfield 20, 3) := dk_180 0 20 (dk_at dksJ1_addLast_0 19 rfl rfl)
theorem dJ1_addLast_22 : decode cJ1_addLast 22 = .ok (.aload_n 1, 1) := dk_43 (dk_at dksJ1_addLast_0 22 rfl rfl)
theorem dJ1_addLast_23 : decode cJ1_addLast 23 = .ok (.aastore, 1) := dk_83 (dk_at dksJ1_addLast_0 23 rfl rfl)
theorem dJ1_addLast_24 : decode cJ1_addLast 24 = .ok (.aload_n 0, 1) := dk_42 (dk_at dksJ1_addLast_1 0 rfl rfl)
theorem dJ1_addLast_25 : decode cJ1_addLast 25 = .ok (.getfield 24, 3) := dk_180 0 24 (dk_at dksJ1_addLast_1 1 rfl rfl)
theorem dJ1_addLast_28 : decode cJ1_addLast 28 = .ok (.aload_n 0, 1) := dk_42 (dk_at dksJ1_addLast_1 4 rfl rfl)
theorem dJ1_addLast_29 : decode cJ1_addLast 29 = .ok (.aload_n 0, 1) := dk_42 (dk_at dksJ1_addLast_1 5 rfl rfl)
theorem dJ1_addLast_30 : decode cJ1_addLast 30 = .ok (.getfield 20, 3) := dk_180 0 20 (dk_at dksJ1_addLast_1 6 rfl rfl)
theorem dJ1_addLast_33 : decode cJ1_addLast 33 = .ok (.aload_n 2, 1) := dk_44 (dk_at dksJ1_addLast_1 9 rfl rfl)
theorem dJ1_addLast_34 : decode cJ1_addLast 34 = .ok (.arraylength, 1) := dk_190 (dk_at dksJ1_addLast_1 10 rfl rfl)
theorem dJ1_addLast_35 : decode cJ1_addLast 35 = .ok (.invokestatic 74, 3) := dk_184 0 74 (dk_at dksJ1_addLast_1 11 rfl rfl)
theorem dJ1_addLast_38 : decode cJ1_addLast 38 = .ok (.dup_x1, 1) := dk_90 (dk_at dksJ1_addLast_1 14 rfl rfl)
theorem dJ1_addLast_39 : decode cJ1_addLast 39 = .ok (.putfield 20, 3) := dk_181 0 20 (dk_at dksJ1_addLast_1 15 rfl rfl)
theorem dJ1_addLast_42 : decode cJ1_addLast 42 = .ok (.if_icmp .ne 8, 3) := dk_160 0 8 (dk_at dksJ1_addLast_1 18 rfl rfl)
theorem dJ1_addLast_45 : decode cJ1_addLast 45 = .ok (.aload_n 0, 1) := dk_42 (dk_at dksJ1_addLast_1 21 rfl rfl)
theorem dJ1_addLast_46 : decode cJ1_addLast 46 = .ok (.iconst 1, 1) := dk_4 (dk_at dksJ1_addLast_1 22 rfl rfl)
theorem dJ1_addLast_47 : decode cJ1_addLast 47 = .ok (.invokevirtual 71, 3) := dk_182 0 71 (dk_at dksJ1_addLast_2 0 rfl rfl)
theorem dJ1_addLast_50 : decode cJ1_addLast 50 = .ok (.return_, 1) := dk_177 (dk_at dksJ1_addLast_2 3 rfl rfl)
abbrev cJ1_grow : ByteArray := prog_56_method_1_code
def yJ1_grow : MethodName := ⟨RJ1, "grow", "(I)V"⟩
def dkwJ1_grow_7 : List UInt8 := [177]
abbrev dktJ1_grow_7 : List UInt8 := dkwJ1_grow_7 ++ []
def dkwJ1_grow_6 : List UInt8 := [181, 0, 24, 54, 8, 21, 7, 21, 8, 162, 0, 15, 25, 5, 21, 7, 1, 83, 132, 7, 1, 167, 255, 240]
abbrev dktJ1_grow_6 : List UInt8 := dkwJ1_grow_6 ++ dktJ1_grow_7
def dkwJ1_grow_5 : List UInt8 := [42, 180, 0, 24, 100, 184, 0, 27, 42, 180, 0, 24, 54, 7, 42, 89, 180, 0, 24, 21, 6, 96, 90]
abbrev dktJ1_grow_5 : List UInt8 := dkwJ1_grow_5 ++ dktJ1_grow_6
def dkwJ1_grow_4 : List UInt8 := [198, 0, 71, 29, 28, 100, 54, 6, 25, 5, 42, 180, 0, 24, 25, 5, 42, 180, 0, 24, 21, 6, 96, 28]
abbrev dktJ1_grow_4 : List UInt8 := dkwJ1_grow_4 ++ dktJ1_grow_5
def dkwJ1_grow_3 : List UInt8 := [180, 0, 24, 161, 0, 24, 42, 180, 0, 20, 42, 180, 0, 24, 160, 0, 81, 25, 5, 42, 180, 0, 24, 50]
abbrev dktJ1_grow_3 : List UInt8 := dkwJ1_grow_3 ++ dktJ1_grow_4
def dkwJ1_grow_2 : List UInt8 := [182, 0, 10, 62, 42, 42, 180, 0, 3, 29, 184, 0, 14, 90, 181, 0, 3, 58, 5, 42, 180, 0, 20, 42]
abbrev dktJ1_grow_2 : List UInt8 := dkwJ1_grow_2 ++ dktJ1_grow_3
def dkwJ1_grow_1 : List UInt8 := [21, 4, 27, 161, 0, 15, 28, 21, 4, 96, 89, 62, 18, 9, 100, 158, 0, 11, 42, 27, 21, 4]
abbrev dktJ1_grow_1 : List UInt8 := dkwJ1_grow_1 ++ dktJ1_grow_2
def dkwJ1_grow_0 : List UInt8 := [42, 180, 0, 3, 190, 61, 28, 16, 64, 162, 0, 9, 28, 5, 96, 167, 0, 6, 28, 4, 122, 54, 4]
abbrev dktJ1_grow_0 : List UInt8 := dkwJ1_grow_0 ++ dktJ1_grow_1
theorem dksJ1_grow_0 : cJ1_grow.data.toList.drop 0 = dktJ1_grow_0 := by decide +kernel
theorem dksJ1_grow_1 : cJ1_grow.data.toList.drop 23 = dktJ1_grow_1 := dk_seg dksJ1_grow_0 23 rfl rfl
theorem dksJ1_grow_2 : cJ1_grow.data.toList.drop 45 = dktJ1_grow_2 := dk_seg dksJ1_grow_1 22 rfl rfl
theorem dksJ1_grow_3 : cJ1_grow.data.toList.drop 69 = dktJ1_grow_3 := dk_seg dksJ1_grow_2 24 rfl rfl
theorem dksJ1_grow_4 : cJ1_grow.data.toList.drop 93 = dktJ1_grow_4 := dk_seg dksJ1_grow_3 24 rfl rfl
theorem dksJ1_grow_5 : cJ1_grow.data.toList.drop 117 = dktJ1_grow_5 := dk_seg dksJ1_grow_4 24 rfl rfl
theorem dksJ1_grow_6 : cJ1_grow.data.toList.drop 140 = dktJ1_grow_6 := dk_seg dksJ1_grow_5 23 rfl rfl
theorem dksJ1_grow_7 : cJ1_grow.data.toList.drop 164 = dktJ1_grow_7 := dk_seg dksJ1_grow_6 24 rfl rfl
theorem dJ1_grow_0 : decode cJ1_grow 0 = .ok (.aload_n 0, 1) := dk_42 (dk_at dksJ1_grow_0 0 rfl rfl)
theorem dJ1_grow_1 : decode cJ1_grow 1 = .ok (.getfield 3, 3) := dk_180 0 3 (dk_at dksJ1_grow_0 1 rfl rfl)
theorem dJ1_grow_4 : decode cJ1_grow 4 = .ok (.arraylength, 1) := dk_190 (dk_at dksJ1_grow_0 4 rfl rfl)
theorem dJ1_grow_5 : decode cJ1_grow 5 = .ok (.istore_n 2, 1) := dk_61 (dk_at dksJ1_grow_0 5 rfl rfl)
theorem dJ1_grow_6 : decode cJ1_grow 6 = .ok (.iload_n 2, 1) := dk_28 (dk_at dksJ1_grow_0 6 rfl rfl)
theorem dJ1_grow_7 : decode cJ1_grow 7 = .ok (.bipush 64, 2) := dk_16 64 (dk_at dksJ1_grow_0 7 rfl rfl)
theorem dJ1_grow_9 : decode cJ1_grow 9 = .ok (.if_icmp .ge 9, 3) := dk_162 0 9 (dk_at dksJ1_grow_0 9 rfl rfl)
theorem dJ1_grow_12 : decode cJ1_grow 12 = .ok (.iload_n 2, 1) := dk_28 (dk_at dksJ1_grow_0 12 rfl rfl)
theorem dJ1_grow_13 : decode cJ1_grow 13 = .ok (.iconst 2, 1) := dk_5 (dk_at dksJ1_grow_0 13 rfl rfl)
theorem dJ1_grow_14 : decode cJ1_grow 14 = .ok (.iadd, 1) := dk_96 (dk_at dksJ1_grow_0 14 rfl rfl)
theorem dJ1_grow_15 : decode cJ1_grow 15 = .ok (.goto 6, 3) := dk_167 0 6 (dk_at dksJ1_grow_0 15 rfl rfl)
theorem dJ1_grow_18 : decode cJ1_grow 18 = .ok (.iload_n 2, 1) := dk_28 (dk_at dksJ1_grow_0 18 rfl rfl)
theorem dJ1_grow_19 : decode cJ1_grow 19 = .ok (.iconst 1, 1) := dk_4 (dk_at dksJ1_grow_0 19 rfl rfl)
theorem dJ1_grow_20 : decode cJ1_grow 20 = .ok (.ishr, 1) := dk_122 (dk_at dksJ1_grow_0 20 rfl rfl)
theorem dJ1_grow_21 : decode cJ1_grow 21 = .ok (.istore 4, 2) := dk_54 4 (dk_at dksJ1_grow_0 21 rfl rfl)
theorem dJ1_grow_23 : decode cJ1_grow 23 = .ok (.iload 4, 2) := dk_21 4 (dk_at dksJ1_grow_1 0 rfl rfl)
theorem dJ1_grow_25 : decode cJ1_grow 25 = .ok (.iload_n 1, 1) := dk_27 (dk_at dksJ1_grow_1 2 rfl rfl)
theorem dJ1_grow_26 : decode cJ1_grow 26 = .ok (.if_icmp .lt 15, 3) := dk_161 0 15 (dk_at dksJ1_grow_1 3 rfl rfl)
theorem dJ1_grow_29 : decode cJ1_grow 29 = .ok (.iload_n 2, 1) := dk_28 (dk_at dksJ1_grow_1 6 rfl rfl)
theorem dJ1_grow_30 : decode cJ1_grow 30 = .ok (.iload 4, 2) := dk_21 4 (dk_at dksJ1_grow_1 7 rfl rfl)
theorem dJ1_grow_32 : decode cJ1_grow 32 = .ok (.iadd, 1) := dk_96 (dk_at dksJ1_grow_1 9 rfl rfl)
theorem dJ1_grow_33 : decode cJ1_grow 33 = .ok (.dup, 1) := dk_89 (dk_at dksJ1_grow_1 10 rfl rfl)
theorem dJ1_grow_34 : decode cJ1_grow 34 = .ok (.istore_n 3, 1) := dk_62 (dk_at dksJ1_grow_1 11 rfl rfl)
theorem dJ1_grow_35 : decode cJ1_grow 35 = .ok (.ldc 9, 2) := dk_18 9 (dk_at dksJ1_grow_1 12 rfl rfl)
theorem dJ1_grow_37 : decode cJ1_grow 37 = .ok (.isub, 1) := dk_100 (dk_at dksJ1_grow_1 14 rfl rfl)
theorem dJ1_grow_38 : decode cJ1_grow 38 = .ok (.ifCond .le 11, 3) := dk_158 0 11 (dk_at dksJ1_grow_1 15 rfl rfl)
theorem dJ1_grow_41 : decode cJ1_grow 41 = .ok (.aload_n 0, 1) := dk_42 (dk_at dksJ1_grow_1 18 rfl rfl)
theorem dJ1_grow_42 : decode cJ1_grow 42 = .ok (.iload_n 1, 1) := dk_27 (dk_at dksJ1_grow_1 19 rfl rfl)
theorem dJ1_grow_43 : decode cJ1_grow 43 = .ok (.iload 4, 2) := dk_21 4 (dk_at dksJ1_grow_1 20 rfl rfl)
theorem dJ1_grow_45 : decode cJ1_grow 45 = .ok (.invokevirtual 10, 3) := dk_182 0 10 (dk_at dksJ1_grow_2 0 rfl rfl)
theorem dJ1_grow_48 : decode cJ1_grow 48 = .ok (.istore_n 3, 1) := dk_62 (dk_at dksJ1_grow_2 3 rfl rfl)
theorem dJ1_grow_49 : decode cJ1_grow 49 = .ok (.aload_n 0, 1) := dk_42 (dk_at dksJ1_grow_2 4 rfl rfl)
theorem dJ1_grow_50 : decode cJ1_grow 50 = .ok (.aload_n 0, 1) := dk_42 (dk_at dksJ1_grow_2 5 rfl rfl)
theorem dJ1_grow_51 : decode cJ1_grow 51 = .ok (.getfield 3, 3) := dk_180 0 3 (dk_at dksJ1_grow_2 6 rfl rfl)
theorem dJ1_grow_54 : decode cJ1_grow 54 = .ok (.iload_n 3, 1) := dk_29 (dk_at dksJ1_grow_2 9 rfl rfl)
theorem dJ1_grow_55 : decode cJ1_grow 55 = .ok (.invokestatic 14, 3) := dk_184 0 14 (dk_at dksJ1_grow_2 10 rfl rfl)
theorem dJ1_grow_58 : decode cJ1_grow 58 = .ok (.dup_x1, 1) := dk_90 (dk_at dksJ1_grow_2 13 rfl rfl)
theorem dJ1_grow_59 : decode cJ1_grow 59 = .ok (.putfield 3, 3) := dk_181 0 3 (dk_at dksJ1_grow_2 14 rfl rfl)
theorem dJ1_grow_62 : decode cJ1_grow 62 = .ok (.astore 5, 2) := dk_58 5 (dk_at dksJ1_grow_2 17 rfl rfl)
theorem dJ1_grow_64 : decode cJ1_grow 64 = .ok (.aload_n 0, 1) := dk_42 (dk_at dksJ1_grow_2 19 rfl rfl)
theorem dJ1_grow_65 : decode cJ1_grow 65 = .ok (.getfield 20, 3) := dk_180 0 20 (dk_at dksJ1_grow_2 20 rfl rfl)
theorem dJ1_grow_68 : decode cJ1_grow 68 = .ok (.aload_n 0, 1) := dk_42 (dk_at dksJ1_grow_2 23 rfl rfl)
theorem dJ1_grow_69 : decode cJ1_grow 69 = .ok (.getfield 24, 3) := dk_180 0 24 (dk_at dksJ1_grow_3 0 rfl rfl)
theorem dJ1_grow_72 : decode cJ1_grow 72 = .ok (.if_icmp .lt 24, 3) := dk_161 0 24 (dk_at dksJ1_grow_3 3 rfl rfl)
theorem dJ1_grow_75 : decode cJ1_grow 75 = .ok (.aload_n 0, 1) := dk_42 (dk_at dksJ1_grow_3 6 rfl rfl)
theorem dJ1_grow_76 : decode cJ1_grow 76 = .ok (.getfield 20, 3) := dk_180 0 20 (dk_at dksJ1_grow_3 7 rfl rfl)
theorem dJ1_grow_79 : decode cJ1_grow 79 = .ok (.aload_n 0, 1) := dk_42 (dk_at dksJ1_grow_3 10 rfl rfl)
theorem dJ1_grow_80 : decode cJ1_grow 80 = .ok (.getfield 24, 3) := dk_180 0 24 (dk_at dksJ1_grow_3 11 rfl rfl)
theorem dJ1_grow_83 : decode cJ1_grow 83 = .ok (.if_icmp .ne 81, 3) := dk_160 0 81 (dk_at dksJ1_grow_3 14 rfl rfl)
theorem dJ1_grow_86 : decode cJ1_grow 86 = .ok (.aload 5, 2) := dk_25 5 (dk_at dksJ1_grow_3 17 rfl rfl)
theorem dJ1_grow_88 : decode cJ1_grow 88 = .ok (.aload_n 0, 1) := dk_42 (dk_at dksJ1_grow_3 19 rfl rfl)
theorem dJ1_grow_89 : decode cJ1_grow 89 = .ok (.getfield 24, 3) := dk_180 0 24 (dk_at dksJ1_grow_3 20 rfl rfl)
theorem dJ1_grow_92 : decode cJ1_grow 92 = .ok (.aaload, 1) := dk_50 (dk_at dksJ1_grow_3 23 rfl rfl)
theorem dJ1_grow_93 : decode cJ1_grow 93 = .ok (.ifnull 71, 3) := dk_198 0 71 (dk_at dksJ1_grow_4 0 rfl rfl)
theorem dJ1_grow_96 : decode cJ1_grow 96 = .ok (.iload_n 3, 1) := dk_29 (dk_at dksJ1_grow_4 3 rfl rfl)
theorem dJ1_grow_97 : decode cJ1_grow 97 = .ok (.iload_n 2, 1) := dk_28 (dk_at dksJ1_grow_4 4 rfl rfl)
theorem dJ1_grow_98 : decode cJ1_grow 98 = .ok (.isub, 1) := dk_100 (dk_at dksJ1_grow_4 5 rfl rfl)
theorem dJ1_grow_99 : decode cJ1_grow 99 = .ok (.istore 6, 2) := dk_54 6 (dk_at dksJ1_grow_4 6 rfl rfl)
theorem dJ1_grow_101 : decode cJ1_grow 101 = .ok (.aload 5, 2) := dk_25 5 (dk_at dksJ1_grow_4 8 rfl rfl)
theorem dJ1_grow_103 : decode cJ1_grow 103 = .ok (.aload_n 0, 1) := dk_42 (dk_at dksJ1_grow_4 10 rfl rfl)
theorem dJ1_grow_104 : decode cJ1_grow 104 = .ok (.getfield 24, 3) := dk_180 0 24 (dk_at dksJ1_grow_4 11 rfl rfl)
theorem dJ1_grow_107 : decode cJ1_grow 107 = .ok (.aload 5, 2) := dk_25 5 (dk_at dksJ1_grow_4 14 rfl rfl)
theorem dJ1_grow_109 : decode cJ1_grow 109 = .ok (.aload_n 0, 1) := dk_42 (dk_at dksJ1_grow_4 16 rfl rfl)
theorem dJ1_grow_110 : decode cJ1_grow 110 = .ok (.getfield 24, 3) := dk_180 0 24 (dk_at dksJ1_grow_4 17 rfl rfl)
theorem dJ1_grow_113 : decode cJ1_grow 113 = .ok (.iload 6, 2) := dk_21 6 (dk_at dksJ1_grow_4 20 rfl rfl)
theorem dJ1_grow_115 : decode cJ1_grow 115 = .ok (.iadd, 1) := dk_96 (dk_at dksJ1_grow_4 22 rfl rfl)
theorem dJ1_grow_116 : decode cJ1_grow 116 = .ok (.iload_n 2, 1) := dk_28 (dk_at dksJ1_grow_4 23 rfl rfl)
theorem dJ1_grow_117 : decode cJ1_grow 117 = .ok (.aload_n 0, 1) := dk_42 (dk_at dksJ1_grow_5 0 rfl rfl)
theorem dJ1_grow_118 : decode cJ1_grow 118 = .ok (.getfield 24, 3) := dk_180 0 24 (dk_at dksJ1_grow_5 1 rfl rfl)
theorem dJ1_grow_121 : decode cJ1_grow 121 = .ok (.isub, 1) := dk_100 (dk_at dksJ1_grow_5 4 rfl rfl)
theorem dJ1_grow_122 : decode cJ1_grow 122 = .ok (.invokestatic 27, 3) := dk_184 0 27 (dk_at dksJ1_grow_5 5 rfl rfl)
theorem dJ1_grow_125 : decode cJ1_grow 125 = .ok (.aload_n 0, 1) := dk_42 (dk_at dksJ1_grow_5 8 rfl rfl)
theorem dJ1_grow_126 : decode cJ1_grow 126 = .ok (.getfield 24, 3) := dk_180 0 24 (dk_at dksJ1_grow_5 9 rfl rfl)
theorem dJ1_grow_129 : decode cJ1_grow 129 = .ok (.istore 7, 2) := dk_54 7 (dk_at dksJ1_grow_5 12 rfl rfl)
theorem dJ1_grow_131 : decode cJ1_grow 131 = .ok (.aload_n 0, 1) := dk_42 (dk_at dksJ1_grow_5 14 rfl rfl)
theorem dJ1_grow_132 : decode cJ1_grow 132 = .ok (.dup, 1) := dk_89 (dk_at dksJ1_grow_5 15 rfl rfl)
theorem dJ1_grow_133 : decode cJ1_grow 133 = .ok (.getfield 24, 3) := dk_180 0 24 (dk_at dksJ1_grow_5 16 rfl rfl)
theorem dJ1_grow_136 : decode cJ1_grow 136 = .ok (.iload 6, 2) := dk_21 6 (dk_at dksJ1_grow_5 19 rfl rfl)
theorem dJ1_grow_138 : decode cJ1_grow 138 = .ok (.iadd, 1) := dk_96 (dk_at dksJ1_grow_5 21 rfl rfl)
theorem dJ1_grow_139 : decode cJ1_grow 139 = .ok (.dup_x1, 1) := dk_90 (dk_at dksJ1_grow_5 22 rfl rfl)
theorem dJ1_grow_140 : decode cJ1_grow 140 = .ok (.putfield 24, 3) := dk_181 0 24 (dk_at dksJ1_grow_6 0 rfl rfl)
theorem dJ1_grow_143 : decode cJ1_grow 143 = .ok (.istore 8, 2) := dk_54 8 (dk_at dksJ1_grow_6 3 rfl rfl)
theorem dJ1_grow_145 : decode cJ1_grow 145 = .ok (.iload 7, 2) := dk_21 7 (dk_at dksJ1_grow_6 5 rfl rfl)
theorem dJ1_grow_147 : decode cJ1_grow 147 = .ok (.iload 8, 2) := dk_21 8 (dk_at dksJ1_grow_6 7 rfl rfl)
theorem dJ1_grow_149 : decode cJ1_grow 149 = .ok (.if_icmp .ge 15, 3) := dk_162 0 15 (dk_at dksJ1_grow_6 9 rfl rfl)
theorem dJ1_grow_152 : decode cJ1_grow 152 = .ok (.aload 5, 2) := dk_25 5 (dk_at dksJ1_grow_6 12 rfl rfl)
theorem dJ1_grow_154 : decode cJ1_grow 154 = .ok (.iload 7, 2) := dk_21 7 (dk_at dksJ1_grow_6 14 rfl rfl)
theorem dJ1_grow_156 : decode cJ1_grow 156 = .ok (.aconst_null, 1) := dk_1 (dk_at dksJ1_grow_6 16 rfl rfl)
theorem dJ1_grow_157 : decode cJ1_grow 157 = .ok (.aastore, 1) := dk_83 (dk_at dksJ1_grow_6 17 rfl rfl)
theorem dJ1_grow_158 : decode cJ1_grow 158 = .ok (.iinc 7 1, 3) := dk_132 7 1 (dk_at dksJ1_grow_6 18 rfl rfl)
theorem dJ1_grow_161 : decode cJ1_grow 161 = .ok (.goto (-16), 3) := dk_167 255 240 (dk_at dksJ1_grow_6 21 rfl rfl)
theorem dJ1_grow_164 : decode cJ1_grow 164 = .ok (.return_, 1) := dk_177 (dk_at dksJ1_grow_7 0 rfl rfl)
abbrev cJ1_newCapacity : ByteArray := prog_56_method_2_code
def yJ1_newCapacity : MethodName := ⟨RJ1, "newCapacity", "(II)I"⟩
def dkwJ1_newCapacity_2 : List UInt8 := [18, 9, 100, 156, 0, 9, 29, 28, 96, 167, 0, 5, 18, 9, 172]
abbrev dktJ1_newCapacity_2 : List UInt8 := dkwJ1_newCapacity_2 ++ []
def dkwJ1_newCapacity_1 : List UInt8 := [187, 0, 33, 89, 18, 35, 183, 0, 37, 191, 18, 41, 172, 27, 28, 164, 0, 6, 21, 4, 172, 29, 28, 96]
abbrev dktJ1_newCapacity_1 : List UInt8 := dkwJ1_newCapacity_1 ++ dktJ1_newCapacity_2
def dkwJ1_newCapacity_0 : List UInt8 := [42, 180, 0, 3, 190, 62, 29, 27, 96, 89, 54, 4, 18, 9, 100, 158, 0, 21, 21, 4, 156, 0, 13]
abbrev dktJ1_newCapacity_0 : List UInt8 := dkwJ1_newCapacity_0 ++ dktJ1_newCapacity_1
theorem dksJ1_newCapacity_0 : cJ1_newCapacity.data.toList.drop 0 = dktJ1_newCapacity_0 := by decide +kernel
theorem dksJ1_newCapacity_1 : cJ1_newCapacity.data.toList.drop 23 = dktJ1_newCapacity_1 := dk_seg dksJ1_newCapacity_0 23 rfl rfl
theorem dksJ1_newCapacity_2 : cJ1_newCapacity.data.toList.drop 47 = dktJ1_newCapacity_2 := dk_seg dksJ1_newCapacity_1 24 rfl rfl
theorem dJ1_newCapacity_0 : decode cJ1_newCapacity 0 = .ok (.aload_n 0, 1) := dk_42 (dk_at dksJ1_newCapacity_0 0 rfl rfl)
theorem dJ1_newCapacity_1 : decode cJ1_newCapacity 1 = .ok (.getfield 3, 3) := dk_180 0 3 (dk_at dksJ1_newCapacity_0 1 rfl rfl)
theorem dJ1_newCapacity_4 : decode cJ1_newCapacity 4 = .ok (.arraylength, 1) := dk_190 (dk_at dksJ1_newCapacity_0 4 rfl rfl)
theorem dJ1_newCapacity_5 : decode cJ1_newCapacity 5 = .ok (.istore_n 3, 1) := dk_62 (dk_at dksJ1_newCapacity_0 5 rfl rfl)
theorem dJ1_newCapacity_6 : decode cJ1_newCapacity 6 = .ok (.iload_n 3, 1) := dk_29 (dk_at dksJ1_newCapacity_0 6 rfl rfl)
theorem dJ1_newCapacity_7 : decode cJ1_newCapacity 7 = .ok (.iload_n 1, 1) := dk_27 (dk_at dksJ1_newCapacity_0 7 rfl rfl)
theorem dJ1_newCapacity_8 : decode cJ1_newCapacity 8 = .ok (.iadd, 1) := dk_96 (dk_at dksJ1_newCapacity_0 8 rfl rfl)
theorem dJ1_newCapacity_9 : decode cJ1_newCapacity 9 = .ok (.dup, 1) := dk_89 (dk_at dksJ1_newCapacity_0 9 rfl rfl)
theorem dJ1_newCapacity_10 : decode cJ1_newCapacity 10 = .ok (.istore 4, 2) := dk_54 4 (dk_at dksJ1_newCapacity_0 10 rfl rfl)
theorem dJ1_newCapacity_12 : decode cJ1_newCapacity 12 = .ok (.ldc 9, 2) := dk_18 9 (dk_at dksJ1_newCapacity_0 12 rfl rfl)
theorem dJ1_newCapacity_14 : decode cJ1_newCapacity 14 = .ok (.isub, 1) := dk_100 (dk_at dksJ1_newCapacity_0 14 rfl rfl)
theorem dJ1_newCapacity_15 : decode cJ1_newCapacity 15 = .ok (.ifCond .le 21, 3) := dk_158 0 21 (dk_at dksJ1_newCapacity_0 15 rfl rfl)
theorem dJ1_newCapacity_18 : decode cJ1_newCapacity 18 = .ok (.iload 4, 2) := dk_21 4 (dk_at dksJ1_newCapacity_0 18 rfl rfl)
theorem dJ1_newCapacity_20 : decode cJ1_newCapacity 20 = .ok (.ifCond .ge 13, 3) := dk_156 0 13 (dk_at dksJ1_newCapacity_0 20 rfl rfl)
theorem dJ1_newCapacity_23 : decode cJ1_newCapacity 23 = .ok (.new 33, 3) := dk_187 0 33 (dk_at dksJ1_newCapacity_1 0 rfl rfl)
theorem dJ1_newCapacity_26 : decode cJ1_newCapacity 26 = .ok (.dup, 1) := dk_89 (dk_at dksJ1_newCapacity_1 3 rfl rfl)
theorem dJ1_newCapacity_27 : decode cJ1_newCapacity 27 = .ok (.ldc 35, 2) := dk_18 35 (dk_at dksJ1_newCapacity_1 4 rfl rfl)
theorem dJ1_newCapacity_29 : decode cJ1_newCapacity 29 = .ok (.invokespecial 37, 3) := dk_183 0 37 (dk_at dksJ1_newCapacity_1 6 rfl rfl)
theorem dJ1_newCapacity_32 : decode cJ1_newCapacity 32 = .ok (.athrow, 1) := dk_191 (dk_at dksJ1_newCapacity_1 9 rfl rfl)
theorem dJ1_newCapacity_33 : decode cJ1_newCapacity 33 = .ok (.ldc 41, 2) := dk_18 41 (dk_at dksJ1_newCapacity_1 10 rfl rfl)
theorem dJ1_newCapacity_35 : decode cJ1_newCapacity 35 = .ok (.ireturn, 1) := dk_172 (dk_at dksJ1_newCapacity_1 12 rfl rfl)
theorem dJ1_newCapacity_36 : decode cJ1_newCapacity 36 = .ok (.iload_n 1, 1) := dk_27 (dk_at dksJ1_newCapacity_1 13 rfl rfl)
theorem dJ1_newCapacity_37 : decode cJ1_newCapacity 37 = .ok (.iload_n 2, 1) := dk_28 (dk_at dksJ1_newCapacity_1 14 rfl rfl)
theorem dJ1_newCapacity_38 : decode cJ1_newCapacity 38 = .ok (.if_icmp .le 6, 3) := dk_164 0 6 (dk_at dksJ1_newCapacity_1 15 rfl rfl)
theorem dJ1_newCapacity_41 : decode cJ1_newCapacity 41 = .ok (.iload 4, 2) := dk_21 4 (dk_at dksJ1_newCapacity_1 18 rfl rfl)
theorem dJ1_newCapacity_43 : decode cJ1_newCapacity 43 = .ok (.ireturn, 1) := dk_172 (dk_at dksJ1_newCapacity_1 20 rfl rfl)
theorem dJ1_newCapacity_44 : decode cJ1_newCapacity 44 = .ok (.iload_n 3, 1) := dk_29 (dk_at dksJ1_newCapacity_1 21 rfl rfl)
theorem dJ1_newCapacity_45 : decode cJ1_newCapacity 45 = .ok (.iload_n 2, 1) := dk_28 (dk_at dksJ1_newCapacity_1 22 rfl rfl)
theorem dJ1_newCapacity_46 : decode cJ1_newCapacity 46 = .ok (.iadd, 1) := dk_96 (dk_at dksJ1_newCapacity_1 23 rfl rfl)
theorem dJ1_newCapacity_47 : decode cJ1_newCapacity 47 = .ok (.ldc 9, 2) := dk_18 9 (dk_at dksJ1_newCapacity_2 0 rfl rfl)
theorem dJ1_newCapacity_49 : decode cJ1_newCapacity 49 = .ok (.isub, 1) := dk_100 (dk_at dksJ1_newCapacity_2 2 rfl rfl)
theorem dJ1_newCapacity_50 : decode cJ1_newCapacity 50 = .ok (.ifCond .ge 9, 3) := dk_156 0 9 (dk_at dksJ1_newCapacity_2 3 rfl rfl)
theorem dJ1_newCapacity_53 : decode cJ1_newCapacity 53 = .ok (.iload_n 3, 1) := dk_29 (dk_at dksJ1_newCapacity_2 6 rfl rfl)
theorem dJ1_newCapacity_54 : decode cJ1_newCapacity 54 = .ok (.iload_n 2, 1) := dk_28 (dk_at dksJ1_newCapacity_2 7 rfl rfl)
theorem dJ1_newCapacity_55 : decode cJ1_newCapacity 55 = .ok (.iadd, 1) := dk_96 (dk_at dksJ1_newCapacity_2 8 rfl rfl)
theorem dJ1_newCapacity_56 : decode cJ1_newCapacity 56 = .ok (.goto 5, 3) := dk_167 0 5 (dk_at dksJ1_newCapacity_2 9 rfl rfl)
theorem dJ1_newCapacity_59 : decode cJ1_newCapacity 59 = .ok (.ldc 9, 2) := dk_18 9 (dk_at dksJ1_newCapacity_2 12 rfl rfl)
theorem dJ1_newCapacity_61 : decode cJ1_newCapacity 61 = .ok (.ireturn, 1) := dk_172 (dk_at dksJ1_newCapacity_2 14 rfl rfl)
abbrev cJ1_isEmpty : ByteArray := prog_56_method_38_code
def yJ1_isEmpty : MethodName := ⟨RJ1, "isEmpty", "()Z"⟩
def dkwJ1_isEmpty_0 : List UInt8 := [42, 180, 0, 24, 42, 180, 0, 20, 160, 0, 7, 4, 167, 0, 4, 3, 172]
abbrev dktJ1_isEmpty_0 : List UInt8 := dkwJ1_isEmpty_0 ++ []
theorem dksJ1_isEmpty_0 : cJ1_isEmpty.data.toList.drop 0 = dktJ1_isEmpty_0 := by decide +kernel
theorem dJ1_isEmpty_0 : decode cJ1_isEmpty 0 = .ok (.aload_n 0, 1) := dk_42 (dk_at dksJ1_isEmpty_0 0 rfl rfl)
theorem dJ1_isEmpty_1 : decode cJ1_isEmpty 1 = .ok (.getfield 24, 3) := dk_180 0 24 (dk_at dksJ1_isEmpty_0 1 rfl rfl)
theorem dJ1_isEmpty_4 : decode cJ1_isEmpty 4 = .ok (.aload_n 0, 1) := dk_42 (dk_at dksJ1_isEmpty_0 4 rfl rfl)
theorem dJ1_isEmpty_5 : decode cJ1_isEmpty 5 = .ok (.getfield 20, 3) := dk_180 0 20 (dk_at dksJ1_isEmpty_0 5 rfl rfl)
theorem dJ1_isEmpty_8 : decode cJ1_isEmpty 8 = .ok (.if_icmp .ne 7, 3) := dk_160 0 7 (dk_at dksJ1_isEmpty_0 8 rfl rfl)
theorem dJ1_isEmpty_11 : decode cJ1_isEmpty 11 = .ok (.iconst 1, 1) := dk_4 (dk_at dksJ1_isEmpty_0 11 rfl rfl)
theorem dJ1_isEmpty_12 : decode cJ1_isEmpty 12 = .ok (.goto 4, 3) := dk_167 0 4 (dk_at dksJ1_isEmpty_0 12 rfl rfl)
theorem dJ1_isEmpty_15 : decode cJ1_isEmpty 15 = .ok (.iconst 0, 1) := dk_3 (dk_at dksJ1_isEmpty_0 15 rfl rfl)
theorem dJ1_isEmpty_16 : decode cJ1_isEmpty 16 = .ok (.ireturn, 1) := dk_172 (dk_at dksJ1_isEmpty_0 16 rfl rfl)
abbrev cJ1_removeLast : ByteArray := prog_56_method_19_code
def yJ1_removeLast : MethodName := ⟨RJ1, "removeLast", "()Ljava/lang/Object;"⟩
def dkwJ1_removeLast_0 : List UInt8 := [42, 182, 0, 100, 76, 43, 199, 0, 11, 187, 0, 97, 89, 183, 0, 99, 191, 43, 176]
abbrev dktJ1_removeLast_0 : List UInt8 := dkwJ1_removeLast_0 ++ []
theorem dksJ1_removeLast_0 : cJ1_removeLast.data.toList.drop 0 = dktJ1_removeLast_0 := by decide +kernel
theorem dJ1_removeLast_0 : decode cJ1_removeLast 0 = .ok (.aload_n 0, 1) := dk_42 (dk_at dksJ1_removeLast_0 0 rfl rfl)
theorem dJ1_removeLast_1 : decode cJ1_removeLast 1 = .ok (.invokevirtual 100, 3) := dk_182 0 100 (dk_at dksJ1_removeLast_0 1 rfl rfl)
theorem dJ1_removeLast_4 : decode cJ1_removeLast 4 = .ok (.astore_n 1, 1) := dk_76 (dk_at dksJ1_removeLast_0 4 rfl rfl)
theorem dJ1_removeLast_5 : decode cJ1_removeLast 5 = .ok (.aload_n 1, 1) := dk_43 (dk_at dksJ1_removeLast_0 5 rfl rfl)
theorem dJ1_removeLast_6 : decode cJ1_removeLast 6 = .ok (.ifnonnull 11, 3) := dk_199 0 11 (dk_at dksJ1_removeLast_0 6 rfl rfl)
theorem dJ1_removeLast_9 : decode cJ1_removeLast 9 = .ok (.new 97, 3) := dk_187 0 97 (dk_at dksJ1_removeLast_0 9 rfl rfl)
theorem dJ1_removeLast_12 : decode cJ1_removeLast 12 = .ok (.dup, 1) := dk_89 (dk_at dksJ1_removeLast_0 12 rfl rfl)
theorem dJ1_removeLast_13 : decode cJ1_removeLast 13 = .ok (.invokespecial 99, 3) := dk_183 0 99 (dk_at dksJ1_removeLast_0 13 rfl rfl)
theorem dJ1_removeLast_16 : decode cJ1_removeLast 16 = .ok (.athrow, 1) := dk_191 (dk_at dksJ1_removeLast_0 16 rfl rfl)
theorem dJ1_removeLast_17 : decode cJ1_removeLast 17 = .ok (.aload_n 1, 1) := dk_43 (dk_at dksJ1_removeLast_0 17 rfl rfl)
theorem dJ1_removeLast_18 : decode cJ1_removeLast 18 = .ok (.areturn, 1) := dk_176 (dk_at dksJ1_removeLast_0 18 rfl rfl)
abbrev cJ1_pollLast : ByteArray := prog_56_method_21_code
def yJ1_pollLast : MethodName := ⟨RJ1, "pollLast", "()Ljava/lang/Object;"⟩
def dkwJ1_pollLast_1 : List UInt8 := [198, 0, 12, 43, 42, 28, 90, 181, 0, 20, 1, 83, 45, 176]
abbrev dktJ1_pollLast_1 : List UInt8 := dkwJ1_pollLast_1 ++ []
def dkwJ1_pollLast_0 : List UInt8 := [42, 180, 0, 3, 89, 76, 42, 180, 0, 20, 43, 190, 184, 0, 68, 89, 61, 184, 0, 103, 78, 45]
abbrev dktJ1_pollLast_0 : List UInt8 := dkwJ1_pollLast_0 ++ dktJ1_pollLast_1
theorem dksJ1_pollLast_0 : cJ1_pollLast.data.toList.drop 0 = dktJ1_pollLast_0 := by decide +kernel
theorem dksJ1_pollLast_1 : cJ1_pollLast.data.toList.drop 22 = dktJ1_pollLast_1 := dk_seg dksJ1_pollLast_0 22 rfl rfl
theorem dJ1_pollLast_0 : decode cJ1_pollLast 0 = .ok (.aload_n 0, 1) := dk_42 (dk_at dksJ1_pollLast_0 0 rfl rfl)
theorem dJ1_pollLast_1 : decode cJ1_pollLast 1 = .ok (.getfield 3, 3) := dk_180 0 3 (dk_at dksJ1_pollLast_0 1 rfl rfl)
theorem dJ1_pollLast_4 : decode cJ1_pollLast 4 = .ok (.dup, 1) := dk_89 (dk_at dksJ1_pollLast_0 4 rfl rfl)
theorem dJ1_pollLast_5 : decode cJ1_pollLast 5 = .ok (.astore_n 1, 1) := dk_76 (dk_at dksJ1_pollLast_0 5 rfl rfl)
theorem dJ1_pollLast_6 : decode cJ1_pollLast 6 = .ok (.aload_n 0, 1) := dk_42 (dk_at dksJ1_pollLast_0 6 rfl rfl)
theorem dJ1_pollLast_7 : decode cJ1_pollLast 7 = .ok (.getfield 20, 3) := dk_180 0 20 (dk_at dksJ1_pollLast_0 7 rfl rfl)
theorem dJ1_pollLast_10 : decode cJ1_pollLast 10 = .ok (.aload_n 1, 1) := dk_43 (dk_at dksJ1_pollLast_0 10 rfl rfl)
theorem dJ1_pollLast_11 : decode cJ1_pollLast 11 = .ok (.arraylength, 1) := dk_190 (dk_at dksJ1_pollLast_0 11 rfl rfl)
theorem dJ1_pollLast_12 : decode cJ1_pollLast 12 = .ok (.invokestatic 68, 3) := dk_184 0 68 (dk_at dksJ1_pollLast_0 12 rfl rfl)
theorem dJ1_pollLast_15 : decode cJ1_pollLast 15 = .ok (.dup, 1) := dk_89 (dk_at dksJ1_pollLast_0 15 rfl rfl)
theorem dJ1_pollLast_16 : decode cJ1_pollLast 16 = .ok (.istore_n 2, 1) := dk_61 (dk_at dksJ1_pollLast_0 16 rfl rfl)
theorem dJ1_pollLast_17 : decode cJ1_pollLast 17 = .ok (.invokestatic 103, 3) := dk_184 0 103 (dk_at dksJ1_pollLast_0 17 rfl rfl)
theorem dJ1_pollLast_20 : decode cJ1_pollLast 20 = .ok (.astore_n 3, 1) := dk_78 (dk_at dksJ1_pollLast_0 20 rfl rfl)
theorem dJ1_pollLast_21 : decode cJ1_pollLast 21 = .ok (.aload_n 3, 1) := dk_45 (dk_at dksJ1_pollLast_0 21 rfl rfl)
theorem dJ1_pollLast_22 : decode cJ1_pollLast 22 = .ok (.ifnull 12, 3) := dk_198 0 12 (dk_at dksJ1_pollLast_1 0 rfl rfl)
theorem dJ1_pollLast_25 : decode cJ1_pollLast 25 = .ok (.aload_n 1, 1) := dk_43 (dk_at dksJ1_pollLast_1 3 rfl rfl)
theorem dJ1_pollLast_26 : decode cJ1_pollLast 26 = .ok (.aload_n 0, 1) := dk_42 (dk_at dksJ1_pollLast_1 4 rfl rfl)
theorem dJ1_pollLast_27 : decode cJ1_pollLast 27 = .ok (.iload_n 2, 1) := dk_28 (dk_at dksJ1_pollLast_1 5 rfl rfl)
theorem dJ1_pollLast_28 : decode cJ1_pollLast 28 = .ok (.dup_x1, 1) := dk_90 (dk_at dksJ1_pollLast_1 6 rfl rfl)
theorem dJ1_pollLast_29 : decode cJ1_pollLast 29 = .ok (.putfield 20, 3) := dk_181 0 20 (dk_at dksJ1_pollLast_1 7 rfl rfl)
theorem dJ1_pollLast_32 : decode cJ1_pollLast 32 = .ok (.aconst_null, 1) := dk_1 (dk_at dksJ1_pollLast_1 10 rfl rfl)
theorem dJ1_pollLast_33 : decode cJ1_pollLast 33 = .ok (.aastore, 1) := dk_83 (dk_at dksJ1_pollLast_1 11 rfl rfl)
theorem dJ1_pollLast_34 : decode cJ1_pollLast 34 = .ok (.aload_n 3, 1) := dk_45 (dk_at dksJ1_pollLast_1 12 rfl rfl)
theorem dJ1_pollLast_35 : decode cJ1_pollLast 35 = .ok (.areturn, 1) := dk_176 (dk_at dksJ1_pollLast_1 13 rfl rfl)
abbrev cJ1_dec : ByteArray := prog_56_method_7_code
def yJ1_dec : MethodName := ⟨RJ1, "dec", "(II)I"⟩
def dkwJ1_dec_0 : List UInt8 := [132, 0, 255, 26, 156, 0, 7, 27, 4, 100, 59, 26, 172]
abbrev dktJ1_dec_0 : List UInt8 := dkwJ1_dec_0 ++ []
theorem dksJ1_dec_0 : cJ1_dec.data.toList.drop 0 = dktJ1_dec_0 := by decide +kernel
theorem dJ1_dec_0 : decode cJ1_dec 0 = .ok (.iinc 0 (-1), 3) := dk_132 0 255 (dk_at dksJ1_dec_0 0 rfl rfl)
theorem dJ1_dec_3 : decode cJ1_dec 3 = .ok (.iload_n 0, 1) := dk_26 (dk_at dksJ1_dec_0 3 rfl rfl)
theorem dJ1_dec_4 : decode cJ1_dec 4 = .ok (.ifCond .ge 7, 3) := dk_156 0 7 (dk_at dksJ1_dec_0 4 rfl rfl)
theorem dJ1_dec_7 : decode cJ1_dec 7 = .ok (.iload_n 1, 1) := dk_27 (dk_at dksJ1_dec_0 7 rfl rfl)
theorem dJ1_dec_8 : decode cJ1_dec 8 = .ok (.iconst 1, 1) := dk_4 (dk_at dksJ1_dec_0 8 rfl rfl)
theorem dJ1_dec_9 : decode cJ1_dec 9 = .ok (.isub, 1) := dk_100 (dk_at dksJ1_dec_0 9 rfl rfl)
theorem dJ1_dec_10 : decode cJ1_dec 10 = .ok (.istore_n 0, 1) := dk_59 (dk_at dksJ1_dec_0 10 rfl rfl)
theorem dJ1_dec_11 : decode cJ1_dec 11 = .ok (.iload_n 0, 1) := dk_26 (dk_at dksJ1_dec_0 11 rfl rfl)
theorem dJ1_dec_12 : decode cJ1_dec 12 = .ok (.ireturn, 1) := dk_172 (dk_at dksJ1_dec_0 12 rfl rfl)
abbrev cJ1_clear : ByteArray := prog_56_method_53_code
def yJ1_clear : MethodName := ⟨RJ1, "clear", "()V"⟩
def dkwJ1_clear_1 : List UInt8 := [181, 0, 24, 177]
abbrev dktJ1_clear_1 : List UInt8 := dkwJ1_clear_1 ++ []
def dkwJ1_clear_0 : List UInt8 := [42, 180, 0, 3, 42, 180, 0, 24, 42, 180, 0, 20, 184, 0, 181, 42, 42, 3, 90, 181, 0, 20]
abbrev dktJ1_clear_0 : List UInt8 := dkwJ1_clear_0 ++ dktJ1_clear_1
theorem dksJ1_clear_0 : cJ1_clear.data.toList.drop 0 = dktJ1_clear_0 := by decide +kernel
theorem dksJ1_clear_1 : cJ1_clear.data.toList.drop 22 = dktJ1_clear_1 := dk_seg dksJ1_clear_0 22 rfl rfl
theorem dJ1_clear_0 : decode cJ1_clear 0 = .ok (.aload_n 0, 1) := dk_42 (dk_at dksJ1_clear_0 0 rfl rfl)
theorem dJ1_clear_1 : decode cJ1_clear 1 = .ok (.getfield 3, 3) := dk_180 0 3 (dk_at dksJ1_clear_0 1 rfl rfl)
theorem dJ1_clear_4 : decode cJ1_clear 4 = .ok (.aload_n 0, 1) := dk_42 (dk_at dksJ1_clear_0 4 rfl rfl)
theorem dJ1_clear_5 : decode cJ1_clear 5 = .ok (.getfield 24, 3) := dk_180 0 24 (dk_at dksJ1_clear_0 5 rfl rfl)
theorem dJ1_clear_8 : decode cJ1_clear 8 = .ok (.aload_n 0, 1) := dk_42 (dk_at dksJ1_clear_0 8 rfl rfl)
theorem dJ1_clear_9 : decode cJ1_clear 9 = .ok (.getfield 20, 3) := dk_180 0 20 (dk_at dksJ1_clear_0 9 rfl rfl)
theorem dJ1_clear_12 : decode cJ1_clear 12 = .ok (.invokestatic 181, 3) := dk_184 0 181 (dk_at dksJ1_clear_0 12 rfl rfl)
theorem dJ1_clear_15 : decode cJ1_clear 15 = .ok (.aload_n 0, 1) := dk_42 (dk_at dksJ1_clear_0 15 rfl rfl)
theorem dJ1_clear_16 : decode cJ1_clear 16 = .ok (.aload_n 0, 1) := dk_42 (dk_at dksJ1_clear_0 16 rfl rfl)
theorem dJ1_clear_17 : decode cJ1_clear 17 = .ok (.iconst 0, 1) := dk_3 (dk_at dksJ1_clear_0 17 rfl rfl)
theorem dJ1_clear_18 : decode cJ1_clear 18 = .ok (.dup_x1, 1) := dk_90 (dk_at dksJ1_clear_0 18 rfl rfl)
theorem dJ1_clear_19 : decode cJ1_clear 19 = .ok (.putfield 20, 3) := dk_181 0 20 (dk_at dksJ1_clear_0 19 rfl rfl)
theorem dJ1_clear_22 : decode cJ1_clear 22 = .ok (.putfield 24, 3) := dk_181 0 24 (dk_at dksJ1_clear_1 0 rfl rfl)
theorem dJ1_clear_25 : decode cJ1_clear 25 = .ok (.return_, 1) := dk_177 (dk_at dksJ1_clear_1 3 rfl rfl)
abbrev cJ1_circularClear : ByteArray := prog_56_method_54_code
def yJ1_circularClear : MethodName := ⟨RJ1, "circularClear", "([Ljava/lang/Object;II)V"⟩
def dkwJ1_circularClear_1 : List UInt8 := [167, 255, 244, 29, 28, 160, 0, 6, 167, 0, 10, 3, 60, 28, 62, 167, 255, 229, 177]
abbrev dktJ1_circularClear_1 : List UInt8 := dkwJ1_circularClear_1 ++ []
def dkwJ1_circularClear_0 : List UInt8 := [27, 28, 163, 0, 7, 28, 167, 0, 5, 42, 190, 62, 27, 29, 162, 0, 13, 42, 27, 1, 83, 132, 1, 1]
abbrev dktJ1_circularClear_0 : List UInt8 := dkwJ1_circularClear_0 ++ dktJ1_circularClear_1
theorem dksJ1_circularClear_0 : cJ1_circularClear.data.toList.drop 0 = dktJ1_circularClear_0 := by decide +kernel
theorem dksJ1_circularClear_1 : cJ1_circularClear.data.toList.drop 24 = dktJ1_circularClear_1 := dk_seg dksJ1_circularClear_0 24 rfl rfl
theorem dJ1_circularClear_0 : decode cJ1_circularClear 0 = .ok (.iload_n 1, 1) := dk_27 (dk_at dksJ1_circularClear_0 0 rfl rfl)
theorem dJ1_circularClear_1 : decode cJ1_circularClear 1 = .ok (.iload_n 2, 1) := dk_28 (dk_at dksJ1_circularClear_0 1 rfl rfl)
theorem dJ1_circularClear_2 : decode cJ1_circularClear 2 = .ok (.if_icmp .gt 7, 3) := dk_163 0 7 (dk_at dksJ1_circularClear_0 2 rfl rfl)
theorem dJ1_circularClear_5 : decode cJ1_circularClear 5 = .ok (.iload_n 2, 1) := dk_28 (dk_at dksJ1_circularClear_0 5 rfl rfl)
theorem dJ1_circularClear_6 : decode cJ1_circularClear 6 = .ok (.goto 5, 3) := dk_167 0 5 (dk_at dksJ1_circularClear_0 6 rfl rfl)
theorem dJ1_circularClear_9 : decode cJ1_circularClear 9 = .ok (.aload_n 0, 1) := dk_42 (dk_at dksJ1_circularClear_0 9 rfl rfl)
theorem dJ1_circularClear_10 : decode cJ1_circularClear 10 = .ok (.arraylength, 1) := dk_190 (dk_at dksJ1_circularClear_0 10 rfl rfl)
theorem dJ1_circularClear_11 : decode cJ1_circularClear 11 = .ok (.istore_n 3, 1) := dk_62 (dk_at dksJ1_circularClear_0 11 rfl rfl)
theorem dJ1_circularClear_12 : decode cJ1_circularClear 12 = .ok (.iload_n 1, 1) := dk_27 (dk_at dksJ1_circularClear_0 12 rfl rfl)
theorem dJ1_circularClear_13 : decode cJ1_circularClear 13 = .ok (.iload_n 3, 1) := dk_29 (dk_at dksJ1_circularClear_0 13 rfl rfl)
theorem dJ1_circularClear_14 : decode cJ1_circularClear 14 = .ok (.if_icmp .ge 13, 3) := dk_162 0 13 (dk_at dksJ1_circularClear_0 14 rfl rfl)
theorem dJ1_circularClear_17 : decode cJ1_circularClear 17 = .ok (.aload_n 0, 1) := dk_42 (dk_at dksJ1_circularClear_0 17 rfl rfl)
theorem dJ1_circularClear_18 : decode cJ1_circularClear 18 = .ok (.iload_n 1, 1) := dk_27 (dk_at dksJ1_circularClear_0 18 rfl rfl)
theorem dJ1_circularClear_19 : decode cJ1_circularClear 19 = .ok (.aconst_null, 1) := dk_1 (dk_at dksJ1_circularClear_0 19 rfl rfl)
theorem dJ1_circularClear_20 : decode cJ1_circularClear 20 = .ok (.aastore, 1) := dk_83 (dk_at dksJ1_circularClear_0 20 rfl rfl)
theorem dJ1_circularClear_21 : decode cJ1_circularClear 21 = .ok (.iinc 1 1, 3) := dk_132 1 1 (dk_at dksJ1_circularClear_0 21 rfl rfl)
theorem dJ1_circularClear_24 : decode cJ1_circularClear 24 = .ok (.goto (-12), 3) := dk_167 255 244 (dk_at dksJ1_circularClear_1 0 rfl rfl)
theorem dJ1_circularClear_27 : decode cJ1_circularClear 27 = .ok (.iload_n 3, 1) := dk_29 (dk_at dksJ1_circularClear_1 3 rfl rfl)
theorem dJ1_circularClear_28 : decode cJ1_circularClear 28 = .ok (.iload_n 2, 1) := dk_28 (dk_at dksJ1_circularClear_1 4 rfl rfl)
theorem dJ1_circularClear_29 : decode cJ1_circularClear 29 = .ok (.if_icmp .ne 6, 3) := dk_160 0 6 (dk_at dksJ1_circularClear_1 5 rfl rfl)
theorem dJ1_circularClear_32 : decode cJ1_circularClear 32 = .ok (.goto 10, 3) := dk_167 0 10 (dk_at dksJ1_circularClear_1 8 rfl rfl)
theorem dJ1_circularClear_35 : decode cJ1_circularClear 35 = .ok (.iconst 0, 1) := dk_3 (dk_at dksJ1_circularClear_1 11 rfl rfl)
theorem dJ1_circularClear_36 : decode cJ1_circularClear 36 = .ok (.istore_n 1, 1) := dk_60 (dk_at dksJ1_circularClear_1 12 rfl rfl)
theorem dJ1_circularClear_37 : decode cJ1_circularClear 37 = .ok (.iload_n 2, 1) := dk_28 (dk_at dksJ1_circularClear_1 13 rfl rfl)
theorem dJ1_circularClear_38 : decode cJ1_circularClear 38 = .ok (.istore_n 3, 1) := dk_62 (dk_at dksJ1_circularClear_1 14 rfl rfl)
theorem dJ1_circularClear_39 : decode cJ1_circularClear 39 = .ok (.goto (-27), 3) := dk_167 255 229 (dk_at dksJ1_circularClear_1 15 rfl rfl)
theorem dJ1_circularClear_42 : decode cJ1_circularClear 42 = .ok (.return_, 1) := dk_177 (dk_at dksJ1_circularClear_1 18 rfl rfl)
theorem q122 : (Jvm.Cond.initialized "java/util/ArrayDeque") ∈ lw_all := lw_g (lw_at lw_m1 3 rfl) rfl
theorem q183 : (Jvm.Cond.instantiable "java/util/ArrayDeque" (3 : Nat)) ∈ lw_all := lw_g (lw_at lw_m1 64 rfl) rfl
theorem q185 : (Jvm.Cond.instanceMethod ({ cls := "java/util/ArrayDeque", name := "<init>", desc := "()V" } : Jvm.MethodName)) ∈ lw_all := lw_g (lw_at lw_m1 66 rfl) rfl
theorem q186 : (Jvm.Cond.code ({ cls := "java/util/ArrayDeque", name := "<init>", desc := "()V" } : Jvm.MethodName) prog_56_method_3_code (1 : Nat) (Option.none : Option Jvm.ClassFile.FieldType)) ∈ lw_all := lw_g (lw_at lw_m1 67 rfl) rfl
theorem q187 : (Jvm.Cond.methodLink "java/util/ArrayDeque" (42 : Nat) ({ cls := "java/util/AbstractCollection", name := "<init>", desc := "()V" } : Jvm.MethodName)) ∈ lw_all := lw_g (lw_at lw_m1 68 rfl) rfl
theorem q191 : (Jvm.Cond.classLink "java/util/ArrayDeque" (47 : Nat) "java/lang/Object") ∈ lw_all := lw_g (lw_at lw_m1 72 rfl) rfl
theorem q193 : (Jvm.Cond.fieldLink "java/util/ArrayDeque" (3 : Nat) "java/util/ArrayDeque" "elements" "[Ljava/lang/Object;") ∈ lw_all := lw_g (lw_at lw_m1 74 rfl) rfl
theorem q194 : (Jvm.Cond.fieldLink "java/util/ArrayDeque" (24 : Nat) "java/util/ArrayDeque" "head" "I") ∈ lw_all := lw_g (lw_at lw_m1 75 rfl) rfl
theorem q195 : (Jvm.Cond.fieldLink "java/util/ArrayDeque" (20 : Nat) "java/util/ArrayDeque" "tail" "I") ∈ lw_all := lw_g (lw_at lw_m1 76 rfl) rfl
theorem q196 : (Jvm.Cond.lays "java/util/ArrayDeque" "java/util/ArrayDeque" "elements" "[Ljava/lang/Object;") ∈ lw_all := lw_g (lw_at lw_m1 77 rfl) rfl
theorem q197 : (Jvm.Cond.soleField "java/util/ArrayDeque" "elements") ∈ lw_all := lw_g (lw_at lw_m1 78 rfl) rfl
theorem q198 : (Jvm.Cond.lays "java/util/ArrayDeque" "java/util/ArrayDeque" "head" "I") ∈ lw_all := lw_g (lw_at lw_m1 79 rfl) rfl
theorem q199 : (Jvm.Cond.soleField "java/util/ArrayDeque" "head") ∈ lw_all := lw_g (lw_at lw_m1 80 rfl) rfl
theorem q200 : (Jvm.Cond.lays "java/util/ArrayDeque" "java/util/ArrayDeque" "tail" "I") ∈ lw_all := lw_g (lw_at lw_m1 81 rfl) rfl
theorem q201 : (Jvm.Cond.soleField "java/util/ArrayDeque" "tail") ∈ lw_all := lw_g (lw_at lw_m1 82 rfl) rfl
theorem q202 : (Jvm.Cond.superclass "java/util/ArrayDeque" "java/util/AbstractCollection") ∈ lw_all := lw_g (lw_at lw_m1 83 rfl) rfl
theorem q719 : (Jvm.Cond.selects "java/util/ArrayDeque" ({ cls := "java/lang/Object", name := "getClass", desc := "()Ljava/lang/Class;" } : Jvm.MethodName) ({ cls := "java/lang/Object", name := "getClass", desc := "()Ljava/lang/Class;" } : Jvm.MethodName)) ∈ lw_all := lw_g (lw_at lw_m3 120 rfl) rfl
theorem q1273 : (Jvm.Cond.castable "java/util/ArrayDeque" "java/util/Collection") ∈ lw_tbl := lw_at lw_m5 194 rfl
theorem q1274 : (Jvm.Cond.selects "java/util/ArrayDeque" ({ cls := "java/util/Collection", name := "toArray", desc := "()[Ljava/lang/Object;" } : Jvm.MethodName) ({ cls := "java/util/ArrayDeque", name := "toArray", desc := "()[Ljava/lang/Object;" } : Jvm.MethodName)) ∈ lw_all := lw_g (lw_at lw_m5 195 rfl) rfl
theorem q1275 : (Jvm.Cond.unhidden "java/util/ArrayDeque" "toArray" "()[Ljava/lang/Object;") ∈ lw_tbl := lw_at lw_m5 196 rfl
theorem q1276 : (Jvm.Cond.instanceMethod ({ cls := "java/util/ArrayDeque", name := "toArray", desc := "()[Ljava/lang/Object;" } : Jvm.MethodName)) ∈ lw_all := lw_g (lw_at lw_m5 197 rfl) rfl
theorem q1277 : (Jvm.Cond.publicMethod ({ cls := "java/util/ArrayDeque", name := "toArray", desc := "()[Ljava/lang/Object;" } : Jvm.MethodName)) ∈ lw_tbl := lw_at lw_m5 198 rfl
theorem q1278 : (Jvm.Cond.code ({ cls := "java/util/ArrayDeque", name := "toArray", desc := "()[Ljava/lang/Object;" } : Jvm.MethodName) prog_56_method_55_code (1 : Nat) (Option.some (Jvm.ClassFile.FieldType.array (Jvm.ClassFile.FieldType.object "java/lang/Object")))) ∈ lw_all := lw_g (lw_at lw_m5 199 rfl) rfl
theorem q1279 : (Jvm.Cond.classLink "java/util/ArrayDeque" (188 : Nat) "[Ljava/lang/Object;") ∈ lw_all := lw_g (lw_at lw_m5 200 rfl) rfl
theorem q1280 : (Jvm.Cond.methodLink "java/util/ArrayDeque" (189 : Nat) ({ cls := "java/util/ArrayDeque", name := "toArray", desc := "(Ljava/lang/Class;)[Ljava/lang/Object;" } : Jvm.MethodName)) ∈ lw_all := lw_g (lw_at lw_m5 201 rfl) rfl
theorem q1281 : (Jvm.Cond.privateMethod ({ cls := "java/util/ArrayDeque", name := "toArray", desc := "(Ljava/lang/Class;)[Ljava/lang/Object;" } : Jvm.MethodName)) ∈ lw_tbl := lw_at lw_m5 202 rfl
theorem q1282 : (Jvm.Cond.instanceMethod ({ cls := "java/util/ArrayDeque", name := "toArray", desc := "(Ljava/lang/Class;)[Ljava/lang/Object;" } : Jvm.MethodName)) ∈ lw_all := lw_g (lw_at lw_m5 203 rfl) rfl
theorem q1283 : (Jvm.Cond.code ({ cls := "java/util/ArrayDeque", name := "toArray", desc := "(Ljava/lang/Class;)[Ljava/lang/Object;" } : Jvm.MethodName) prog_56_method_56_code (7 : Nat) (Option.some (Jvm.ClassFile.FieldType.array (Jvm.ClassFile.FieldType.object "java/lang/Object")))) ∈ lw_all := lw_g (lw_at lw_m5 204 rfl) rfl
theorem q1284 : (Jvm.Cond.methodLink "java/util/ArrayDeque" (193 : Nat) ({ cls := "java/util/Arrays", name := "copyOfRange", desc := "([Ljava/lang/Object;IILjava/lang/Class;)[Ljava/lang/Object;" } : Jvm.MethodName)) ∈ lw_all := lw_g (lw_at lw_m5 205 rfl) rfl
theorem q1287 : (Jvm.Cond.methodLink "java/util/ArrayDeque" (27 : Nat) ({ cls := "java/lang/System", name := "arraycopy", desc := "(Ljava/lang/Object;ILjava/lang/Object;II)V" } : Jvm.MethodName)) ∈ lw_all := lw_g (lw_at lw_m5 208 rfl) rfl
theorem q1298 : (Jvm.Cond.unhidden "java/util/ArrayDeque" "getClass" "()Ljava/lang/Class;") ∈ lw_tbl := lw_at lw_m5 219 rfl
theorem q1947 : (Jvm.Cond.instanceMethod ({ cls := "java/util/ArrayDeque", name := "size", desc := "()I" } : Jvm.MethodName)) ∈ lw_all := lw_g (lw_at lw_m8 148 rfl) rfl
theorem q1948 : (Jvm.Cond.selects "java/util/ArrayDeque" ({ cls := "java/util/ArrayDeque", name := "size", desc := "()I" } : Jvm.MethodName) ({ cls := "java/util/ArrayDeque", name := "size", desc := "()I" } : Jvm.MethodName)) ∈ lw_all := lw_g (lw_at lw_m8 149 rfl) rfl
theorem q1949 : (Jvm.Cond.code ({ cls := "java/util/ArrayDeque", name := "size", desc := "()I" } : Jvm.MethodName) prog_56_method_37_code (1 : Nat) (Option.some Jvm.ClassFile.FieldType.int)) ∈ lw_all := lw_g (lw_at lw_m8 150 rfl) rfl
theorem q1950 : (Jvm.Cond.methodLink "java/util/ArrayDeque" (127 : Nat) ({ cls := "java/util/ArrayDeque", name := "sub", desc := "(III)I" } : Jvm.MethodName)) ∈ lw_all := lw_g (lw_at lw_m8 151 rfl) rfl
theorem q1951 : (Jvm.Cond.static ({ cls := "java/util/ArrayDeque", name := "sub", desc := "(III)I" } : Jvm.MethodName)) ∈ lw_all := lw_g (lw_at lw_m8 152 rfl) rfl
theorem q1952 : (Jvm.Cond.code ({ cls := "java/util/ArrayDeque", name := "sub", desc := "(III)I" } : Jvm.MethodName) prog_56_method_9_code (3 : Nat) (Option.some Jvm.ClassFile.FieldType.int)) ∈ lw_all := lw_g (lw_at lw_m8 153 rfl) rfl
theorem q1954 : (Jvm.Cond.instanceMethod ({ cls := "java/util/ArrayDeque", name := "removeFirst", desc := "()Ljava/lang/Object;" } : Jvm.MethodName)) ∈ lw_all := lw_g (lw_at lw_m8 155 rfl) rfl
theorem q1955 : (Jvm.Cond.selects "java/util/ArrayDeque" ({ cls := "java/util/ArrayDeque", name := "removeFirst", desc := "()Ljava/lang/Object;" } : Jvm.MethodName) ({ cls := "java/util/ArrayDeque", name := "removeFirst", desc := "()Ljava/lang/Object;" } : Jvm.MethodName)) ∈ lw_all := lw_g (lw_at lw_m8 156 rfl) rfl
theorem q1956 : (Jvm.Cond.code ({ cls := "java/util/ArrayDeque", name := "removeFirst", desc := "()Ljava/lang/Object;" } : Jvm.MethodName) prog_56_method_18_code (2 : Nat) (Option.some (Jvm.ClassFile.FieldType.object "java/lang/Object"))) ∈ lw_all := lw_g (lw_at lw_m8 157 rfl) rfl
theorem q1957 : (Jvm.Cond.methodLink "java/util/ArrayDeque" (93 : Nat) ({ cls := "java/util/ArrayDeque", name := "pollFirst", desc := "()Ljava/lang/Object;" } : Jvm.MethodName)) ∈ lw_all := lw_g (lw_at lw_m8 158 rfl) rfl
theorem q1958 : (Jvm.Cond.instanceMethod ({ cls := "java/util/ArrayDeque", name := "pollFirst", desc := "()Ljava/lang/Object;" } : Jvm.MethodName)) ∈ lw_all := lw_g (lw_at lw_m8 159 rfl) rfl
theorem q1959 : (Jvm.Cond.selects "java/util/ArrayDeque" ({ cls := "java/util/ArrayDeque", name := "pollFirst", desc := "()Ljava/lang/Object;" } : Jvm.MethodName) ({ cls := "java/util/ArrayDeque", name := "pollFirst", desc := "()Ljava/lang/Object;" } : Jvm.MethodName)) ∈ lw_all := lw_g (lw_at lw_m8 160 rfl) rfl
theorem q1960 : (Jvm.Cond.code ({ cls := "java/util/ArrayDeque", name := "pollFirst", desc := "()Ljava/lang/Object;" } : Jvm.MethodName) prog_56_method_20_code (4 : Nat) (Option.some (Jvm.ClassFile.FieldType.object "java/lang/Object"))) ∈ lw_all := lw_g (lw_at lw_m8 161 rfl) rfl
theorem q1961 : (Jvm.Cond.methodLink "java/util/ArrayDeque" (103 : Nat) ({ cls := "java/util/ArrayDeque", name := "elementAt", desc := "([Ljava/lang/Object;I)Ljava/lang/Object;" } : Jvm.MethodName)) ∈ lw_all := lw_g (lw_at lw_m8 162 rfl) rfl
theorem q1962 : (Jvm.Cond.static ({ cls := "java/util/ArrayDeque", name := "elementAt", desc := "([Ljava/lang/Object;I)Ljava/lang/Object;" } : Jvm.MethodName)) ∈ lw_all := lw_g (lw_at lw_m8 163 rfl) rfl
theorem q1963 : (Jvm.Cond.code ({ cls := "java/util/ArrayDeque", name := "elementAt", desc := "([Ljava/lang/Object;I)Ljava/lang/Object;" } : Jvm.MethodName) prog_56_method_10_code (2 : Nat) (Option.some (Jvm.ClassFile.FieldType.object "java/lang/Object"))) ∈ lw_all := lw_g (lw_at lw_m8 164 rfl) rfl
theorem q1964 : (Jvm.Cond.methodLink "java/util/ArrayDeque" (74 : Nat) ({ cls := "java/util/ArrayDeque", name := "inc", desc := "(II)I" } : Jvm.MethodName)) ∈ lw_all := lw_g (lw_at lw_m8 165 rfl) rfl
theorem q1965 : (Jvm.Cond.static ({ cls := "java/util/ArrayDeque", name := "inc", desc := "(II)I" } : Jvm.MethodName)) ∈ lw_all := lw_g (lw_at lw_m8 166 rfl) rfl
theorem q1966 : (Jvm.Cond.code ({ cls := "java/util/ArrayDeque", name := "inc", desc := "(II)I" } : Jvm.MethodName) prog_56_method_6_code (2 : Nat) (Option.some Jvm.ClassFile.FieldType.int)) ∈ lw_all := lw_g (lw_at lw_m8 167 rfl) rfl
theorem q1967 : (Jvm.Cond.classLink "java/util/ArrayDeque" (97 : Nat) "java/util/NoSuchElementException") ∈ lw_all := lw_g (lw_at lw_m8 168 rfl) rfl
theorem q1968 : (Jvm.Cond.methodLink "java/util/ArrayDeque" (99 : Nat) ({ cls := "java/util/NoSuchElementException", name := "<init>", desc := "()V" } : Jvm.MethodName)) ∈ lw_all := lw_g (lw_at lw_m8 169 rfl) rfl
theorem q1970 : (Jvm.Cond.instanceMethod ({ cls := "java/util/ArrayDeque", name := "addLast", desc := "(Ljava/lang/Object;)V" } : Jvm.MethodName)) ∈ lw_all := lw_g (lw_at lw_m8 171 rfl) rfl
theorem q1971 : (Jvm.Cond.selects "java/util/ArrayDeque" ({ cls := "java/util/ArrayDeque", name := "addLast", desc := "(Ljava/lang/Object;)V" } : Jvm.MethodName) ({ cls := "java/util/ArrayDeque", name := "addLast", desc := "(Ljava/lang/Object;)V" } : Jvm.MethodName)) ∈ lw_all := lw_g (lw_at lw_m8 172 rfl) rfl
theorem q1972 : (Jvm.Cond.code ({ cls := "java/util/ArrayDeque", name := "addLast", desc := "(Ljava/lang/Object;)V" } : Jvm.MethodName) prog_56_method_13_code (3 : Nat) (Option.none : Option Jvm.ClassFile.FieldType)) ∈ lw_all := lw_g (lw_at lw_m8 173 rfl) rfl
theorem q1973 : (Jvm.Cond.methodLink "java/util/ArrayDeque" (71 : Nat) ({ cls := "java/util/ArrayDeque", name := "grow", desc := "(I)V" } : Jvm.MethodName)) ∈ lw_all := lw_g (lw_at lw_m8 174 rfl) rfl
theorem q1974 : (Jvm.Cond.privateMethod ({ cls := "java/util/ArrayDeque", name := "grow", desc := "(I)V" } : Jvm.MethodName)) ∈ lw_tbl := lw_at lw_m8 175 rfl
theorem q1975 : (Jvm.Cond.instanceMethod ({ cls := "java/util/ArrayDeque", name := "grow", desc := "(I)V" } : Jvm.MethodName)) ∈ lw_all := lw_g (lw_at lw_m8 176 rfl) rfl
theorem q1976 : (Jvm.Cond.code ({ cls := "java/util/ArrayDeque", name := "grow", desc := "(I)V" } : Jvm.MethodName) prog_56_method_1_code (9 : Nat) (Option.none : Option Jvm.ClassFile.FieldType)) ∈ lw_all := lw_g (lw_at lw_m8 177 rfl) rfl
theorem q1977 : (Jvm.Cond.constant "java/util/ArrayDeque" (9 : Nat) (2147483639 : Int32)) ∈ lw_all := lw_g (lw_at lw_m8 178 rfl) rfl
theorem q1978 : (Jvm.Cond.methodLink "java/util/ArrayDeque" (10 : Nat) ({ cls := "java/util/ArrayDeque", name := "newCapacity", desc := "(II)I" } : Jvm.MethodName)) ∈ lw_all := lw_g (lw_at lw_m8 179 rfl) rfl
theorem q1979 : (Jvm.Cond.privateMethod ({ cls := "java/util/ArrayDeque", name := "newCapacity", desc := "(II)I" } : Jvm.MethodName)) ∈ lw_tbl := lw_at lw_m8 180 rfl
theorem q1980 : (Jvm.Cond.instanceMethod ({ cls := "java/util/ArrayDeque", name := "newCapacity", desc := "(II)I" } : Jvm.MethodName)) ∈ lw_all := lw_g (lw_at lw_m8 181 rfl) rfl
theorem q1981 : (Jvm.Cond.code ({ cls := "java/util/ArrayDeque", name := "newCapacity", desc := "(II)I" } : Jvm.MethodName) prog_56_method_2_code (5 : Nat) (Option.some Jvm.ClassFile.FieldType.int)) ∈ lw_all := lw_g (lw_at lw_m8 182 rfl) rfl
theorem q1982 : (Jvm.Cond.constant "java/util/ArrayDeque" (41 : Nat) (2147483647 : Int32)) ∈ lw_all := lw_g (lw_at lw_m8 183 rfl) rfl
theorem q1983 : (Jvm.Cond.methodLink "java/util/ArrayDeque" (14 : Nat) ({ cls := "java/util/Arrays", name := "copyOf", desc := "([Ljava/lang/Object;I)[Ljava/lang/Object;" } : Jvm.MethodName)) ∈ lw_all := lw_g (lw_at lw_m8 184 rfl) rfl
theorem q2003 : (Jvm.Cond.instanceMethod ({ cls := "java/util/ArrayDeque", name := "isEmpty", desc := "()Z" } : Jvm.MethodName)) ∈ lw_all := lw_g (lw_at lw_m8 204 rfl) rfl
theorem q2004 : (Jvm.Cond.selects "java/util/ArrayDeque" ({ cls := "java/util/ArrayDeque", name := "isEmpty", desc := "()Z" } : Jvm.MethodName) ({ cls := "java/util/ArrayDeque", name := "isEmpty", desc := "()Z" } : Jvm.MethodName)) ∈ lw_all := lw_g (lw_at lw_m8 205 rfl) rfl
theorem q2005 : (Jvm.Cond.code ({ cls := "java/util/ArrayDeque", name := "isEmpty", desc := "()Z" } : Jvm.MethodName) prog_56_method_38_code (1 : Nat) (Option.some Jvm.ClassFile.FieldType.boolean)) ∈ lw_all := lw_g (lw_at lw_m8 206 rfl) rfl
theorem q2007 : (Jvm.Cond.instanceMethod ({ cls := "java/util/ArrayDeque", name := "removeLast", desc := "()Ljava/lang/Object;" } : Jvm.MethodName)) ∈ lw_all := lw_g (lw_at lw_m8 208 rfl) rfl
theorem q2008 : (Jvm.Cond.selects "java/util/ArrayDeque" ({ cls := "java/util/ArrayDeque", name := "removeLast", desc := "()Ljava/lang/Object;" } : Jvm.MethodName) ({ cls := "java/util/ArrayDeque", name := "removeLast", desc := "()Ljava/lang/Object;" } : Jvm.MethodName)) ∈ lw_all := lw_g (lw_at lw_m8 209 rfl) rfl
theorem q2009 : (Jvm.Cond.code ({ cls := "java/util/ArrayDeque", name := "removeLast", desc := "()Ljava/lang/Object;" } : Jvm.MethodName) prog_56_method_19_code (2 : Nat) (Option.some (Jvm.ClassFile.FieldType.object "java/lang/Object"))) ∈ lw_all := lw_g (lw_at lw_m8 210 rfl) rfl
theorem q2010 : (Jvm.Cond.methodLink "java/util/ArrayDeque" (100 : Nat) ({ cls := "java/util/ArrayDeque", name := "pollLast", desc := "()Ljava/lang/Object;" } : Jvm.MethodName)) ∈ lw_all := lw_g (lw_at lw_m8 211 rfl) rfl
theorem q2011 : (Jvm.Cond.instanceMethod ({ cls := "java/util/ArrayDeque", name := "pollLast", desc := "()Ljava/lang/Object;" } : Jvm.MethodName)) ∈ lw_all := lw_g (lw_at lw_m8 212 rfl) rfl
theorem q2012 : (Jvm.Cond.selects "java/util/ArrayDeque" ({ cls := "java/util/ArrayDeque", name := "pollLast", desc := "()Ljava/lang/Object;" } : Jvm.MethodName) ({ cls := "java/util/ArrayDeque", name := "pollLast", desc := "()Ljava/lang/Object;" } : Jvm.MethodName)) ∈ lw_all := lw_g (lw_at lw_m8 213 rfl) rfl
theorem q2013 : (Jvm.Cond.code ({ cls := "java/util/ArrayDeque", name := "pollLast", desc := "()Ljava/lang/Object;" } : Jvm.MethodName) prog_56_method_21_code (4 : Nat) (Option.some (Jvm.ClassFile.FieldType.object "java/lang/Object"))) ∈ lw_all := lw_g (lw_at lw_m8 214 rfl) rfl
theorem q2014 : (Jvm.Cond.methodLink "java/util/ArrayDeque" (68 : Nat) ({ cls := "java/util/ArrayDeque", name := "dec", desc := "(II)I" } : Jvm.MethodName)) ∈ lw_all := lw_g (lw_at lw_m8 215 rfl) rfl
theorem q2015 : (Jvm.Cond.static ({ cls := "java/util/ArrayDeque", name := "dec", desc := "(II)I" } : Jvm.MethodName)) ∈ lw_all := lw_g (lw_at lw_m8 216 rfl) rfl
theorem q2016 : (Jvm.Cond.code ({ cls := "java/util/ArrayDeque", name := "dec", desc := "(II)I" } : Jvm.MethodName) prog_56_method_7_code (2 : Nat) (Option.some Jvm.ClassFile.FieldType.int)) ∈ lw_all := lw_g (lw_at lw_m8 217 rfl) rfl
theorem q2026 : (Jvm.Cond.instanceMethod ({ cls := "java/util/ArrayDeque", name := "clear", desc := "()V" } : Jvm.MethodName)) ∈ lw_all := lw_g (lw_at lw_m8 227 rfl) rfl
theorem q2027 : (Jvm.Cond.selects "java/util/ArrayDeque" ({ cls := "java/util/ArrayDeque", name := "clear", desc := "()V" } : Jvm.MethodName) ({ cls := "java/util/ArrayDeque", name := "clear", desc := "()V" } : Jvm.MethodName)) ∈ lw_all := lw_g (lw_at lw_m8 228 rfl) rfl
theorem q2028 : (Jvm.Cond.code ({ cls := "java/util/ArrayDeque", name := "clear", desc := "()V" } : Jvm.MethodName) prog_56_method_53_code (1 : Nat) (Option.none : Option Jvm.ClassFile.FieldType)) ∈ lw_all := lw_g (lw_at lw_m8 229 rfl) rfl
theorem q2029 : (Jvm.Cond.methodLink "java/util/ArrayDeque" (181 : Nat) ({ cls := "java/util/ArrayDeque", name := "circularClear", desc := "([Ljava/lang/Object;II)V" } : Jvm.MethodName)) ∈ lw_all := lw_g (lw_at lw_m8 230 rfl) rfl
theorem q2030 : (Jvm.Cond.static ({ cls := "java/util/ArrayDeque", name := "circularClear", desc := "([Ljava/lang/Object;II)V" } : Jvm.MethodName)) ∈ lw_all := lw_g (lw_at lw_m8 231 rfl) rfl
theorem q2031 : (Jvm.Cond.code ({ cls := "java/util/ArrayDeque", name := "circularClear", desc := "([Ljava/lang/Object;II)V" } : Jvm.MethodName) prog_56_method_54_code (4 : Nat) (Option.none : Option Jvm.ClassFile.FieldType)) ∈ lw_all := lw_g (lw_at lw_m8 232 rfl) rfl
theorem q3434 : (Jvm.Cond.castable "java/util/ArrayDeque" "java/lang/Object") ∈ lw_tbl := lw_at lw_m14 195 rfl
theorem in_J1 : ∀ w ∈ wsJ10, w ∈ lw_all := lw_in wsJ10 [196, 198, 200] (by decide +kernel) (by decide +kernel)
/-! java/lang/String -/
set_option maxRecDepth 100000
def RJ10 : String := "java/lang/String"
def TJ10 : u_T := fun k => match k with
  | 0 => ("java/lang/String", "value", "[B", true)
  | 1 => ("java/lang/String", "coder", "B", true)
  | 2 => ("java/lang/String", "hash", "I", false)
  | _ => ("java/lang/String", "hashIsZero", "Z", false)
def tyJ10 : Nat → FieldType := fun k => match k with
  | 0 => .array .byte
  | 1 => .byte
  | 2 => .int
  | _ => .boolean
abbrev wsJ100 : List Cond := u_ws RJ10 TJ10 4
theorem nmJ10 : ∀ a, a < 4 → ∀ b, b < 4 → a ≠ b → (TJ10 a).2.1 ≠ (TJ10 b).2.1 := by decide +kernel
theorem tyJ10_ok : ∀ k, k < 4 → parseFieldDescriptor (TJ10 k).2.2.1 = some (tyJ10 k) := by decide +kernel
abbrev cJ10_checkBoundsBeginEnd : ByteArray := prog_44_method_158_code
def yJ10_checkBoundsBeginEnd : MethodName := ⟨RJ10, "checkBoundsBeginEnd", "(III)V"⟩
def dkwJ10_checkBoundsBeginEnd_0 : List UInt8 := [26, 27, 28, 178, 4, 29, 184, 4, 38, 87, 177]
abbrev dktJ10_checkBoundsBeginEnd_0 : List UInt8 := dkwJ10_checkBoundsBeginEnd_0 ++ []
theorem dksJ10_checkBoundsBeginEnd_0 : cJ10_checkBoundsBeginEnd.data.toList.drop 0 = dktJ10_checkBoundsBeginEnd_0 := by decide +kernel
theorem dJ10_checkBoundsBeginEnd_0 : decode cJ10_checkBoundsBeginEnd 0 = .ok (.iload_n 0, 1) := dk_26 (dk_at dksJ10_checkBoundsBeginEnd_0 0 rfl rfl)
theorem dJ10_checkBoundsBeginEnd_1 : decode cJ10_checkBoundsBeginEnd 1 = .ok (.iload_n 1, 1) := dk_27 (dk_at dksJ10_checkBoundsBeginEnd_0 1 rfl rfl)
theorem dJ10_checkBoundsBeginEnd_2 : decode cJ10_checkBoundsBeginEnd 2 = .ok (.iload_n 2, 1) := dk_28 (dk_at dksJ10_checkBoundsBeginEnd_0 2 rfl rfl)
theorem dJ10_checkBoundsBeginEnd_3 : decode cJ10_checkBoundsBeginEnd 3 = .ok (.getstatic 1053, 3) := dk_178 4 29 (dk_at dksJ10_checkBoundsBeginEnd_0 3 rfl rfl)
theorem dJ10_checkBoundsBeginEnd_6 : decode cJ10_checkBoundsBeginEnd 6 = .ok (.invokestatic 1062, 3) := dk_184 4 38 (dk_at dksJ10_checkBoundsBeginEnd_0 6 rfl rfl)
theorem dJ10_checkBoundsBeginEnd_9 : decode cJ10_checkBoundsBeginEnd 9 = .ok (.pop, 1) := dk_87 (dk_at dksJ10_checkBoundsBeginEnd_0 9 rfl rfl)
theorem dJ10_checkBoundsBeginEnd_10 : decode cJ10_checkBoundsBeginEnd 10 = .ok (.return_, 1) := dk_177 (dk_at dksJ10_checkBoundsBeginEnd_0 10 rfl rfl)
abbrev cJ10_length : ByteArray := prog_44_method_54_code
def yJ10_length : MethodName := ⟨RJ10, "length", "()I"⟩
def dkwJ10_length_0 : List UInt8 := [42, 180, 0, 9, 190, 42, 182, 1, 79, 122, 172]
abbrev dktJ10_length_0 : List UInt8 := dkwJ10_length_0 ++ []
theorem dksJ10_length_0 : cJ10_length.data.toList.drop 0 = dktJ10_length_0 := by decide +kernel
theorem dJ10_length_0 : decode cJ10_length 0 = .ok (.aload_n 0, 1) := dk_42 (dk_at dksJ10_length_0 0 rfl rfl)
theorem dJ10_length_1 : decode cJ10_length 1 = .ok (.getfield 9, 3) := dk_180 0 9 (dk_at dksJ10_length_0 1 rfl rfl)
theorem dJ10_length_4 : decode cJ10_length 4 = .ok (.arraylength, 1) := dk_190 (dk_at dksJ10_length_0 4 rfl rfl)
theorem dJ10_length_5 : decode cJ10_length 5 = .ok (.aload_n 0, 1) := dk_42 (dk_at dksJ10_length_0 5 rfl rfl)
theorem dJ10_length_6 : decode cJ10_length 6 = .ok (.invokevirtual 335, 3) := dk_182 1 79 (dk_at dksJ10_length_0 6 rfl rfl)
theorem dJ10_length_9 : decode cJ10_length 9 = .ok (.ishr, 1) := dk_122 (dk_at dksJ10_length_0 9 rfl rfl)
theorem dJ10_length_10 : decode cJ10_length 10 = .ok (.ireturn, 1) := dk_172 (dk_at dksJ10_length_0 10 rfl rfl)
abbrev cJ10_coder : ByteArray := prog_44_method_152_code
def yJ10_coder : MethodName := ⟨RJ10, "coder", "()B"⟩
def dkwJ10_coder_0 : List UInt8 := [178, 0, 38, 153, 0, 10, 42, 180, 0, 15, 167, 0, 4, 4, 172]
abbrev dktJ10_coder_0 : List UInt8 := dkwJ10_coder_0 ++ []
theorem dksJ10_coder_0 : cJ10_coder.data.toList.drop 0 = dktJ10_coder_0 := by decide +kernel
theorem dJ10_coder_0 : decode cJ10_coder 0 = .ok (.getstatic 38, 3) := dk_178 0 38 (dk_at dksJ10_coder_0 0 rfl rfl)
theorem dJ10_coder_3 : decode cJ10_coder 3 = .ok (.ifCond .eq 10, 3) := dk_153 0 10 (dk_at dksJ10_coder_0 3 rfl rfl)
theorem dJ10_coder_6 : decode cJ10_coder 6 = .ok (.aload_n 0, 1) := dk_42 (dk_at dksJ10_coder_0 6 rfl rfl)
theorem dJ10_coder_7 : decode cJ10_coder 7 = .ok (.getfield 15, 3) := dk_180 0 15 (dk_at dksJ10_coder_0 7 rfl rfl)
theorem dJ10_coder_10 : decode cJ10_coder 10 = .ok (.goto 4, 3) := dk_167 0 4 (dk_at dksJ10_coder_0 10 rfl rfl)
theorem dJ10_coder_13 : decode cJ10_coder 13 = .ok (.iconst 1, 1) := dk_4 (dk_at dksJ10_coder_0 13 rfl rfl)
theorem dJ10_coder_14 : decode cJ10_coder 14 = .ok (.ireturn, 1) := dk_172 (dk_at dksJ10_coder_0 14 rfl rfl)
abbrev cJ10_checkBoundsOffCount : ByteArray := prog_44_method_157_code
def yJ10_checkBoundsOffCount : MethodName := ⟨RJ10, "checkBoundsOffCount", "(III)I"⟩
def dkwJ10_checkBoundsOffCount_0 : List UInt8 := [26, 27, 28, 178, 4, 29, 184, 4, 41, 172]
abbrev dktJ10_checkBoundsOffCount_0 : List UInt8 := dkwJ10_checkBoundsOffCount_0 ++ []
theorem dksJ10_checkBoundsOffCount_0 : cJ10_checkBoundsOffCount.data.toList.drop 0 = dktJ10_checkBoundsOffCount_0 := by decide +kernel
theorem dJ10_checkBoundsOffCount_0 : decode cJ10_checkBoundsOffCount 0 = .ok (.iload_n 0, 1) := dk_26 (dk_at dksJ10_checkBoundsOffCount_0 0 rfl rfl)
theorem dJ10_checkBoundsOffCount_1 : decode cJ10_checkBoundsOffCount 1 = .ok (.iload_n 1, 1) := dk_27 (dk_at dksJ10_checkBoundsOffCount_0 1 rfl rfl)
theorem dJ10_checkBoundsOffCount_2 : decode cJ10_checkBoundsOffCount 2 = .ok (.iload_n 2, 1) := dk_28 (dk_at dksJ10_checkBoundsOffCount_0 2 rfl rfl)
theorem dJ10_checkBoundsOffCount_3 : decode cJ10_checkBoundsOffCount 3 = .ok (.getstatic 1053, 3) := dk_178 4 29 (dk_at dksJ10_checkBoundsOffCount_0 3 rfl rfl)
theorem dJ10_checkBoundsOffCount_6 : decode cJ10_checkBoundsOffCount 6 = .ok (.invokestatic 1065, 3) := dk_184 4 41 (dk_at dksJ10_checkBoundsOffCount_0 6 rfl rfl)
theorem dJ10_checkBoundsOffCount_9 : decode cJ10_checkBoundsOffCount 9 = .ok (.ireturn, 1) := dk_172 (dk_at dksJ10_checkBoundsOffCount_0 9 rfl rfl)
abbrev cJ10_getBytes : ByteArray := prog_44_method_147_code
def yJ10_getBytes : MethodName := ⟨RJ10, "getBytes", "([BIB)V"⟩
def dkwJ10_getBytes_1 : List UInt8 := [184, 0, 212, 167, 0, 18, 42, 180, 0, 9, 3, 43, 28, 42, 180, 0, 9, 190, 184, 0, 106, 177]
abbrev dktJ10_getBytes_1 : List UInt8 := dkwJ10_getBytes_1 ++ []
def dkwJ10_getBytes_0 : List UInt8 := [42, 182, 1, 79, 29, 160, 0, 23, 42, 180, 0, 9, 3, 43, 28, 29, 120, 42, 180, 0, 9, 190]
abbrev dktJ10_getBytes_0 : List UInt8 := dkwJ10_getBytes_0 ++ dktJ10_getBytes_1
theorem dksJ10_getBytes_0 : cJ10_getBytes.data.toList.drop 0 = dktJ10_getBytes_0 := by decide +kernel
theorem dksJ10_getBytes_1 : cJ10_getBytes.data.toList.drop 22 = dktJ10_getBytes_1 := dk_seg dksJ10_getBytes_0 22 rfl rfl
theorem dJ10_getBytes_0 : decode cJ10_getBytes 0 = .ok (.aload_n 0, 1) := dk_42 (dk_at dksJ10_getBytes_0 0 rfl rfl)
theorem dJ10_getBytes_1 : decode cJ10_getBytes 1 = .ok (.invokevirtual 335, 3) := dk_182 1 79 (dk_at dksJ10_getBytes_0 1 rfl rfl)
theorem dJ10_getBytes_4 : decode cJ10_getBytes 4 = .ok (.iload_n 3, 1) := dk_29 (dk_at dksJ10_getBytes_0 4 rfl rfl)
theorem dJ10_getBytes_5 : decode cJ10_getBytes 5 = .ok (.if_icmp .ne 23, 3) := dk_160 0 23 (dk_at dksJ10_getBytes_0 5 rfl rfl)
theorem dJ10_getBytes_8 : decode cJ10_getBytes 8 = .ok (.aload_n 0, 1) := dk_42 (dk_at dksJ10_getBytes_0 8 rfl rfl)
theorem dJ10_getBytes_9 : decode cJ10_getBytes 9 = .ok (.getfield 9, 3) := dk_180 0 9 (dk_at dksJ10_getBytes_0 9 rfl rfl)
theorem dJ10_getBytes_12 : decode cJ10_getBytes 12 = .ok (.iconst 0, 1) := dk_3 (dk_at dksJ10_getBytes_0 12 rfl rfl)
theorem dJ10_getBytes_13 : decode cJ10_getBytes 13 = .ok (.aload_n 1, 1) := dk_43 (dk_at dksJ10_getBytes_0 13 rfl rfl)
theorem dJ10_getBytes_14 : decode cJ10_getBytes 14 = .ok (.iload_n 2, 1) := dk_28 (dk_at dksJ10_getBytes_0 14 rfl rfl)
theorem dJ10_getBytes_15 : decode cJ10_getBytes 15 = .ok (.iload_n 3, 1) := dk_29 (dk_at dksJ10_getBytes_0 15 rfl rfl)
theorem dJ10_getBytes_16 : decode cJ10_getBytes 16 = .ok (.ishl, 1) := dk_120 (dk_at dksJ10_getBytes_0 16 rfl rfl)
theorem dJ10_getBytes_17 : decode cJ10_getBytes 17 = .ok (.aload_n 0, 1) := dk_42 (dk_at dksJ10_getBytes_0 17 rfl rfl)
theorem dJ10_getBytes_18 : decode cJ10_getBytes 18 = .ok (.getfield 9, 3) := dk_180 0 9 (dk_at dksJ10_getBytes_0 18 rfl rfl)
theorem dJ10_getBytes_21 : decode cJ10_getBytes 21 = .ok (.arraylength, 1) := dk_190 (dk_at dksJ10_getBytes_0 21 rfl rfl)
theorem dJ10_getBytes_22 : decode cJ10_getBytes 22 = .ok (.invokestatic 212, 3) := dk_184 0 212 (dk_at dksJ10_getBytes_1 0 rfl rfl)
theorem dJ10_getBytes_25 : decode cJ10_getBytes 25 = .ok (.goto 18, 3) := dk_167 0 18 (dk_at dksJ10_getBytes_1 3 rfl rfl)
theorem dJ10_getBytes_28 : decode cJ10_getBytes 28 = .ok (.aload_n 0, 1) := dk_42 (dk_at dksJ10_getBytes_1 6 rfl rfl)
theorem dJ10_getBytes_29 : decode cJ10_getBytes 29 = .ok (.getfield 9, 3) := dk_180 0 9 (dk_at dksJ10_getBytes_1 7 rfl rfl)
theorem dJ10_getBytes_32 : decode cJ10_getBytes 32 = .ok (.iconst 0, 1) := dk_3 (dk_at dksJ10_getBytes_1 10 rfl rfl)
theorem dJ10_getBytes_33 : decode cJ10_getBytes 33 = .ok (.aload_n 1, 1) := dk_43 (dk_at dksJ10_getBytes_1 11 rfl rfl)
theorem dJ10_getBytes_34 : decode cJ10_getBytes 34 = .ok (.iload_n 2, 1) := dk_28 (dk_at dksJ10_getBytes_1 12 rfl rfl)
theorem dJ10_getBytes_35 : decode cJ10_getBytes 35 = .ok (.aload_n 0, 1) := dk_42 (dk_at dksJ10_getBytes_1 13 rfl rfl)
theorem dJ10_getBytes_36 : decode cJ10_getBytes 36 = .ok (.getfield 9, 3) := dk_180 0 9 (dk_at dksJ10_getBytes_1 14 rfl rfl)
theorem dJ10_getBytes_39 : decode cJ10_getBytes 39 = .ok (.arraylength, 1) := dk_190 (dk_at dksJ10_getBytes_1 17 rfl rfl)
theorem dJ10_getBytes_40 : decode cJ10_getBytes 40 = .ok (.invokestatic 106, 3) := dk_184 0 106 (dk_at dksJ10_getBytes_1 18 rfl rfl)
theorem dJ10_getBytes_43 : decode cJ10_getBytes 43 = .ok (.return_, 1) := dk_177 (dk_at dksJ10_getBytes_1 21 rfl rfl)
abbrev cJ10_init : ByteArray := prog_44_method_53_code
def yJ10_init : MethodName := ⟨RJ10, "<init>", "(Ljava/lang/StringBuilder;)V"⟩
def dkwJ10_init_0 : List UInt8 := [42, 43, 1, 183, 1, 233, 177]
abbrev dktJ10_init_0 : List UInt8 := dkwJ10_init_0 ++ []
theorem dksJ10_init_0 : cJ10_init.data.toList.drop 0 = dktJ10_init_0 := by decide +kernel
theorem dJ10_init_0 : decode cJ10_init 0 = .ok (.aload_n 0, 1) := dk_42 (dk_at dksJ10_init_0 0 rfl rfl)
theorem dJ10_init_1 : decode cJ10_init 1 = .ok (.aload_n 1, 1) := dk_43 (dk_at dksJ10_init_0 1 rfl rfl)
theorem dJ10_init_2 : decode cJ10_init 2 = .ok (.aconst_null, 1) := dk_1 (dk_at dksJ10_init_0 2 rfl rfl)
theorem dJ10_init_3 : decode cJ10_init 3 = .ok (.invokespecial 489, 3) := dk_183 1 233 (dk_at dksJ10_init_0 3 rfl rfl)
theorem dJ10_init_6 : decode cJ10_init 6 = .ok (.return_, 1) := dk_177 (dk_at dksJ10_init_0 6 rfl rfl)
abbrev cJ10_init_2 : ByteArray := prog_44_method_150_code
def yJ10_init_2 : MethodName := ⟨RJ10, "<init>", "(Ljava/lang/AbstractStringBuilder;Ljava/lang/Void;)V"⟩
def dkwJ10_init_2_4 : List UInt8 := [181, 0, 9, 177]
abbrev dktJ10_init_2_4 : List UInt8 := dkwJ10_init_2_4 ++ []
def dkwJ10_init_2_3 : List UInt8 := [184, 0, 47, 181, 0, 15, 177, 42, 4, 181, 0, 15, 42, 45, 3, 21, 4, 4, 120, 184, 0, 54]
abbrev dktJ10_init_2_3 : List UInt8 := dkwJ10_init_2_3 ++ dktJ10_init_2_4
def dkwJ10_init_2_2 : List UInt8 := [180, 4, 24, 153, 0, 28, 42, 45, 3, 21, 4, 184, 4, 27, 181, 0, 9, 42, 42, 180, 0, 9, 21, 4]
abbrev dktJ10_init_2_2 : List UInt8 := dkwJ10_init_2_2 ++ dktJ10_init_2_3
def dkwJ10_init_2_1 : List UInt8 := [181, 0, 15, 42, 45, 3, 21, 4, 184, 0, 54, 181, 0, 9, 167, 0, 59, 178, 0, 38, 153, 0, 35, 43]
abbrev dktJ10_init_2_1 : List UInt8 := dkwJ10_init_2_1 ++ dktJ10_init_2_2
def dkwJ10_init_2_0 : List UInt8 := [42, 183, 0, 1, 43, 182, 2, 40, 78, 43, 182, 2, 37, 54, 4, 43, 182, 4, 23, 153, 0, 22, 42, 3]
abbrev dktJ10_init_2_0 : List UInt8 := dkwJ10_init_2_0 ++ dktJ10_init_2_1
theorem dksJ10_init_2_0 : cJ10_init_2.data.toList.drop 0 = dktJ10_init_2_0 := by decide +kernel
theorem dksJ10_init_2_1 : cJ10_init_2.data.toList.drop 24 = dktJ10_init_2_1 := dk_seg dksJ10_init_2_0 24 rfl rfl
theorem dksJ10_init_2_2 : cJ10_init_2.data.toList.drop 48 = dktJ10_init_2_2 := dk_seg dksJ10_init_2_1 24 rfl rfl
theorem dksJ10_init_2_3 : cJ10_init_2.data.toList.drop 72 = dktJ10_init_2_3 := dk_seg dksJ10_init_2_2 24 rfl rfl
theorem dksJ10_init_2_4 : cJ10_init_2.data.toList.drop 94 = dktJ10_init_2_4 := dk_seg dksJ10_init_2_3 22 rfl rfl
theorem dJ10_init_2_0 : decode cJ10_init_2 0 = .ok (.aload_n 0, 1) := dk_42 (dk_at dksJ10_init_2_0 0 rfl rfl)
theorem dJ10_init_2_1 : decode cJ10_init_2 1 = .ok (.invokespecial 1, 3) := dk_183 0 1 (dk_at dksJ10_init_2_0 1 rfl rfl)
theorem dJ10_init_2_4 : decode cJ10_init_2 4 = .ok (.aload_n 1, 1) := dk_43 (dk_at dksJ10_init_2_0 4 rfl rfl)
theorem dJ10_init_2_5 : decode cJ10_init_2 5 = .ok (.invokevirtual 552, 3) := dk_182 2 40 (dk_at dksJ10_init_2_0 5 rfl rfl)
theorem dJ10_init_2_8 : decode cJ10_init_2 8 = .ok (.astore_n 3, 1) := dk_78 (dk_at dksJ10_init_2_0 8 rfl rfl)
theorem dJ10_init_2_9 : decode cJ10_init_2 9 = .ok (.aload_n 1, 1) := dk_43 (dk_at dksJ10_init_2_0 9 rfl rfl)
theorem dJ10_init_2_10 : decode cJ10_init_2 10 = .ok (.invokevirtual 549, 3) := dk_182 2 37 (dk_at dksJ10_init_2_0 10 rfl rfl)
theorem dJ10_init_2_13 : decode cJ10_init_2 13 = .ok (.istore 4, 2) := dk_54 4 (dk_at dksJ10_init_2_0 13 rfl rfl)
theorem dJ10_init_2_15 : decode cJ10_init_2 15 = .ok (.aload_n 1, 1) := dk_43 (dk_at dksJ10_init_2_0 15 rfl rfl)
theorem dJ10_init_2_16 : decode cJ10_init_2 16 = .ok (.invokevirtual 1047, 3) := dk_182 4 23 (dk_at dksJ10_init_2_0 16 rfl rfl)
theorem dJ10_init_2_19 : decode cJ10_init_2 19 = .ok (.ifCond .eq 22, 3) := dk_153 0 22 (dk_at dksJ10_init_2_0 19 rfl rfl)
theorem dJ10_init_2_22 : decode cJ10_init_2 22 = .ok (.aload_n 0, 1) := dk_42 (dk_at dksJ10_init_2_0 22 rfl rfl)
theorem dJ10_init_2_23 : decode cJ10_init_2 23 = .ok (.iconst 0, 1) := dk_3 (dk_at dksJ10_init_2_0 23 rfl rfl)
theorem dJ10_init_2_24 : decode cJ10_init_2 24 = .ok (.putfield 15, 3) := dk_181 0 15 (dk_at dksJ10_init_2_1 0 rfl rfl)
theorem dJ10_init_2_27 : decode cJ10_init_2 27 = .ok (.aload_n 0, 1) := dk_42 (dk_at dksJ10_init_2_1 3 rfl rfl)
theorem dJ10_init_2_28 : decode cJ10_init_2 28 = .ok (.aload_n 3, 1) := dk_45 (dk_at dksJ10_init_2_1 4 rfl rfl)
theorem dJ10_init_2_29 : decode cJ10_init_2 29 = .ok (.iconst 0, 1) := dk_3 (dk_at dksJ10_init_2_1 5 rfl rfl)
theorem dJ10_init_2_30 : decode cJ10_init_2 30 = .ok (.iload 4, 2) := dk_21 4 (dk_at dksJ10_init_2_1 6 rfl rfl)
theorem dJ10_init_2_32 : decode cJ10_init_2 32 = .ok (.invokestatic 54, 3) := dk_184 0 54 (dk_at dksJ10_init_2_1 8 rfl rfl)
theorem dJ10_init_2_35 : decode cJ10_init_2 35 = .ok (.putfield 9, 3) := dk_181 0 9 (dk_at dksJ10_init_2_1 11 rfl rfl)
theorem dJ10_init_2_38 : decode cJ10_init_2 38 = .ok (.goto 59, 3) := dk_167 0 59 (dk_at dksJ10_init_2_1 14 rfl rfl)
theorem dJ10_init_2_41 : decode cJ10_init_2 41 = .ok (.getstatic 38, 3) := dk_178 0 38 (dk_at dksJ10_init_2_1 17 rfl rfl)
theorem dJ10_init_2_44 : decode cJ10_init_2 44 = .ok (.ifCond .eq 35, 3) := dk_153 0 35 (dk_at dksJ10_init_2_1 20 rfl rfl)
theorem dJ10_init_2_47 : decode cJ10_init_2 47 = .ok (.aload_n 1, 1) := dk_43 (dk_at dksJ10_init_2_1 23 rfl rfl)
theorem dJ10_init_2_48 : decode cJ10_init_2 48 = .ok (.getfield 1048, 3) := dk_180 4 24 (dk_at dksJ10_init_2_2 0 rfl rfl)
theorem dJ10_init_2_51 : decode cJ10_init_2 51 = .ok (.ifCond .eq 28, 3) := dk_153 0 28 (dk_at dksJ10_init_2_2 3 rfl rfl)
theorem dJ10_init_2_54 : decode cJ10_init_2 54 = .ok (.aload_n 0, 1) := dk_42 (dk_at dksJ10_init_2_2 6 rfl rfl)
theorem dJ10_init_2_55 : decode cJ10_init_2 55 = .ok (.aload_n 3, 1) := dk_45 (dk_at dksJ10_init_2_2 7 rfl rfl)
theorem dJ10_init_2_56 : decode cJ10_init_2 56 = .ok (.iconst 0, 1) := dk_3 (dk_at dksJ10_init_2_2 8 rfl rfl)
theorem dJ10_init_2_57 : decode cJ10_init_2 57 = .ok (.iload 4, 2) := dk_21 4 (dk_at dksJ10_init_2_2 9 rfl rfl)
theorem dJ10_init_2_59 : decode cJ10_init_2 59 = .ok (.invokestatic 1051, 3) := dk_184 4 27 (dk_at dksJ10_init_2_2 11 rfl rfl)
theorem dJ10_init_2_62 : decode cJ10_init_2 62 = .ok (.putfield 9, 3) := dk_181 0 9 (dk_at dksJ10_init_2_2 14 rfl rfl)
theorem dJ10_init_2_65 : decode cJ10_init_2 65 = .ok (.aload_n 0, 1) := dk_42 (dk_at dksJ10_init_2_2 17 rfl rfl)
theorem dJ10_init_2_66 : decode cJ10_init_2 66 = .ok (.aload_n 0, 1) := dk_42 (dk_at dksJ10_init_2_2 18 rfl rfl)
theorem dJ10_init_2_67 : decode cJ10_init_2 67 = .ok (.getfield 9, 3) := dk_180 0 9 (dk_at dksJ10_init_2_2 19 rfl rfl)
theorem dJ10_init_2_70 : decode cJ10_init_2 70 = .ok (.iload 4, 2) := dk_21 4 (dk_at dksJ10_init_2_2 22 rfl rfl)
theorem dJ10_init_2_72 : decode cJ10_init_2 72 = .ok (.invokestatic 47, 3) := dk_184 0 47 (dk_at dksJ10_init_2_3 0 rfl rfl)
theorem dJ10_init_2_75 : decode cJ10_init_2 75 = .ok (.putfield 15, 3) := dk_181 0 15 (dk_at dksJ10_init_2_3 3 rfl rfl)
theorem dJ10_init_2_78 : decode cJ10_init_2 78 = .ok (.return_, 1) := dk_177 (dk_at dksJ10_init_2_3 6 rfl rfl)
theorem dJ10_init_2_79 : decode cJ10_init_2 79 = .ok (.aload_n 0, 1) := dk_42 (dk_at dksJ10_init_2_3 7 rfl rfl)
theorem dJ10_init_2_80 : decode cJ10_init_2 80 = .ok (.iconst 1, 1) := dk_4 (dk_at dksJ10_init_2_3 8 rfl rfl)
theorem dJ10_init_2_81 : decode cJ10_init_2 81 = .ok (.putfield 15, 3) := dk_181 0 15 (dk_at dksJ10_init_2_3 9 rfl rfl)
theorem dJ10_init_2_84 : decode cJ10_init_2 84 = .ok (.aload_n 0, 1) := dk_42 (dk_at dksJ10_init_2_3 12 rfl rfl)
theorem dJ10_init_2_85 : decode cJ10_init_2 85 = .ok (.aload_n 3, 1) := dk_45 (dk_at dksJ10_init_2_3 13 rfl rfl)
theorem dJ10_init_2_86 : decode cJ10_init_2 86 = .ok (.iconst 0, 1) := dk_3 (dk_at dksJ10_init_2_3 14 rfl rfl)
theorem dJ10_init_2_87 : decode cJ10_init_2 87 = .ok (.iload 4, 2) := dk_21 4 (dk_at dksJ10_init_2_3 15 rfl rfl)
theorem dJ10_init_2_89 : decode cJ10_init_2 89 = .ok (.iconst 1, 1) := dk_4 (dk_at dksJ10_init_2_3 17 rfl rfl)
theorem dJ10_init_2_90 : decode cJ10_init_2 90 = .ok (.ishl, 1) := dk_120 (dk_at dksJ10_init_2_3 18 rfl rfl)
theorem dJ10_init_2_91 : decode cJ10_init_2 91 = .ok (.invokestatic 54, 3) := dk_184 0 54 (dk_at dksJ10_init_2_3 19 rfl rfl)
theorem dJ10_init_2_94 : decode cJ10_init_2 94 = .ok (.putfield 9, 3) := dk_181 0 9 (dk_at dksJ10_init_2_4 0 rfl rfl)
theorem dJ10_init_2_97 : decode cJ10_init_2 97 = .ok (.return_, 1) := dk_177 (dk_at dksJ10_init_2_4 3 rfl rfl)
abbrev cJ10_hashCode : ByteArray := prog_44_method_78_code
def yJ10_hashCode : MethodName := ⟨RJ10, "hashCode", "()I"⟩
def dkwJ10_hashCode_2 : List UInt8 := [181, 0, 23, 167, 0, 8, 42, 27, 181, 0, 19, 27, 172]
abbrev dktJ10_hashCode_2 : List UInt8 := dkwJ10_hashCode_2 ++ []
def dkwJ10_hashCode_1 : List UInt8 := [180, 0, 9, 184, 2, 116, 167, 0, 10, 42, 180, 0, 9, 184, 2, 120, 60, 27, 154, 0, 11, 42, 4]
abbrev dktJ10_hashCode_1 : List UInt8 := dkwJ10_hashCode_1 ++ dktJ10_hashCode_2
def dkwJ10_hashCode_0 : List UInt8 := [42, 180, 0, 19, 60, 27, 154, 0, 52, 42, 180, 0, 23, 154, 0, 45, 42, 182, 1, 236, 153, 0, 13, 42]
abbrev dktJ10_hashCode_0 : List UInt8 := dkwJ10_hashCode_0 ++ dktJ10_hashCode_1
theorem dksJ10_hashCode_0 : cJ10_hashCode.data.toList.drop 0 = dktJ10_hashCode_0 := by decide +kernel
theorem dksJ10_hashCode_1 : cJ10_hashCode.data.toList.drop 24 = dktJ10_hashCode_1 := dk_seg dksJ10_hashCode_0 24 rfl rfl
theorem dksJ10_hashCode_2 : cJ10_hashCode.data.toList.drop 47 = dktJ10_hashCode_2 := dk_seg dksJ10_hashCode_1 23 rfl rfl
theorem dJ10_hashCode_0 : decode cJ10_hashCode 0 = .ok (.aload_n 0, 1) := dk_42 (dk_at dksJ10_hashCode_0 0 rfl rfl)
theorem dJ10_hashCode_1 : decode cJ10_hashCode 1 = .ok (.getfield 19, 3) := dk_180 0 19 (dk_at dksJ10_hashCode_0 1 rfl rfl)
theorem dJ10_hashCode_4 : decode cJ10_hashCode 4 = .ok (.istore_n 1, 1) := dk_60 (dk_at dksJ10_hashCode_0 4 rfl rfl)
theorem dJ10_hashCode_5 : decode cJ10_hashCode 5 = .ok (.iload_n 1, 1) := dk_27 (dk_at dksJ10_hashCode_0 5 rfl rfl)
theorem dJ10_hashCode_6 : decode cJ10_hashCode 6 = .ok (.ifCond .ne 52, 3) := dk_154 0 52 (dk_at dksJ10_hashCode_0 6 rfl rfl)
theorem dJ10_hashCode_9 : decode cJ10_hashCode 9 = .ok (.aload_n 0, 1) := dk_42 (dk_at dksJ10_hashCode_0 9 rfl rfl)
theorem dJ10_hashCode_10 : decode cJ10_hashCode 10 = .ok (.getfield 23, 3) := dk_180 0 23 (dk_at dksJ10_hashCode_0 10 rfl rfl)
theorem dJ10_hashCode_13 : decode cJ10_hashCode 13 = .ok (.ifCond .ne 45, 3) := dk_154 0 45 (dk_at dksJ10_hashCode_0 13 rfl rfl)
theorem dJ10_hashCode_16 : decode cJ10_hashCode 16 = .ok (.aload_n 0, 1) := dk_42 (dk_at dksJ10_hashCode_0 16 rfl rfl)
theorem dJ10_hashCode_17 : decode cJ10_hashCode 17 = .ok (.invokevirtual 492, 3) := dk_182 1 236 (dk_at dksJ10_hashCode_0 17 rfl rfl)
theorem dJ10_hashCode_20 : decode cJ10_hashCode 20 = .ok (.ifCond .eq 13, 3) := dk_153 0 13 (dk_at dksJ10_hashCode_0 20 rfl rfl)
theorem dJ10_hashCode_23 : decode cJ10_hashCode 23 = .ok (.aload_n 0, 1) := dk_42 (dk_at dksJ10_hashCode_0 23 rfl rfl)
theorem dJ10_hashCode_24 : decode cJ10_hashCode 24 = .ok (.getfield 9, 3) := dk_180 0 9 (dk_at dksJ10_hashCode_1 0 rfl rfl)
theorem dJ10_hashCode_27 : decode cJ10_hashCode 27 = .ok (.invokestatic 628, 3) := dk_184 2 116 (dk_at dksJ10_hashCode_1 3 rfl rfl)
theorem dJ10_hashCode_30 : decode cJ10_hashCode 30 = .ok (.goto 10, 3) := dk_167 0 10 (dk_at dksJ10_hashCode_1 6 rfl rfl)
theorem dJ10_hashCode_33 : decode cJ10_hashCode 33 = .ok (.aload_n 0, 1) := dk_42 (dk_at dksJ10_hashCode_1 9 rfl rfl)
theorem dJ10_hashCode_34 : decode cJ10_hashCode 34 = .ok (.getfield 9, 3) := dk_180 0 9 (dk_at dksJ10_hashCode_1 10 rfl rfl)
theorem dJ10_hashCode_37 : decode cJ10_hashCode 37 = .ok (.invokestatic 632, 3) := dk_184 2 120 (dk_at dksJ10_hashCode_1 13 rfl rfl)
theorem dJ10_hashCode_40 : decode cJ10_hashCode 40 = .ok (.istore_n 1, 1) := dk_60 (dk_at dksJ10_hashCode_1 16 rfl rfl)
theorem dJ10_hashCode_41 : decode cJ10_hashCode 41 = .ok (.iload_n 1, 1) := dk_27 (dk_at dksJ10_hashCode_1 17 rfl rfl)
theorem dJ10_hashCode_42 : decode cJ10_hashCode 42 = .ok (.ifCond .ne 11, 3) := dk_154 0 11 (dk_at dksJ10_hashCode_1 18 rfl rfl)
theorem dJ10_hashCode_45 : decode cJ10_hashCode 45 = .ok (.aload_n 0, 1) := dk_42 (dk_at dksJ10_hashCode_1 21 rfl rfl)
theorem dJ10_hashCode_46 : decode cJ10_hashCode 46 = .ok (.iconst 1, 1) := dk_4 (dk_at dksJ10_hashCode_1 22 rfl rfl)
theorem dJ10_hashCode_47 : decode cJ10_hashCode 47 = .ok (.putfield 23, 3) := dk_181 0 23 (dk_at dksJ10_hashCode_2 0 rfl rfl)
theorem dJ10_hashCode_50 : decode cJ10_hashCode 50 = .ok (.goto 8, 3) := dk_167 0 8 (dk_at dksJ10_hashCode_2 3 rfl rfl)
theorem dJ10_hashCode_53 : decode cJ10_hashCode 53 = .ok (.aload_n 0, 1) := dk_42 (dk_at dksJ10_hashCode_2 6 rfl rfl)
theorem dJ10_hashCode_54 : decode cJ10_hashCode 54 = .ok (.iload_n 1, 1) := dk_27 (dk_at dksJ10_hashCode_2 7 rfl rfl)
theorem dJ10_hashCode_55 : decode cJ10_hashCode 55 = .ok (.putfield 19, 3) := dk_181 0 19 (dk_at dksJ10_hashCode_2 8 rfl rfl)
theorem dJ10_hashCode_58 : decode cJ10_hashCode 58 = .ok (.iload_n 1, 1) := dk_27 (dk_at dksJ10_hashCode_2 11 rfl rfl)
theorem dJ10_hashCode_59 : decode cJ10_hashCode 59 = .ok (.ireturn, 1) := dk_172 (dk_at dksJ10_hashCode_2 12 rfl rfl)
abbrev cJ10_isLatin1 : ByteArray := prog_44_method_154_code
def yJ10_isLatin1 : MethodName := ⟨RJ10, "isLatin1", "()Z"⟩
def dkwJ10_isLatin1_0 : List UInt8 := [178, 0, 38, 153, 0, 14, 42, 180, 0, 15, 154, 0, 7, 4, 167, 0, 4, 3, 172]
abbrev dktJ10_isLatin1_0 : List UInt8 := dkwJ10_isLatin1_0 ++ []
theorem dksJ10_isLatin1_0 : cJ10_isLatin1.data.toList.drop 0 = dktJ10_isLatin1_0 := by decide +kernel
theorem dJ10_isLatin1_0 : decode cJ10_isLatin1 0 = .ok (.getstatic 38, 3) := dk_178 0 38 (dk_at dksJ10_isLatin1_0 0 rfl rfl)
theorem dJ10_isLatin1_3 : decode cJ10_isLatin1 3 = .ok (.ifCond .eq 14, 3) := dk_153 0 14 (dk_at dksJ10_isLatin1_0 3 rfl rfl)
theorem dJ10_isLatin1_6 : decode cJ10_isLatin1 6 = .ok (.aload_n 0, 1) := dk_42 (dk_at dksJ10_isLatin1_0 6 rfl rfl)
theorem dJ10_isLatin1_7 : decode cJ10_isLatin1 7 = .ok (.getfield 15, 3) := dk_180 0 15 (dk_at dksJ10_isLatin1_0 7 rfl rfl)
theorem dJ10_isLatin1_10 : decode cJ10_isLatin1 10 = .ok (.ifCond .ne 7, 3) := dk_154 0 7 (dk_at dksJ10_isLatin1_0 10 rfl rfl)
theorem dJ10_isLatin1_13 : decode cJ10_isLatin1 13 = .ok (.iconst 1, 1) := dk_4 (dk_at dksJ10_isLatin1_0 13 rfl rfl)
theorem dJ10_isLatin1_14 : decode cJ10_isLatin1 14 = .ok (.goto 4, 3) := dk_167 0 4 (dk_at dksJ10_isLatin1_0 14 rfl rfl)
theorem dJ10_isLatin1_17 : decode cJ10_isLatin1 17 = .ok (.iconst 0, 1) := dk_3 (dk_at dksJ10_isLatin1_0 17 rfl rfl)
theorem dJ10_isLatin1_18 : decode cJ10_isLatin1 18 = .ok (.ireturn, 1) := dk_172 (dk_at dksJ10_isLatin1_0 18 rfl rfl)
abbrev cJ10_compareTo : ByteArray := prog_44_method_162_code
def yJ10_compareTo : MethodName := ⟨RJ10, "compareTo", "(Ljava/lang/Object;)I"⟩
def dkwJ10_compareTo_0 : List UInt8 := [42, 43, 192, 0, 10, 182, 4, 60, 172]
abbrev dktJ10_compareTo_0 : List UInt8 := dkwJ10_compareTo_0 ++ []
theorem dksJ10_compareTo_0 : cJ10_compareTo.data.toList.drop 0 = dktJ10_compareTo_0 := by decide +kernel
theorem dJ10_compareTo_0 : decode cJ10_compareTo 0 = .ok (.aload_n 0, 1) := dk_42 (dk_at dksJ10_compareTo_0 0 rfl rfl)
theorem dJ10_compareTo_1 : decode cJ10_compareTo 1 = .ok (.aload_n 1, 1) := dk_43 (dk_at dksJ10_compareTo_0 1 rfl rfl)
theorem dJ10_compareTo_2 : decode cJ10_compareTo 2 = .ok (.checkcast 10, 3) := dk_192 0 10 (dk_at dksJ10_compareTo_0 2 rfl rfl)
theorem dJ10_compareTo_5 : decode cJ10_compareTo 5 = .ok (.invokevirtual 1084, 3) := dk_182 4 60 (dk_at dksJ10_compareTo_0 5 rfl rfl)
theorem dJ10_compareTo_8 : decode cJ10_compareTo 8 = .ok (.ireturn, 1) := dk_172 (dk_at dksJ10_compareTo_0 8 rfl rfl)
abbrev cJ10_compareTo_2 : ByteArray := prog_44_method_71_code
def yJ10_compareTo_2 : MethodName := ⟨RJ10, "compareTo", "(Ljava/lang/String;)I"⟩
def dkwJ10_compareTo_2_2 : List UInt8 := [154, 0, 11, 44, 45, 184, 2, 79, 167, 0, 8, 44, 45, 184, 2, 82, 172]
abbrev dktJ10_compareTo_2_2 : List UInt8 := dkwJ10_compareTo_2_2 ++ []
def dkwJ10_compareTo_2_1 : List UInt8 := [160, 0, 22, 21, 4, 154, 0, 11, 44, 45, 184, 2, 74, 167, 0, 8, 44, 45, 184, 2, 78, 172, 21, 4]
abbrev dktJ10_compareTo_2_1 : List UInt8 := dkwJ10_compareTo_2_1 ++ dktJ10_compareTo_2_2
def dkwJ10_compareTo_2_0 : List UInt8 := [42, 180, 0, 9, 77, 43, 180, 0, 9, 78, 42, 182, 1, 79, 54, 4, 21, 4, 43, 182, 1, 79]
abbrev dktJ10_compareTo_2_0 : List UInt8 := dkwJ10_compareTo_2_0 ++ dktJ10_compareTo_2_1
theorem dksJ10_compareTo_2_0 : cJ10_compareTo_2.data.toList.drop 0 = dktJ10_compareTo_2_0 := by decide +kernel
theorem dksJ10_compareTo_2_1 : cJ10_compareTo_2.data.toList.drop 22 = dktJ10_compareTo_2_1 := dk_seg dksJ10_compareTo_2_0 22 rfl rfl
theorem dksJ10_compareTo_2_2 : cJ10_compareTo_2.data.toList.drop 46 = dktJ10_compareTo_2_2 := dk_seg dksJ10_compareTo_2_1 24 rfl rfl
theorem dJ10_compareTo_2_0 : decode cJ10_compareTo_2 0 = .ok (.aload_n 0, 1) := dk_42 (dk_at dksJ10_compareTo_2_0 0 rfl rfl)
theorem dJ10_compareTo_2_1 : decode cJ10_compareTo_2 1 = .ok (.getfield 9, 3) := dk_180 0 9 (dk_at dksJ10_compareTo_2_0 1 rfl rfl)
theorem dJ10_compareTo_2_4 : decode cJ10_compareTo_2 4 = .ok (.astore_n 2, 1) := dk_77 (dk_at dksJ10_compareTo_2_0 4 rfl rfl)
theorem dJ10_compareTo_2_5 : decode cJ10_compareTo_2 5 = .ok (.aload_n 1, 1) := dk_43 (dk_at dksJ10_compareTo_2_0 5 rfl rfl)
theorem dJ10_compareTo_2_6 : decode cJ10_compareTo_2 6 = .ok (.getfield 9, 3) := dk_180 0 9 (dk_at dksJ10_compareTo_2_0 6 rfl rfl)
theorem dJ10_compareTo_2_9 : decode cJ10_compareTo_2 9 = .ok (.astore_n 3, 1) := dk_78 (dk_at dksJ10_compareTo_2_0 9 rfl rfl)
theorem dJ10_compareTo_2_10 : decode cJ10_compareTo_2 10 = .ok (.aload_n 0, 1) := dk_42 (dk_at dksJ10_compareTo_2_0 10 rfl rfl)
theorem dJ10_compareTo_2_11 : decode cJ10_compareTo_2 11 = .ok (.invokevirtual 335, 3) := dk_182 1 79 (dk_at dksJ10_compareTo_2_0 11 rfl rfl)
theorem dJ10_compareTo_2_14 : decode cJ10_compareTo_2 14 = .ok (.istore 4, 2) := dk_54 4 (dk_at dksJ10_compareTo_2_0 14 rfl rfl)
theorem dJ10_compareTo_2_16 : decode cJ10_compareTo_2 16 = .ok (.iload 4, 2) := dk_21 4 (dk_at dksJ10_compareTo_2_0 16 rfl rfl)
theorem dJ10_compareTo_2_18 : decode cJ10_compareTo_2 18 = .ok (.aload_n 1, 1) := dk_43 (dk_at dksJ10_compareTo_2_0 18 rfl rfl)
theorem dJ10_compareTo_2_19 : decode cJ10_compareTo_2 19 = .ok (.invokevirtual 335, 3) := dk_182 1 79 (dk_at dksJ10_compareTo_2_0 19 rfl rfl)
theorem dJ10_compareTo_2_22 : decode cJ10_compareTo_2 22 = .ok (.if_icmp .ne 22, 3) := dk_160 0 22 (dk_at dksJ10_compareTo_2_1 0 rfl rfl)
theorem dJ10_compareTo_2_25 : decode cJ10_compareTo_2 25 = .ok (.iload 4, 2) := dk_21 4 (dk_at dksJ10_compareTo_2_1 3 rfl rfl)
theorem dJ10_compareTo_2_27 : decode cJ10_compareTo_2 27 = .ok (.ifCond .ne 11, 3) := dk_154 0 11 (dk_at dksJ10_compareTo_2_1 5 rfl rfl)
theorem dJ10_compareTo_2_30 : decode cJ10_compareTo_2 30 = .ok (.aload_n 2, 1) := dk_44 (dk_at dksJ10_compareTo_2_1 8 rfl rfl)
theorem dJ10_compareTo_2_31 : decode cJ10_compareTo_2 31 = .ok (.aload_n 3, 1) := dk_45 (dk_at dksJ10_compareTo_2_1 9 rfl rfl)
theorem dJ10_compareTo_2_32 : decode cJ10_compareTo_2 32 = .ok (.invokestatic 586, 3) := dk_184 2 74 (dk_at dksJ10_compareTo_2_1 10 rfl rfl)
theorem dJ10_compareTo_2_35 : decode cJ10_compareTo_2 35 = .ok (.goto 8, 3) := dk_167 0 8 (dk_at dksJ10_compareTo_2_1 13 rfl rfl)
theorem dJ10_compareTo_2_38 : decode cJ10_compareTo_2 38 = .ok (.aload_n 2, 1) := dk_44 (dk_at dksJ10_compareTo_2_1 16 rfl rfl)
theorem dJ10_compareTo_2_39 : decode cJ10_compareTo_2 39 = .ok (.aload_n 3, 1) := dk_45 (dk_at dksJ10_compareTo_2_1 17 rfl rfl)
theorem dJ10_compareTo_2_40 : decode cJ10_compareTo_2 40 = .ok (.invokestatic 590, 3) := dk_184 2 78 (dk_at dksJ10_compareTo_2_1 18 rfl rfl)
theorem dJ10_compareTo_2_43 : decode cJ10_compareTo_2 43 = .ok (.ireturn, 1) := dk_172 (dk_at dksJ10_compareTo_2_1 21 rfl rfl)
theorem dJ10_compareTo_2_44 : decode cJ10_compareTo_2 44 = .ok (.iload 4, 2) := dk_21 4 (dk_at dksJ10_compareTo_2_1 22 rfl rfl)
theorem dJ10_compareTo_2_46 : decode cJ10_compareTo_2 46 = .ok (.ifCond .ne 11, 3) := dk_154 0 11 (dk_at dksJ10_compareTo_2_2 0 rfl rfl)
theorem dJ10_compareTo_2_49 : decode cJ10_compareTo_2 49 = .ok (.aload_n 2, 1) := dk_44 (dk_at dksJ10_compareTo_2_2 3 rfl rfl)
theorem dJ10_compareTo_2_50 : decode cJ10_compareTo_2 50 = .ok (.aload_n 3, 1) := dk_45 (dk_at dksJ10_compareTo_2_2 4 rfl rfl)
theorem dJ10_compareTo_2_51 : decode cJ10_compareTo_2 51 = .ok (.invokestatic 591, 3) := dk_184 2 79 (dk_at dksJ10_compareTo_2_2 5 rfl rfl)
theorem dJ10_compareTo_2_54 : decode cJ10_compareTo_2 54 = .ok (.goto 8, 3) := dk_167 0 8 (dk_at dksJ10_compareTo_2_2 8 rfl rfl)
theorem dJ10_compareTo_2_57 : decode cJ10_compareTo_2 57 = .ok (.aload_n 2, 1) := dk_44 (dk_at dksJ10_compareTo_2_2 11 rfl rfl)
theorem dJ10_compareTo_2_58 : decode cJ10_compareTo_2 58 = .ok (.aload_n 3, 1) := dk_45 (dk_at dksJ10_compareTo_2_2 12 rfl rfl)
theorem dJ10_compareTo_2_59 : decode cJ10_compareTo_2 59 = .ok (.invokestatic 594, 3) := dk_184 2 82 (dk_at dksJ10_compareTo_2_2 13 rfl rfl)
theorem dJ10_compareTo_2_62 : decode cJ10_compareTo_2 62 = .ok (.ireturn, 1) := dk_172 (dk_at dksJ10_compareTo_2_2 16 rfl rfl)
abbrev cJ10_checkOffset : ByteArray := prog_44_method_156_code
def yJ10_checkOffset : MethodName := ⟨RJ10, "checkOffset", "(II)V"⟩
def dkwJ10_checkOffset_0 : List UInt8 := [26, 27, 27, 178, 4, 29, 184, 4, 38, 87, 177]
abbrev dktJ10_checkOffset_0 : List UInt8 := dkwJ10_checkOffset_0 ++ []
theorem dksJ10_checkOffset_0 : cJ10_checkOffset.data.toList.drop 0 = dktJ10_checkOffset_0 := by decide +kernel
theorem dJ10_checkOffset_0 : decode cJ10_checkOffset 0 = .ok (.iload_n 0, 1) := dk_26 (dk_at dksJ10_checkOffset_0 0 rfl rfl)
theorem dJ10_checkOffset_1 : decode cJ10_checkOffset 1 = .ok (.iload_n 1, 1) := dk_27 (dk_at dksJ10_checkOffset_0 1 rfl rfl)
theorem dJ10_checkOffset_2 : decode cJ10_checkOffset 2 = .ok (.iload_n 1, 1) := dk_27 (dk_at dksJ10_checkOffset_0 2 rfl rfl)
theorem dJ10_checkOffset_3 : decode cJ10_checkOffset 3 = .ok (.getstatic 1053, 3) := dk_178 4 29 (dk_at dksJ10_checkOffset_0 3 rfl rfl)
theorem dJ10_checkOffset_6 : decode cJ10_checkOffset 6 = .ok (.invokestatic 1062, 3) := dk_184 4 38 (dk_at dksJ10_checkOffset_0 6 rfl rfl)
theorem dJ10_checkOffset_9 : decode cJ10_checkOffset 9 = .ok (.pop, 1) := dk_87 (dk_at dksJ10_checkOffset_0 9 rfl rfl)
theorem dJ10_checkOffset_10 : decode cJ10_checkOffset 10 = .ok (.return_, 1) := dk_177 (dk_at dksJ10_checkOffset_0 10 rfl rfl)
abbrev cJ10_equals : ByteArray := prog_44_method_66_code
def yJ10_equals : MethodName := ⟨RJ10, "equals", "(Ljava/lang/Object;)Z"⟩
def dkwJ10_equals_2 : List UInt8 := [184, 2, 29, 153, 0, 7, 4, 167, 0, 4, 3, 172]
abbrev dktJ10_equals_2 : List UInt8 := dkwJ10_equals_2 ++ []
def dkwJ10_equals_1 : List UInt8 := [153, 0, 14, 42, 180, 0, 15, 44, 180, 0, 15, 160, 0, 21, 42, 180, 0, 9, 44, 180, 0, 9]
abbrev dktJ10_equals_1 : List UInt8 := dkwJ10_equals_1 ++ dktJ10_equals_2
def dkwJ10_equals_0 : List UInt8 := [42, 43, 166, 0, 5, 4, 172, 43, 193, 0, 10, 153, 0, 43, 43, 192, 0, 10, 77, 178, 0, 38]
abbrev dktJ10_equals_0 : List UInt8 := dkwJ10_equals_0 ++ dktJ10_equals_1
theorem dksJ10_equals_0 : cJ10_equals.data.toList.drop 0 = dktJ10_equals_0 := by decide +kernel
theorem dksJ10_equals_1 : cJ10_equals.data.toList.drop 22 = dktJ10_equals_1 := dk_seg dksJ10_equals_0 22 rfl rfl
theorem dksJ10_equals_2 : cJ10_equals.data.toList.drop 44 = dktJ10_equals_2 := dk_seg dksJ10_equals_1 22 rfl rfl
theorem dJ10_equals_0 : decode cJ10_equals 0 = .ok (.aload_n 0, 1) := dk_42 (dk_at dksJ10_equals_0 0 rfl rfl)
theorem dJ10_equals_1 : decode cJ10_equals 1 = .ok (.aload_n 1, 1) := dk_43 (dk_at dksJ10_equals_0 1 rfl rfl)
theorem dJ10_equals_2 : decode cJ10_equals 2 = .ok (.if_acmp .ne 5, 3) := dk_166 0 5 (dk_at dksJ10_equals_0 2 rfl rfl)
theorem dJ10_equals_5 : decode cJ10_equals 5 = .ok (.iconst 1, 1) := dk_4 (dk_at dksJ10_equals_0 5 rfl rfl)
theorem dJ10_equals_6 : decode cJ10_equals 6 = .ok (.ireturn, 1) := dk_172 (dk_at dksJ10_equals_0 6 rfl rfl)
theorem dJ10_equals_7 : decode cJ10_equals 7 = .ok (.aload_n 1, 1) := dk_43 (dk_at dksJ10_equals_0 7 rfl rfl)
theorem dJ10_equals_8 : decode cJ10_equals 8 = .ok (.instanceof 10, 3) := dk_193 0 10 (dk_at dksJ10_equals_0 8 rfl rfl)
theorem dJ10_equals_11 : decode cJ10_equals 11 = .ok (.ifCond .eq 43, 3) := dk_153 0 43 (dk_at dksJ10_equals_0 11 rfl rfl)
theorem dJ10_equals_14 : decode cJ10_equals 14 = .ok (.aload_n 1, 1) := dk_43 (dk_at dksJ10_equals_0 14 rfl rfl)
theorem dJ10_equals_15 : decode cJ10_equals 15 = .ok (.checkcast 10, 3) := dk_192 0 10 (dk_at dksJ10_equals_0 15 rfl rfl)
theorem dJ10_equals_18 : decode cJ10_equals 18 = .ok (.astore_n 2, 1) := dk_77 (dk_at dksJ10_equals_0 18 rfl rfl)
theorem dJ10_equals_19 : decode cJ10_equals 19 = .ok (.getstatic 38, 3) := dk_178 0 38 (dk_at dksJ10_equals_0 19 rfl rfl)
theorem dJ10_equals_22 : decode cJ10_equals 22 = .ok (.ifCond .eq 14, 3) := dk_153 0 14 (dk_at dksJ10_equals_1 0 rfl rfl)
theorem dJ10_equals_25 : decode cJ10_equals 25 = .ok (.aload_n 0, 1) := dk_42 (dk_at dksJ10_equals_1 3 rfl rfl)
theorem dJ10_equals_26 : decode cJ10_equals 26 = .ok (.getfield 15, 3) := dk_180 0 15 (dk_at dksJ10_equals_1 4 rfl rfl)
theorem dJ10_equals_29 : decode cJ10_equals 29 = .ok (.aload_n 2, 1) := dk_44 (dk_at dksJ10_equals_1 7 rfl rfl)
theorem dJ10_equals_30 : decode cJ10_equals 30 = .ok (.getfield 15, 3) := dk_180 0 15 (dk_at dksJ10_equals_1 8 rfl rfl)
theorem dJ10_equals_33 : decode cJ10_equals 33 = .ok (.if_icmp .ne 21, 3) := dk_160 0 21 (dk_at dksJ10_equals_1 11 rfl rfl)
theorem dJ10_equals_36 : decode cJ10_equals 36 = .ok (.aload_n 0, 1) := dk_42 (dk_at dksJ10_equals_1 14 rfl rfl)
theorem dJ10_equals_37 : decode cJ10_equals 37 = .ok (.getfield 9, 3) := dk_180 0 9 (dk_at dksJ10_equals_1 15 rfl rfl)
theorem dJ10_equals_40 : decode cJ10_equals 40 = .ok (.aload_n 2, 1) := dk_44 (dk_at dksJ10_equals_1 18 rfl rfl)
theorem dJ10_equals_41 : decode cJ10_equals 41 = .ok (.getfield 9, 3) := dk_180 0 9 (dk_at dksJ10_equals_1 19 rfl rfl)
theorem dJ10_equals_44 : decode cJ10_equals 44 = .ok (.invokestatic 541, 3) := dk_184 2 29 (dk_at dksJ10_equals_2 0 rfl rfl)
theorem dJ10_equals_47 : decode cJ10_equals 47 = .ok (.ifCond .eq 7, 3) := dk_153 0 7 (dk_at dksJ10_equals_2 3 rfl rfl)
theorem dJ10_equals_50 : decode cJ10_equals 50 = .ok (.iconst 1, 1) := dk_4 (dk_at dksJ10_equals_2 6 rfl rfl)
theorem dJ10_equals_51 : decode cJ10_equals 51 = .ok (.goto 4, 3) := dk_167 0 4 (dk_at dksJ10_equals_2 7 rfl rfl)
theorem dJ10_equals_54 : decode cJ10_equals 54 = .ok (.iconst 0, 1) := dk_3 (dk_at dksJ10_equals_2 10 rfl rfl)
theorem dJ10_equals_55 : decode cJ10_equals 55 = .ok (.ireturn, 1) := dk_172 (dk_at dksJ10_equals_2 11 rfl rfl)
abbrev cJ10_startsWith : ByteArray := prog_44_method_75_code
def yJ10_startsWith : MethodName := ⟨RJ10, "startsWith", "(Ljava/lang/String;I)Z"⟩
def dkwJ10_startsWith_5 : List UInt8 := [159, 255, 229, 3, 172, 4, 172]
abbrev dktJ10_startsWith_5 : List UInt8 := dkwJ10_startsWith_5 ++ []
def dkwJ10_startsWith_4 : List UInt8 := [162, 0, 28, 45, 28, 132, 2, 1, 184, 1, 104, 25, 4, 21, 5, 132, 5, 1, 51, 17, 0, 255, 126]
abbrev dktJ10_startsWith_4 : List UInt8 := dkwJ10_startsWith_4 ++ dktJ10_startsWith_5
def dkwJ10_startsWith_3 : List UInt8 := [184, 2, 95, 156, 0, 7, 4, 167, 0, 4, 3, 172, 21, 7, 154, 0, 5, 3, 172, 21, 5, 21, 6]
abbrev dktJ10_startsWith_3 : List UInt8 := dkwJ10_startsWith_3 ++ dktJ10_startsWith_4
def dkwJ10_startsWith_2 : List UInt8 := [182, 1, 79, 160, 0, 32, 21, 7, 4, 160, 0, 7, 28, 4, 120, 61, 45, 28, 25, 4, 3, 21, 6]
abbrev dktJ10_startsWith_2 : List UInt8 := dkwJ10_startsWith_2 ++ dktJ10_startsWith_3
def dkwJ10_startsWith_1 : List UInt8 := [43, 180, 0, 9, 58, 4, 3, 54, 5, 25, 4, 190, 54, 6, 42, 182, 1, 79, 54, 7, 21, 7, 43]
abbrev dktJ10_startsWith_1 : List UInt8 := dkwJ10_startsWith_1 ++ dktJ10_startsWith_2
def dkwJ10_startsWith_0 : List UInt8 := [28, 155, 0, 16, 28, 42, 182, 1, 249, 43, 182, 1, 249, 100, 164, 0, 5, 3, 172, 42, 180, 0, 9, 78]
abbrev dktJ10_startsWith_0 : List UInt8 := dkwJ10_startsWith_0 ++ dktJ10_startsWith_1
theorem dksJ10_startsWith_0 : cJ10_startsWith.data.toList.drop 0 = dktJ10_startsWith_0 := by decide +kernel
theorem dksJ10_startsWith_1 : cJ10_startsWith.data.toList.drop 24 = dktJ10_startsWith_1 := dk_seg dksJ10_startsWith_0 24 rfl rfl
theorem dksJ10_startsWith_2 : cJ10_startsWith.data.toList.drop 47 = dktJ10_startsWith_2 := dk_seg dksJ10_startsWith_1 23 rfl rfl
theorem dksJ10_startsWith_3 : cJ10_startsWith.data.toList.drop 70 = dktJ10_startsWith_3 := dk_seg dksJ10_startsWith_2 23 rfl rfl
theorem dksJ10_startsWith_4 : cJ10_startsWith.data.toList.drop 93 = dktJ10_startsWith_4 := dk_seg dksJ10_startsWith_3 23 rfl rfl
theorem dksJ10_startsWith_5 : cJ10_startsWith.data.toList.drop 116 = dktJ10_startsWith_5 := dk_seg dksJ10_startsWith_4 23 rfl rfl
theorem dJ10_startsWith_0 : decode cJ10_startsWith 0 = .ok (.iload_n 2, 1) := dk_28 (dk_at dksJ10_startsWith_0 0 rfl rfl)
theorem dJ10_startsWith_1 : decode cJ10_startsWith 1 = .ok (.ifCond .lt 16, 3) := dk_155 0 16 (dk_at dksJ10_startsWith_0 1 rfl rfl)
theorem dJ10_startsWith_4 : decode cJ10_startsWith 4 = .ok (.iload_n 2, 1) := dk_28 (dk_at dksJ10_startsWith_0 4 rfl rfl)
theorem dJ10_startsWith_5 : decode cJ10_startsWith 5 = .ok (.aload_n 0, 1) := dk_42 (dk_at dksJ10_startsWith_0 5 rfl rfl)
theorem dJ10_startsWith_6 : decode cJ10_startsWith 6 = .ok (.invokevirtual 505, 3) := dk_182 1 249 (dk_at dksJ10_startsWith_0 6 rfl rfl)
theorem dJ10_startsWith_9 : decode cJ10_startsWith 9 = .ok (.aload_n 1, 1) := dk_43 (dk_at dksJ10_startsWith_0 9 rfl rfl)
theorem dJ10_startsWith_10 : decode cJ10_startsWith 10 = .ok (.invokevirtual 505, 3) := dk_182 1 249 (dk_at dksJ10_startsWith_0 10 rfl rfl)
theorem dJ10_startsWith_13 : decode cJ10_startsWith 13 = .ok (.isub, 1) := dk_100 (dk_at dksJ10_startsWith_0 13 rfl rfl)
theorem dJ10_startsWith_14 : decode cJ10_startsWith 14 = .ok (.if_icmp .le 5, 3) := dk_164 0 5 (dk_at dksJ10_startsWith_0 14 rfl rfl)
theorem dJ10_startsWith_17 : decode cJ10_startsWith 17 = .ok (.iconst 0, 1) := dk_3 (dk_at dksJ10_startsWith_0 17 rfl rfl)
theorem dJ10_startsWith_18 : decode cJ10_startsWith 18 = .ok (.ireturn, 1) := dk_172 (dk_at dksJ10_startsWith_0 18 rfl rfl)
theorem dJ10_startsWith_19 : decode cJ10_startsWith 19 = .ok (.aload_n 0, 1) := dk_42 (dk_at dksJ10_startsWith_0 19 rfl rfl)
theorem dJ10_startsWith_20 : decode cJ10_startsWith 20 = .ok (.getfield 9, 3) := dk_180 0 9 (dk_at dksJ10_startsWith_0 20 rfl rfl)
theorem dJ10_startsWith_23 : decode cJ10_startsWith 23 = .ok (.astore_n 3, 1) := dk_78 (dk_at dksJ10_startsWith_0 23 rfl rfl)
theorem dJ10_startsWith_24 : decode cJ10_startsWith 24 = .ok (.aload_n 1, 1) := dk_43 (dk_at dksJ10_startsWith_1 0 rfl rfl)
theorem dJ10_startsWith_25 : decode cJ10_startsWith 25 = .ok (.getfield 9, 3) := dk_180 0 9 (dk_at dksJ10_startsWith_1 1 rfl rfl)
theorem dJ10_startsWith_28 : decode cJ10_startsWith 28 = .ok (.astore 4, 2) := dk_58 4 (dk_at dksJ10_startsWith_1 4 rfl rfl)
theorem dJ10_startsWith_30 : decode cJ10_startsWith 30 = .ok (.iconst 0, 1) := dk_3 (dk_at dksJ10_startsWith_1 6 rfl rfl)
theorem dJ10_startsWith_31 : decode cJ10_startsWith 31 = .ok (.istore 5, 2) := dk_54 5 (dk_at dksJ10_startsWith_1 7 rfl rfl)
theorem dJ10_startsWith_33 : decode cJ10_startsWith 33 = .ok (.aload 4, 2) := dk_25 4 (dk_at dksJ10_startsWith_1 9 rfl rfl)
theorem dJ10_startsWith_35 : decode cJ10_startsWith 35 = .ok (.arraylength, 1) := dk_190 (dk_at dksJ10_startsWith_1 11 rfl rfl)
theorem dJ10_startsWith_36 : decode cJ10_startsWith 36 = .ok (.istore 6, 2) := dk_54 6 (dk_at dksJ10_startsWith_1 12 rfl rfl)
theorem dJ10_startsWith_38 : decode cJ10_startsWith 38 = .ok (.aload_n 0, 1) := dk_42 (dk_at dksJ10_startsWith_1 14 rfl rfl)
theorem dJ10_startsWith_39 : decode cJ10_startsWith 39 = .ok (.invokevirtual 335, 3) := dk_182 1 79 (dk_at dksJ10_startsWith_1 15 rfl rfl)
theorem dJ10_startsWith_42 : decode cJ10_startsWith 42 = .ok (.istore 7, 2) := dk_54 7 (dk_at dksJ10_startsWith_1 18 rfl rfl)
theorem dJ10_startsWith_44 : decode cJ10_startsWith 44 = .ok (.iload 7, 2) := dk_21 7 (dk_at dksJ10_startsWith_1 20 rfl rfl)
theorem dJ10_startsWith_46 : decode cJ10_startsWith 46 = .ok (.aload_n 1, 1) := dk_43 (dk_at dksJ10_startsWith_1 22 rfl rfl)
theorem dJ10_startsWith_47 : decode cJ10_startsWith 47 = .ok (.invokevirtual 335, 3) := dk_182 1 79 (dk_at dksJ10_startsWith_2 0 rfl rfl)
theorem dJ10_startsWith_50 : decode cJ10_startsWith 50 = .ok (.if_icmp .ne 32, 3) := dk_160 0 32 (dk_at dksJ10_startsWith_2 3 rfl rfl)
theorem dJ10_startsWith_53 : decode cJ10_startsWith 53 = .ok (.iload 7, 2) := dk_21 7 (dk_at dksJ10_startsWith_2 6 rfl rfl)
theorem dJ10_startsWith_55 : decode cJ10_startsWith 55 = .ok (.iconst 1, 1) := dk_4 (dk_at dksJ10_startsWith_2 8 rfl rfl)
theorem dJ10_startsWith_56 : decode cJ10_startsWith 56 = .ok (.if_icmp .ne 7, 3) := dk_160 0 7 (dk_at dksJ10_startsWith_2 9 rfl rfl)
theorem dJ10_startsWith_59 : decode cJ10_startsWith 59 = .ok (.iload_n 2, 1) := dk_28 (dk_at dksJ10_startsWith_2 12 rfl rfl)
theorem dJ10_startsWith_60 : decode cJ10_startsWith 60 = .ok (.iconst 1, 1) := dk_4 (dk_at dksJ10_startsWith_2 13 rfl rfl)
theorem dJ10_startsWith_61 : decode cJ10_startsWith 61 = .ok (.ishl, 1) := dk_120 (dk_at dksJ10_startsWith_2 14 rfl rfl)
theorem dJ10_startsWith_62 : decode cJ10_startsWith 62 = .ok (.istore_n 2, 1) := dk_61 (dk_at dksJ10_startsWith_2 15 rfl rfl)
theorem dJ10_startsWith_63 : decode cJ10_startsWith 63 = .ok (.aload_n 3, 1) := dk_45 (dk_at dksJ10_startsWith_2 16 rfl rfl)
theorem dJ10_startsWith_64 : decode cJ10_startsWith 64 = .ok (.iload_n 2, 1) := dk_28 (dk_at dksJ10_startsWith_2 17 rfl rfl)
theorem dJ10_startsWith_65 : decode cJ10_startsWith 65 = .ok (.aload 4, 2) := dk_25 4 (dk_at dksJ10_startsWith_2 18 rfl rfl)
theorem dJ10_startsWith_67 : decode cJ10_startsWith 67 = .ok (.iconst 0, 1) := dk_3 (dk_at dksJ10_startsWith_2 20 rfl rfl)
theorem dJ10_startsWith_68 : decode cJ10_startsWith 68 = .ok (.iload 6, 2) := dk_21 6 (dk_at dksJ10_startsWith_2 21 rfl rfl)
theorem dJ10_startsWith_70 : decode cJ10_startsWith 70 = .ok (.invokestatic 607, 3) := dk_184 2 95 (dk_at dksJ10_startsWith_3 0 rfl rfl)
theorem dJ10_startsWith_73 : decode cJ10_startsWith 73 = .ok (.ifCond .ge 7, 3) := dk_156 0 7 (dk_at dksJ10_startsWith_3 3 rfl rfl)
theorem dJ10_startsWith_76 : decode cJ10_startsWith 76 = .ok (.iconst 1, 1) := dk_4 (dk_at dksJ10_startsWith_3 6 rfl rfl)
theorem dJ10_startsWith_77 : decode cJ10_startsWith 77 = .ok (.goto 4, 3) := dk_167 0 4 (dk_at dksJ10_startsWith_3 7 rfl rfl)
theorem dJ10_startsWith_80 : decode cJ10_startsWith 80 = .ok (.iconst 0, 1) := dk_3 (dk_at dksJ10_startsWith_3 10 rfl rfl)
theorem dJ10_startsWith_81 : decode cJ10_startsWith 81 = .ok (.ireturn, 1) := dk_172 (dk_at dksJ10_startsWith_3 11 rfl rfl)
theorem dJ10_startsWith_82 : decode cJ10_startsWith 82 = .ok (.iload 7, 2) := dk_21 7 (dk_at dksJ10_startsWith_3 12 rfl rfl)
theorem dJ10_startsWith_84 : decode cJ10_startsWith 84 = .ok (.ifCond .ne 5, 3) := dk_154 0 5 (dk_at dksJ10_startsWith_3 14 rfl rfl)
theorem dJ10_startsWith_87 : decode cJ10_startsWith 87 = .ok (.iconst 0, 1) := dk_3 (dk_at dksJ10_startsWith_3 17 rfl rfl)
theorem dJ10_startsWith_88 : decode cJ10_startsWith 88 = .ok (.ireturn, 1) := dk_172 (dk_at dksJ10_startsWith_3 18 rfl rfl)
theorem dJ10_startsWith_89 : decode cJ10_startsWith 89 = .ok (.iload 5, 2) := dk_21 5 (dk_at dksJ10_startsWith_3 19 rfl rfl)
theorem dJ10_startsWith_91 : decode cJ10_startsWith 91 = .ok (.iload 6, 2) := dk_21 6 (dk_at dksJ10_startsWith_3 21 rfl rfl)
theorem dJ10_startsWith_93 : decode cJ10_startsWith 93 = .ok (.if_icmp .ge 28, 3) := dk_162 0 28 (dk_at dksJ10_startsWith_4 0 rfl rfl)
theorem dJ10_startsWith_96 : decode cJ10_startsWith 96 = .ok (.aload_n 3, 1) := dk_45 (dk_at dksJ10_startsWith_4 3 rfl rfl)
theorem dJ10_startsWith_97 : decode cJ10_startsWith 97 = .ok (.iload_n 2, 1) := dk_28 (dk_at dksJ10_startsWith_4 4 rfl rfl)
theorem dJ10_startsWith_98 : decode cJ10_startsWith 98 = .ok (.iinc 2 1, 3) := dk_132 2 1 (dk_at dksJ10_startsWith_4 5 rfl rfl)
theorem dJ10_startsWith_101 : decode cJ10_startsWith 101 = .ok (.invokestatic 360, 3) := dk_184 1 104 (dk_at dksJ10_startsWith_4 8 rfl rfl)
theorem dJ10_startsWith_104 : decode cJ10_startsWith 104 = .ok (.aload 4, 2) := dk_25 4 (dk_at dksJ10_startsWith_4 11 rfl rfl)
theorem dJ10_startsWith_106 : decode cJ10_startsWith 106 = .ok (.iload 5, 2) := dk_21 5 (dk_at dksJ10_startsWith_4 13 rfl rfl)
theorem dJ10_startsWith_108 : decode cJ10_startsWith 108 = .ok (.iinc 5 1, 3) := dk_132 5 1 (dk_at dksJ10_startsWith_4 15 rfl rfl)
theorem dJ10_startsWith_111 : decode cJ10_startsWith 111 = .ok (.baload, 1) := dk_51 (dk_at dksJ10_startsWith_4 18 rfl rfl)
theorem dJ10_startsWith_112 : decode cJ10_startsWith 112 = .ok (.sipush 255, 3) := dk_17 0 255 (dk_at dksJ10_startsWith_4 19 rfl rfl)
theorem dJ10_startsWith_115 : decode cJ10_startsWith 115 = .ok (.iand, 1) := dk_126 (dk_at dksJ10_startsWith_4 22 rfl rfl)
theorem dJ10_startsWith_116 : decode cJ10_startsWith 116 = .ok (.if_icmp .eq (-27), 3) := dk_159 255 229 (dk_at dksJ10_startsWith_5 0 rfl rfl)
theorem dJ10_startsWith_119 : decode cJ10_startsWith 119 = .ok (.iconst 0, 1) := dk_3 (dk_at dksJ10_startsWith_5 3 rfl rfl)
theorem dJ10_startsWith_120 : decode cJ10_startsWith 120 = .ok (.ireturn, 1) := dk_172 (dk_at dksJ10_startsWith_5 4 rfl rfl)
theorem dJ10_startsWith_121 : decode cJ10_startsWith 121 = .ok (.iconst 1, 1) := dk_4 (dk_at dksJ10_startsWith_5 5 rfl rfl)
theorem dJ10_startsWith_122 : decode cJ10_startsWith 122 = .ok (.ireturn, 1) := dk_172 (dk_at dksJ10_startsWith_5 6 rfl rfl)
abbrev cJ10_charAt : ByteArray := prog_44_method_56_code
def yJ10_charAt : MethodName := ⟨RJ10, "charAt", "(I)C"⟩
def dkwJ10_charAt_1 : List UInt8 := [172]
abbrev dktJ10_charAt_1 : List UInt8 := dkwJ10_charAt_1 ++ []
def dkwJ10_charAt_0 : List UInt8 := [42, 182, 1, 236, 153, 0, 12, 42, 180, 0, 9, 27, 184, 1, 239, 172, 42, 180, 0, 9, 27, 184, 1, 242]
abbrev dktJ10_charAt_0 : List UInt8 := dkwJ10_charAt_0 ++ dktJ10_charAt_1
theorem dksJ10_charAt_0 : cJ10_charAt.data.toList.drop 0 = dktJ10_charAt_0 := by decide +kernel
theorem dksJ10_charAt_1 : cJ10_charAt.data.toList.drop 24 = dktJ10_charAt_1 := dk_seg dksJ10_charAt_0 24 rfl rfl
theorem dJ10_charAt_0 : decode cJ10_charAt 0 = .ok (.aload_n 0, 1) := dk_42 (dk_at dksJ10_charAt_0 0 rfl rfl)
theorem dJ10_charAt_1 : decode cJ10_charAt 1 = .ok (.invokevirtual 492, 3) := dk_182 1 236 (dk_at dksJ10_charAt_0 1 rfl rfl)
theorem dJ10_charAt_4 : decode cJ10_charAt 4 = .ok (.ifCond .eq 12, 3) := dk_153 0 12 (dk_at dksJ10_charAt_0 4 rfl rfl)
theorem dJ10_charAt_7 : decode cJ10_charAt 7 = .ok (.aload_n 0, 1) := dk_42 (dk_at dksJ10_charAt_0 7 rfl rfl)
theorem dJ10_charAt_8 : decode cJ10_charAt 8 = .ok (.getfield 9, 3) := dk_180 0 9 (dk_at dksJ10_charAt_0 8 rfl rfl)
theorem dJ10_charAt_11 : decode cJ10_charAt 11 = .ok (.iload_n 1, 1) := dk_27 (dk_at dksJ10_charAt_0 11 rfl rfl)
theorem dJ10_charAt_12 : decode cJ10_charAt 12 = .ok (.invokestatic 495, 3) := dk_184 1 239 (dk_at dksJ10_charAt_0 12 rfl rfl)
theorem dJ10_charAt_15 : decode cJ10_charAt 15 = .ok (.ireturn, 1) := dk_172 (dk_at dksJ10_charAt_0 15 rfl rfl)
theorem dJ10_charAt_16 : decode cJ10_charAt 16 = .ok (.aload_n 0, 1) := dk_42 (dk_at dksJ10_charAt_0 16 rfl rfl)
theorem dJ10_charAt_17 : decode cJ10_charAt 17 = .ok (.getfield 9, 3) := dk_180 0 9 (dk_at dksJ10_charAt_0 17 rfl rfl)
theorem dJ10_charAt_20 : decode cJ10_charAt 20 = .ok (.iload_n 1, 1) := dk_27 (dk_at dksJ10_charAt_0 20 rfl rfl)
theorem dJ10_charAt_21 : decode cJ10_charAt 21 = .ok (.invokestatic 498, 3) := dk_184 1 242 (dk_at dksJ10_charAt_0 21 rfl rfl)
theorem dJ10_charAt_24 : decode cJ10_charAt 24 = .ok (.ireturn, 1) := dk_172 (dk_at dksJ10_charAt_1 0 rfl rfl)
abbrev cJ10_checkIndex : ByteArray := prog_44_method_155_code
def yJ10_checkIndex : MethodName := ⟨RJ10, "checkIndex", "(II)V"⟩
def dkwJ10_checkIndex_0 : List UInt8 := [26, 27, 178, 4, 29, 184, 4, 35, 87, 177]
abbrev dktJ10_checkIndex_0 : List UInt8 := dkwJ10_checkIndex_0 ++ []
theorem dksJ10_checkIndex_0 : cJ10_checkIndex.data.toList.drop 0 = dktJ10_checkIndex_0 := by decide +kernel
theorem dJ10_checkIndex_0 : decode cJ10_checkIndex 0 = .ok (.iload_n 0, 1) := dk_26 (dk_at dksJ10_checkIndex_0 0 rfl rfl)
theorem dJ10_checkIndex_1 : decode cJ10_checkIndex 1 = .ok (.iload_n 1, 1) := dk_27 (dk_at dksJ10_checkIndex_0 1 rfl rfl)
theorem dJ10_checkIndex_2 : decode cJ10_checkIndex 2 = .ok (.getstatic 1053, 3) := dk_178 4 29 (dk_at dksJ10_checkIndex_0 2 rfl rfl)
theorem dJ10_checkIndex_5 : decode cJ10_checkIndex 5 = .ok (.invokestatic 1059, 3) := dk_184 4 35 (dk_at dksJ10_checkIndex_0 5 rfl rfl)
theorem dJ10_checkIndex_8 : decode cJ10_checkIndex 8 = .ok (.pop, 1) := dk_87 (dk_at dksJ10_checkIndex_0 8 rfl rfl)
theorem dJ10_checkIndex_9 : decode cJ10_checkIndex 9 = .ok (.return_, 1) := dk_177 (dk_at dksJ10_checkIndex_0 9 rfl rfl)
abbrev cJ10_isEmpty : ByteArray := prog_44_method_55_code
def yJ10_isEmpty : MethodName := ⟨RJ10, "isEmpty", "()Z"⟩
def dkwJ10_isEmpty_0 : List UInt8 := [42, 180, 0, 9, 190, 154, 0, 7, 4, 167, 0, 4, 3, 172]
abbrev dktJ10_isEmpty_0 : List UInt8 := dkwJ10_isEmpty_0 ++ []
theorem dksJ10_isEmpty_0 : cJ10_isEmpty.data.toList.drop 0 = dktJ10_isEmpty_0 := by decide +kernel
theorem dJ10_isEmpty_0 : decode cJ10_isEmpty 0 = .ok (.aload_n 0, 1) := dk_42 (dk_at dksJ10_isEmpty_0 0 rfl rfl)
theorem dJ10_isEmpty_1 : decode cJ10_isEmpty 1 = .ok (.getfield 9, 3) := dk_180 0 9 (dk_at dksJ10_isEmpty_0 1 rfl rfl)
theorem dJ10_isEmpty_4 : decode cJ10_isEmpty 4 = .ok (.arraylength, 1) := dk_190 (dk_at dksJ10_isEmpty_0 4 rfl rfl)
theorem dJ10_isEmpty_5 : decode cJ10_isEmpty 5 = .ok (.ifCond .ne 7, 3) := dk_154 0 7 (dk_at dksJ10_isEmpty_0 5 rfl rfl)
theorem dJ10_isEmpty_8 : decode cJ10_isEmpty 8 = .ok (.iconst 1, 1) := dk_4 (dk_at dksJ10_isEmpty_0 8 rfl rfl)
theorem dJ10_isEmpty_9 : decode cJ10_isEmpty 9 = .ok (.goto 4, 3) := dk_167 0 4 (dk_at dksJ10_isEmpty_0 9 rfl rfl)
theorem dJ10_isEmpty_12 : decode cJ10_isEmpty 12 = .ok (.iconst 0, 1) := dk_3 (dk_at dksJ10_isEmpty_0 12 rfl rfl)
theorem dJ10_isEmpty_13 : decode cJ10_isEmpty 13 = .ok (.ireturn, 1) := dk_172 (dk_at dksJ10_isEmpty_0 13 rfl rfl)
theorem q132 : (Jvm.Cond.initialized "java/lang/String") ∈ lw_all := lw_g (lw_at lw_m1 13 rfl) rfl
theorem q273 : (Jvm.Cond.laysStatic "java/lang/String" "COMPACT_STRINGS" "Z") ∈ lw_tbl := lw_at lw_m1 154 rfl
theorem q283 : (Jvm.Cond.fieldLink "java/lang/String" (1048 : Nat) "java/lang/AbstractStringBuilder" "maybeLatin1" "Z") ∈ lw_all := lw_g (lw_at lw_m1 164 rfl) rfl
theorem q356 : (Jvm.Cond.static ({ cls := "java/lang/String", name := "checkBoundsBeginEnd", desc := "(III)V" } : Jvm.MethodName)) ∈ lw_all := lw_g (lw_at lw_m1 237 rfl) rfl
theorem q357 : (Jvm.Cond.code ({ cls := "java/lang/String", name := "checkBoundsBeginEnd", desc := "(III)V" } : Jvm.MethodName) prog_44_method_158_code (3 : Nat) (Option.none : Option Jvm.ClassFile.FieldType)) ∈ lw_all := lw_g (lw_at lw_m1 238 rfl) rfl
theorem q358 : (Jvm.Cond.fieldLink "java/lang/String" (1053 : Nat) "jdk/internal/util/Preconditions" "SIOOBE_FORMATTER" "Ljava/util/function/BiFunction;") ∈ lw_all := lw_g (lw_at lw_m1 239 rfl) rfl
theorem q360 : (Jvm.Cond.methodLink "java/lang/String" (1062 : Nat) ({ cls := "jdk/internal/util/Preconditions", name := "checkFromToIndex", desc := "(IIILjava/util/function/BiFunction;)I" } : Jvm.MethodName)) ∈ lw_all := lw_g (lw_at lw_m2 1 rfl) rfl
theorem q373 : (Jvm.Cond.instanceMethod ({ cls := "java/lang/String", name := "length", desc := "()I" } : Jvm.MethodName)) ∈ lw_all := lw_g (lw_at lw_m2 14 rfl) rfl
theorem q374 : (Jvm.Cond.selects "java/lang/String" ({ cls := "java/lang/String", name := "length", desc := "()I" } : Jvm.MethodName) ({ cls := "java/lang/String", name := "length", desc := "()I" } : Jvm.MethodName)) ∈ lw_all := lw_g (lw_at lw_m2 15 rfl) rfl
theorem q375 : (Jvm.Cond.code ({ cls := "java/lang/String", name := "length", desc := "()I" } : Jvm.MethodName) prog_44_method_54_code (1 : Nat) (Option.some Jvm.ClassFile.FieldType.int)) ∈ lw_all := lw_g (lw_at lw_m2 16 rfl) rfl
theorem q376 : (Jvm.Cond.methodLink "java/lang/String" (335 : Nat) ({ cls := "java/lang/String", name := "coder", desc := "()B" } : Jvm.MethodName)) ∈ lw_all := lw_g (lw_at lw_m2 17 rfl) rfl
theorem q377 : (Jvm.Cond.instanceMethod ({ cls := "java/lang/String", name := "coder", desc := "()B" } : Jvm.MethodName)) ∈ lw_all := lw_g (lw_at lw_m2 18 rfl) rfl
theorem q378 : (Jvm.Cond.selects "java/lang/String" ({ cls := "java/lang/String", name := "coder", desc := "()B" } : Jvm.MethodName) ({ cls := "java/lang/String", name := "coder", desc := "()B" } : Jvm.MethodName)) ∈ lw_all := lw_g (lw_at lw_m2 19 rfl) rfl
theorem q379 : (Jvm.Cond.code ({ cls := "java/lang/String", name := "coder", desc := "()B" } : Jvm.MethodName) prog_44_method_152_code (1 : Nat) (Option.some Jvm.ClassFile.FieldType.byte)) ∈ lw_all := lw_g (lw_at lw_m2 20 rfl) rfl
theorem q380 : (Jvm.Cond.fieldLink "java/lang/String" (38 : Nat) "java/lang/String" "COMPACT_STRINGS" "Z") ∈ lw_all := lw_g (lw_at lw_m2 21 rfl) rfl
theorem q404 : (Jvm.Cond.static ({ cls := "java/lang/String", name := "checkBoundsOffCount", desc := "(III)I" } : Jvm.MethodName)) ∈ lw_all := lw_g (lw_at lw_m2 45 rfl) rfl
theorem q405 : (Jvm.Cond.code ({ cls := "java/lang/String", name := "checkBoundsOffCount", desc := "(III)I" } : Jvm.MethodName) prog_44_method_157_code (3 : Nat) (Option.some Jvm.ClassFile.FieldType.int)) ∈ lw_all := lw_g (lw_at lw_m2 46 rfl) rfl
theorem q406 : (Jvm.Cond.methodLink "java/lang/String" (1065 : Nat) ({ cls := "jdk/internal/util/Preconditions", name := "checkFromIndexSize", desc := "(IIILjava/util/function/BiFunction;)I" } : Jvm.MethodName)) ∈ lw_all := lw_g (lw_at lw_m2 47 rfl) rfl
theorem q410 : (Jvm.Cond.instanceMethod ({ cls := "java/lang/String", name := "getBytes", desc := "([BIB)V" } : Jvm.MethodName)) ∈ lw_all := lw_g (lw_at lw_m2 51 rfl) rfl
theorem q411 : (Jvm.Cond.selects "java/lang/String" ({ cls := "java/lang/String", name := "getBytes", desc := "([BIB)V" } : Jvm.MethodName) ({ cls := "java/lang/String", name := "getBytes", desc := "([BIB)V" } : Jvm.MethodName)) ∈ lw_all := lw_g (lw_at lw_m2 52 rfl) rfl
theorem q412 : (Jvm.Cond.code ({ cls := "java/lang/String", name := "getBytes", desc := "([BIB)V" } : Jvm.MethodName) prog_44_method_147_code (4 : Nat) (Option.none : Option Jvm.ClassFile.FieldType)) ∈ lw_all := lw_g (lw_at lw_m2 53 rfl) rfl
theorem q413 : (Jvm.Cond.methodLink "java/lang/String" (212 : Nat) ({ cls := "java/lang/System", name := "arraycopy", desc := "(Ljava/lang/Object;ILjava/lang/Object;II)V" } : Jvm.MethodName)) ∈ lw_all := lw_g (lw_at lw_m2 54 rfl) rfl
theorem q414 : (Jvm.Cond.methodLink "java/lang/String" (106 : Nat) ({ cls := "java/lang/StringLatin1", name := "inflate", desc := "([BI[BII)V" } : Jvm.MethodName)) ∈ lw_all := lw_g (lw_at lw_m2 55 rfl) rfl
theorem q445 : (Jvm.Cond.instantiable "java/lang/String" (4 : Nat)) ∈ lw_all := lw_g (lw_at lw_m2 86 rfl) rfl
theorem q447 : (Jvm.Cond.instanceMethod ({ cls := "java/lang/String", name := "<init>", desc := "(Ljava/lang/StringBuilder;)V" } : Jvm.MethodName)) ∈ lw_all := lw_g (lw_at lw_m2 88 rfl) rfl
theorem q448 : (Jvm.Cond.code ({ cls := "java/lang/String", name := "<init>", desc := "(Ljava/lang/StringBuilder;)V" } : Jvm.MethodName) prog_44_method_53_code (2 : Nat) (Option.none : Option Jvm.ClassFile.FieldType)) ∈ lw_all := lw_g (lw_at lw_m2 89 rfl) rfl
theorem q449 : (Jvm.Cond.methodLink "java/lang/String" (489 : Nat) ({ cls := "java/lang/String", name := "<init>", desc := "(Ljava/lang/AbstractStringBuilder;Ljava/lang/Void;)V" } : Jvm.MethodName)) ∈ lw_all := lw_g (lw_at lw_m2 90 rfl) rfl
theorem q450 : (Jvm.Cond.instanceMethod ({ cls := "java/lang/String", name := "<init>", desc := "(Ljava/lang/AbstractStringBuilder;Ljava/lang/Void;)V" } : Jvm.MethodName)) ∈ lw_all := lw_g (lw_at lw_m2 91 rfl) rfl
theorem q451 : (Jvm.Cond.code ({ cls := "java/lang/String", name := "<init>", desc := "(Ljava/lang/AbstractStringBuilder;Ljava/lang/Void;)V" } : Jvm.MethodName) prog_44_method_150_code (5 : Nat) (Option.none : Option Jvm.ClassFile.FieldType)) ∈ lw_all := lw_g (lw_at lw_m2 92 rfl) rfl
theorem q452 : (Jvm.Cond.methodLink "java/lang/String" (1 : Nat) ({ cls := "java/lang/Object", name := "<init>", desc := "()V" } : Jvm.MethodName)) ∈ lw_all := lw_g (lw_at lw_m2 93 rfl) rfl
theorem q453 : (Jvm.Cond.methodLink "java/lang/String" (552 : Nat) ({ cls := "java/lang/AbstractStringBuilder", name := "getValue", desc := "()[B" } : Jvm.MethodName)) ∈ lw_all := lw_g (lw_at lw_m2 94 rfl) rfl
theorem q458 : (Jvm.Cond.methodLink "java/lang/String" (549 : Nat) ({ cls := "java/lang/AbstractStringBuilder", name := "length", desc := "()I" } : Jvm.MethodName)) ∈ lw_all := lw_g (lw_at lw_m2 99 rfl) rfl
theorem q466 : (Jvm.Cond.methodLink "java/lang/String" (1047 : Nat) ({ cls := "java/lang/AbstractStringBuilder", name := "isLatin1", desc := "()Z" } : Jvm.MethodName)) ∈ lw_all := lw_g (lw_at lw_m2 107 rfl) rfl
theorem q467 : (Jvm.Cond.methodLink "java/lang/String" (54 : Nat) ({ cls := "java/util/Arrays", name := "copyOfRange", desc := "([BII)[B" } : Jvm.MethodName)) ∈ lw_all := lw_g (lw_at lw_m2 108 rfl) rfl
theorem q508 : (Jvm.Cond.methodLink "java/lang/String" (1051 : Nat) ({ cls := "java/lang/StringUTF16", name := "compress", desc := "([BII)[B" } : Jvm.MethodName)) ∈ lw_all := lw_g (lw_at lw_m2 149 rfl) rfl
theorem q518 : (Jvm.Cond.methodLink "java/lang/String" (47 : Nat) ({ cls := "java/lang/StringUTF16", name := "coderFromArrayLen", desc := "([BI)B" } : Jvm.MethodName)) ∈ lw_all := lw_g (lw_at lw_m2 159 rfl) rfl
theorem q521 : (Jvm.Cond.fieldLink "java/lang/String" (9 : Nat) "java/lang/String" "value" "[B") ∈ lw_all := lw_g (lw_at lw_m2 162 rfl) rfl
theorem q522 : (Jvm.Cond.fieldLink "java/lang/String" (15 : Nat) "java/lang/String" "coder" "B") ∈ lw_all := lw_g (lw_at lw_m2 163 rfl) rfl
theorem q523 : (Jvm.Cond.fieldLink "java/lang/String" (19 : Nat) "java/lang/String" "hash" "I") ∈ lw_all := lw_g (lw_at lw_m2 164 rfl) rfl
theorem q524 : (Jvm.Cond.fieldLink "java/lang/String" (23 : Nat) "java/lang/String" "hashIsZero" "Z") ∈ lw_all := lw_g (lw_at lw_m2 165 rfl) rfl
theorem q525 : (Jvm.Cond.laysFinal "java/lang/String" "java/lang/String" "value" "[B") ∈ lw_all := lw_g (lw_at lw_m2 166 rfl) rfl
theorem q526 : (Jvm.Cond.soleField "java/lang/String" "value") ∈ lw_all := lw_g (lw_at lw_m2 167 rfl) rfl
theorem q527 : (Jvm.Cond.laysFinal "java/lang/String" "java/lang/String" "coder" "B") ∈ lw_all := lw_g (lw_at lw_m2 168 rfl) rfl
theorem q528 : (Jvm.Cond.soleField "java/lang/String" "coder") ∈ lw_all := lw_g (lw_at lw_m2 169 rfl) rfl
theorem q529 : (Jvm.Cond.lays "java/lang/String" "java/lang/String" "hash" "I") ∈ lw_all := lw_g (lw_at lw_m2 170 rfl) rfl
theorem q530 : (Jvm.Cond.soleField "java/lang/String" "hash") ∈ lw_all := lw_g (lw_at lw_m2 171 rfl) rfl
theorem q531 : (Jvm.Cond.lays "java/lang/String" "java/lang/String" "hashIsZero" "Z") ∈ lw_all := lw_g (lw_at lw_m2 172 rfl) rfl
theorem q532 : (Jvm.Cond.soleField "java/lang/String" "hashIsZero") ∈ lw_all := lw_g (lw_at lw_m2 173 rfl) rfl
theorem q533 : (Jvm.Cond.superclass "java/lang/String" "java/lang/Object") ∈ lw_all := lw_g (lw_at lw_m2 174 rfl) rfl
theorem q716 : (Jvm.Cond.selects "java/lang/String" ({ cls := "java/lang/Object", name := "getClass", desc := "()Ljava/lang/Class;" } : Jvm.MethodName) ({ cls := "java/lang/Object", name := "getClass", desc := "()Ljava/lang/Class;" } : Jvm.MethodName)) ∈ lw_all := lw_g (lw_at lw_m3 117 rfl) rfl
theorem q781 : (Jvm.Cond.selects "java/lang/String" ({ cls := "java/lang/Object", name := "hashCode", desc := "()I" } : Jvm.MethodName) ({ cls := "java/lang/String", name := "hashCode", desc := "()I" } : Jvm.MethodName)) ∈ lw_all := lw_g (lw_at lw_m3 182 rfl) rfl
theorem q782 : (Jvm.Cond.instanceMethod ({ cls := "java/lang/String", name := "hashCode", desc := "()I" } : Jvm.MethodName)) ∈ lw_all := lw_g (lw_at lw_m3 183 rfl) rfl
theorem q783 : (Jvm.Cond.code ({ cls := "java/lang/String", name := "hashCode", desc := "()I" } : Jvm.MethodName) prog_44_method_78_code (2 : Nat) (Option.some Jvm.ClassFile.FieldType.int)) ∈ lw_all := lw_g (lw_at lw_m3 184 rfl) rfl
theorem q784 : (Jvm.Cond.methodLink "java/lang/String" (492 : Nat) ({ cls := "java/lang/String", name := "isLatin1", desc := "()Z" } : Jvm.MethodName)) ∈ lw_all := lw_g (lw_at lw_m3 185 rfl) rfl
theorem q785 : (Jvm.Cond.instanceMethod ({ cls := "java/lang/String", name := "isLatin1", desc := "()Z" } : Jvm.MethodName)) ∈ lw_all := lw_g (lw_at lw_m3 186 rfl) rfl
theorem q786 : (Jvm.Cond.selects "java/lang/String" ({ cls := "java/lang/String", name := "isLatin1", desc := "()Z" } : Jvm.MethodName) ({ cls := "java/lang/String", name := "isLatin1", desc := "()Z" } : Jvm.MethodName)) ∈ lw_all := lw_g (lw_at lw_m3 187 rfl) rfl
theorem q787 : (Jvm.Cond.code ({ cls := "java/lang/String", name := "isLatin1", desc := "()Z" } : Jvm.MethodName) prog_44_method_154_code (1 : Nat) (Option.some Jvm.ClassFile.FieldType.boolean)) ∈ lw_all := lw_g (lw_at lw_m3 188 rfl) rfl
theorem q788 : (Jvm.Cond.methodLink "java/lang/String" (628 : Nat) ({ cls := "java/lang/StringLatin1", name := "hashCode", desc := "([B)I" } : Jvm.MethodName)) ∈ lw_all := lw_g (lw_at lw_m3 189 rfl) rfl
theorem q837 : (Jvm.Cond.methodLink "java/lang/String" (632 : Nat) ({ cls := "java/lang/StringUTF16", name := "hashCode", desc := "([B)I" } : Jvm.MethodName)) ∈ lw_all := lw_g (lw_at lw_m3 238 rfl) rfl
theorem q957 : (Jvm.Cond.castable "java/lang/String" "java/lang/Comparable") ∈ lw_tbl := lw_at lw_m4 118 rfl
theorem q958 : (Jvm.Cond.selects "java/lang/String" ({ cls := "java/lang/Comparable", name := "compareTo", desc := "(Ljava/lang/Object;)I" } : Jvm.MethodName) ({ cls := "java/lang/String", name := "compareTo", desc := "(Ljava/lang/Object;)I" } : Jvm.MethodName)) ∈ lw_all := lw_g (lw_at lw_m4 119 rfl) rfl
theorem q959 : (Jvm.Cond.unhidden "java/lang/String" "compareTo" "(Ljava/lang/Object;)I") ∈ lw_tbl := lw_at lw_m4 120 rfl
theorem q960 : (Jvm.Cond.instanceMethod ({ cls := "java/lang/String", name := "compareTo", desc := "(Ljava/lang/Object;)I" } : Jvm.MethodName)) ∈ lw_all := lw_g (lw_at lw_m4 121 rfl) rfl
theorem q961 : (Jvm.Cond.publicMethod ({ cls := "java/lang/String", name := "compareTo", desc := "(Ljava/lang/Object;)I" } : Jvm.MethodName)) ∈ lw_tbl := lw_at lw_m4 122 rfl
theorem q962 : (Jvm.Cond.code ({ cls := "java/lang/String", name := "compareTo", desc := "(Ljava/lang/Object;)I" } : Jvm.MethodName) prog_44_method_162_code (2 : Nat) (Option.some Jvm.ClassFile.FieldType.int)) ∈ lw_all := lw_g (lw_at lw_m4 123 rfl) rfl
theorem q963 : (Jvm.Cond.classLink "java/lang/String" (10 : Nat) "java/lang/String") ∈ lw_all := lw_g (lw_at lw_m4 124 rfl) rfl
theorem q964 : (Jvm.Cond.methodLink "java/lang/String" (1084 : Nat) ({ cls := "java/lang/String", name := "compareTo", desc := "(Ljava/lang/String;)I" } : Jvm.MethodName)) ∈ lw_all := lw_g (lw_at lw_m4 125 rfl) rfl
theorem q965 : (Jvm.Cond.instanceMethod ({ cls := "java/lang/String", name := "compareTo", desc := "(Ljava/lang/String;)I" } : Jvm.MethodName)) ∈ lw_all := lw_g (lw_at lw_m4 126 rfl) rfl
theorem q966 : (Jvm.Cond.selects "java/lang/String" ({ cls := "java/lang/String", name := "compareTo", desc := "(Ljava/lang/String;)I" } : Jvm.MethodName) ({ cls := "java/lang/String", name := "compareTo", desc := "(Ljava/lang/String;)I" } : Jvm.MethodName)) ∈ lw_all := lw_g (lw_at lw_m4 127 rfl) rfl
theorem q967 : (Jvm.Cond.code ({ cls := "java/lang/String", name := "compareTo", desc := "(Ljava/lang/String;)I" } : Jvm.MethodName) prog_44_method_71_code (5 : Nat) (Option.some Jvm.ClassFile.FieldType.int)) ∈ lw_all := lw_g (lw_at lw_m4 128 rfl) rfl
theorem q968 : (Jvm.Cond.methodLink "java/lang/String" (586 : Nat) ({ cls := "java/lang/StringLatin1", name := "compareTo", desc := "([B[B)I" } : Jvm.MethodName)) ∈ lw_all := lw_g (lw_at lw_m4 129 rfl) rfl
theorem q1082 : (Jvm.Cond.methodLink "java/lang/String" (590 : Nat) ({ cls := "java/lang/StringUTF16", name := "compareTo", desc := "([B[B)I" } : Jvm.MethodName)) ∈ lw_all := lw_g (lw_at lw_m5 3 rfl) rfl
theorem q1089 : (Jvm.Cond.methodLink "java/lang/String" (591 : Nat) ({ cls := "java/lang/StringLatin1", name := "compareToUTF16", desc := "([B[B)I" } : Jvm.MethodName)) ∈ lw_all := lw_g (lw_at lw_m5 10 rfl) rfl
theorem q1100 : (Jvm.Cond.methodLink "java/lang/String" (594 : Nat) ({ cls := "java/lang/StringUTF16", name := "compareToLatin1", desc := "([B[B)I" } : Jvm.MethodName)) ∈ lw_all := lw_g (lw_at lw_m5 21 rfl) rfl
theorem q1126 : (Jvm.Cond.static ({ cls := "java/lang/String", name := "checkOffset", desc := "(II)V" } : Jvm.MethodName)) ∈ lw_all := lw_g (lw_at lw_m5 47 rfl) rfl
theorem q1127 : (Jvm.Cond.code ({ cls := "java/lang/String", name := "checkOffset", desc := "(II)V" } : Jvm.MethodName) prog_44_method_156_code (2 : Nat) (Option.none : Option Jvm.ClassFile.FieldType)) ∈ lw_all := lw_g (lw_at lw_m5 48 rfl) rfl
theorem q1185 : (Jvm.Cond.selects "java/lang/String" ({ cls := "java/lang/Object", name := "equals", desc := "(Ljava/lang/Object;)Z" } : Jvm.MethodName) ({ cls := "java/lang/String", name := "equals", desc := "(Ljava/lang/Object;)Z" } : Jvm.MethodName)) ∈ lw_all := lw_g (lw_at lw_m5 106 rfl) rfl
theorem q1186 : (Jvm.Cond.instanceMethod ({ cls := "java/lang/String", name := "equals", desc := "(Ljava/lang/Object;)Z" } : Jvm.MethodName)) ∈ lw_all := lw_g (lw_at lw_m5 107 rfl) rfl
theorem q1187 : (Jvm.Cond.code ({ cls := "java/lang/String", name := "equals", desc := "(Ljava/lang/Object;)Z" } : Jvm.MethodName) prog_44_method_66_code (3 : Nat) (Option.some Jvm.ClassFile.FieldType.boolean)) ∈ lw_all := lw_g (lw_at lw_m5 108 rfl) rfl
theorem q1188 : (Jvm.Cond.methodLink "java/lang/String" (541 : Nat) ({ cls := "java/lang/StringLatin1", name := "equals", desc := "([B[B)Z" } : Jvm.MethodName)) ∈ lw_all := lw_g (lw_at lw_m5 109 rfl) rfl
theorem q1450 : (Jvm.Cond.instanceMethod ({ cls := "java/lang/String", name := "startsWith", desc := "(Ljava/lang/String;I)Z" } : Jvm.MethodName)) ∈ lw_all := lw_g (lw_at lw_m6 131 rfl) rfl
theorem q1451 : (Jvm.Cond.selects "java/lang/String" ({ cls := "java/lang/String", name := "startsWith", desc := "(Ljava/lang/String;I)Z" } : Jvm.MethodName) ({ cls := "java/lang/String", name := "startsWith", desc := "(Ljava/lang/String;I)Z" } : Jvm.MethodName)) ∈ lw_all := lw_g (lw_at lw_m6 132 rfl) rfl
theorem q1452 : (Jvm.Cond.code ({ cls := "java/lang/String", name := "startsWith", desc := "(Ljava/lang/String;I)Z" } : Jvm.MethodName) prog_44_method_75_code (8 : Nat) (Option.some Jvm.ClassFile.FieldType.boolean)) ∈ lw_all := lw_g (lw_at lw_m6 133 rfl) rfl
theorem q1453 : (Jvm.Cond.methodLink "java/lang/String" (505 : Nat) ({ cls := "java/lang/String", name := "length", desc := "()I" } : Jvm.MethodName)) ∈ lw_all := lw_g (lw_at lw_m6 134 rfl) rfl
theorem q1454 : (Jvm.Cond.methodLink "java/lang/String" (607 : Nat) ({ cls := "jdk/internal/util/ArraysSupport", name := "mismatch", desc := "([BI[BII)I" } : Jvm.MethodName)) ∈ lw_all := lw_g (lw_at lw_m6 135 rfl) rfl
theorem q1457 : (Jvm.Cond.methodLink "java/lang/String" (360 : Nat) ({ cls := "java/lang/StringUTF16", name := "getChar", desc := "([BI)C" } : Jvm.MethodName)) ∈ lw_all := lw_g (lw_at lw_m6 138 rfl) rfl
theorem q1459 : (Jvm.Cond.instanceMethod ({ cls := "java/lang/String", name := "charAt", desc := "(I)C" } : Jvm.MethodName)) ∈ lw_all := lw_g (lw_at lw_m6 140 rfl) rfl
theorem q1460 : (Jvm.Cond.selects "java/lang/String" ({ cls := "java/lang/String", name := "charAt", desc := "(I)C" } : Jvm.MethodName) ({ cls := "java/lang/String", name := "charAt", desc := "(I)C" } : Jvm.MethodName)) ∈ lw_all := lw_g (lw_at lw_m6 141 rfl) rfl
theorem q1461 : (Jvm.Cond.code ({ cls := "java/lang/String", name := "charAt", desc := "(I)C" } : Jvm.MethodName) prog_44_method_56_code (2 : Nat) (Option.some Jvm.ClassFile.FieldType.char)) ∈ lw_all := lw_g (lw_at lw_m6 142 rfl) rfl
theorem q1462 : (Jvm.Cond.methodLink "java/lang/String" (495 : Nat) ({ cls := "java/lang/StringLatin1", name := "charAt", desc := "([BI)C" } : Jvm.MethodName)) ∈ lw_all := lw_g (lw_at lw_m6 143 rfl) rfl
theorem q1466 : (Jvm.Cond.static ({ cls := "java/lang/String", name := "checkIndex", desc := "(II)V" } : Jvm.MethodName)) ∈ lw_all := lw_g (lw_at lw_m6 147 rfl) rfl
theorem q1467 : (Jvm.Cond.code ({ cls := "java/lang/String", name := "checkIndex", desc := "(II)V" } : Jvm.MethodName) prog_44_method_155_code (2 : Nat) (Option.none : Option Jvm.ClassFile.FieldType)) ∈ lw_all := lw_g (lw_at lw_m6 148 rfl) rfl
theorem q1468 : (Jvm.Cond.methodLink "java/lang/String" (1059 : Nat) ({ cls := "jdk/internal/util/Preconditions", name := "checkIndex", desc := "(IILjava/util/function/BiFunction;)I" } : Jvm.MethodName)) ∈ lw_all := lw_g (lw_at lw_m6 149 rfl) rfl
theorem q1471 : (Jvm.Cond.methodLink "java/lang/String" (498 : Nat) ({ cls := "java/lang/StringUTF16", name := "charAt", desc := "([BI)C" } : Jvm.MethodName)) ∈ lw_all := lw_g (lw_at lw_m6 152 rfl) rfl
theorem q1670 : (Jvm.Cond.instanceMethod ({ cls := "java/lang/String", name := "isEmpty", desc := "()Z" } : Jvm.MethodName)) ∈ lw_all := lw_g (lw_at lw_m7 111 rfl) rfl
theorem q1671 : (Jvm.Cond.selects "java/lang/String" ({ cls := "java/lang/String", name := "isEmpty", desc := "()Z" } : Jvm.MethodName) ({ cls := "java/lang/String", name := "isEmpty", desc := "()Z" } : Jvm.MethodName)) ∈ lw_all := lw_g (lw_at lw_m7 112 rfl) rfl
theorem q1672 : (Jvm.Cond.code ({ cls := "java/lang/String", name := "isEmpty", desc := "()Z" } : Jvm.MethodName) prog_44_method_55_code (1 : Nat) (Option.some Jvm.ClassFile.FieldType.boolean)) ∈ lw_all := lw_g (lw_at lw_m7 113 rfl) rfl
theorem q3385 : (Jvm.Cond.selects "java/lang/String" ({ cls := "java/lang/String", name := "equals", desc := "(Ljava/lang/Object;)Z" } : Jvm.MethodName) ({ cls := "java/lang/String", name := "equals", desc := "(Ljava/lang/Object;)Z" } : Jvm.MethodName)) ∈ lw_all := lw_g (lw_at lw_m14 146 rfl) rfl
theorem q3415 : (Jvm.Cond.selects "java/lang/String" ({ cls := "java/lang/String", name := "hashCode", desc := "()I" } : Jvm.MethodName) ({ cls := "java/lang/String", name := "hashCode", desc := "()I" } : Jvm.MethodName)) ∈ lw_all := lw_g (lw_at lw_m14 176 rfl) rfl
theorem q3439 : (Jvm.Cond.castable "java/lang/String" "java/lang/Object") ∈ lw_tbl := lw_at lw_m14 200 rfl
theorem in_J10 : ∀ w ∈ wsJ100, w ∈ lw_all := lw_in wsJ100 [525, 527, 529, 531] (by decide +kernel) (by decide +kernel)
/-! java/util/AbstractList -/
set_option maxRecDepth 100000
def RJ2 : String := "java/util/AbstractList"
abbrev cJ2_init : ByteArray := prog_54_method_1_code
def yJ2_init : MethodName := ⟨RJ2, "<init>", "()V"⟩
def dkwJ2_init_0 : List UInt8 := [42, 183, 0, 1, 42, 3, 181, 0, 7, 177]
abbrev dktJ2_init_0 : List UInt8 := dkwJ2_init_0 ++ []
theorem dksJ2_init_0 : cJ2_init.data.toList.drop 0 = dktJ2_init_0 := by decide +kernel
theorem dJ2_init_0 : decode cJ2_init 0 = .ok (.aload_n 0, 1) := dk_42 (dk_at dksJ2_init_0 0 rfl rfl)
theorem dJ2_init_1 : decode cJ2_init 1 = .ok (.invokespecial 1, 3) := dk_183 0 1 (dk_at dksJ2_init_0 1 rfl rfl)
theorem dJ2_init_4 : decode cJ2_init 4 = .ok (.aload_n 0, 1) := dk_42 (dk_at dksJ2_init_0 4 rfl rfl)
theorem dJ2_init_5 : decode cJ2_init 5 = .ok (.iconst 0, 1) := dk_3 (dk_at dksJ2_init_0 5 rfl rfl)
theorem dJ2_init_6 : decode cJ2_init 6 = .ok (.putfield 7, 3) := dk_181 0 7 (dk_at dksJ2_init_0 6 rfl rfl)
theorem dJ2_init_9 : decode cJ2_init 9 = .ok (.return_, 1) := dk_177 (dk_at dksJ2_init_0 9 rfl rfl)
theorem q124 : (Jvm.Cond.initialized "java/util/AbstractList") ∈ lw_all := lw_g (lw_at lw_m1 5 rfl) rfl
theorem q216 : (Jvm.Cond.instanceMethod ({ cls := "java/util/AbstractList", name := "<init>", desc := "()V" } : Jvm.MethodName)) ∈ lw_all := lw_g (lw_at lw_m1 97 rfl) rfl
theorem q217 : (Jvm.Cond.code ({ cls := "java/util/AbstractList", name := "<init>", desc := "()V" } : Jvm.MethodName) prog_54_method_1_code (1 : Nat) (Option.none : Option Jvm.ClassFile.FieldType)) ∈ lw_all := lw_g (lw_at lw_m1 98 rfl) rfl
theorem q218 : (Jvm.Cond.methodLink "java/util/AbstractList" (1 : Nat) ({ cls := "java/util/AbstractCollection", name := "<init>", desc := "()V" } : Jvm.MethodName)) ∈ lw_all := lw_g (lw_at lw_m1 99 rfl) rfl
theorem q539 : (Jvm.Cond.fieldLink "java/util/AbstractList" (7 : Nat) "java/util/AbstractList" "modCount" "I") ∈ lw_all := lw_g (lw_at lw_m2 180 rfl) rfl
theorem q548 : (Jvm.Cond.soleField "java/util/AbstractList" "modCount") ∈ lw_all := lw_g (lw_at lw_m2 189 rfl) rfl
/-! java/util/ArrayList -/
set_option maxRecDepth 100000
def RJ3 : String := "java/util/ArrayList"
def TJ3 : u_T := fun k => match k with
  | 0 => ("java/util/AbstractList", "modCount", "I", false)
  | 1 => ("java/util/ArrayList", "elementData", "[Ljava/lang/Object;", false)
  | _ => ("java/util/ArrayList", "size", "I", false)
def tyJ3 : Nat → FieldType := fun k => match k with
  | 0 => .int
  | 1 => .array (.object "java/lang/Object")
  | _ => .int
abbrev wsJ30 : List Cond := u_ws RJ3 TJ3 3
theorem nmJ3 : ∀ a, a < 3 → ∀ b, b < 3 → a ≠ b → (TJ3 a).2.1 ≠ (TJ3 b).2.1 := by decide +kernel
theorem tyJ3_ok : ∀ k, k < 3 → parseFieldDescriptor (TJ3 k).2.2.1 = some (tyJ3 k) := by decide +kernel
abbrev cJ3_init : ByteArray := prog_57_method_1_code
def yJ3_init : MethodName := ⟨RJ3, "<init>", "(I)V"⟩
def dkwJ3_init_2 : List UInt8 := [182, 0, 25, 27, 182, 0, 29, 182, 0, 32, 183, 0, 36, 191, 177]
abbrev dktJ3_init_2 : List UInt8 := dkwJ3_init_2 ++ []
def dkwJ3_init_1 : List UInt8 := [178, 0, 15, 181, 0, 9, 167, 0, 30, 187, 0, 18, 89, 187, 0, 20, 89, 183, 0, 22, 18, 23]
abbrev dktJ3_init_1 : List UInt8 := dkwJ3_init_1 ++ dktJ3_init_2
def dkwJ3_init_0 : List UInt8 := [42, 183, 0, 1, 27, 158, 0, 14, 42, 27, 189, 0, 7, 181, 0, 9, 167, 0, 44, 27, 154, 0, 13, 42]
abbrev dktJ3_init_0 : List UInt8 := dkwJ3_init_0 ++ dktJ3_init_1
theorem dksJ3_init_0 : cJ3_init.data.toList.drop 0 = dktJ3_init_0 := by decide +kernel
theorem dksJ3_init_1 : cJ3_init.data.toList.drop 24 = dktJ3_init_1 := dk_seg dksJ3_init_0 24 rfl rfl
theorem dksJ3_init_2 : cJ3_init.data.toList.drop 46 = dktJ3_init_2 := dk_seg dksJ3_init_1 22 rfl rfl
theorem dJ3_init_0 : decode cJ3_init 0 = .ok (.aload_n 0, 1) := dk_42 (dk_at dksJ3_init_0 0 rfl rfl)
theorem dJ3_init_1 : decode cJ3_init 1 = .ok (.invokespecial 1, 3) := dk_183 0 1 (dk_at dksJ3_init_0 1 rfl rfl)
theorem dJ3_init_4 : decode cJ3_init 4 = .ok (.iload_n 1, 1) := dk_27 (dk_at dksJ3_init_0 4 rfl rfl)
theorem dJ3_init_5 : decode cJ3_init 5 = .ok (.ifCond .le 14, 3) := dk_158 0 14 (dk_at dksJ3_init_0 5 rfl rfl)
theorem dJ3_init_8 : decode cJ3_init 8 = .ok (.aload_n 0, 1) := dk_42 (dk_at dksJ3_init_0 8 rfl rfl)
theorem dJ3_init_9 : decode cJ3_init 9 = .ok (.iload_n 1, 1) := dk_27 (dk_at dksJ3_init_0 9 rfl rfl)
theorem dJ3_init_10 : decode cJ3_init 10 = .ok (.anewarray 7, 3) := dk_189 0 7 (dk_at dksJ3_init_0 10 rfl rfl)
theorem dJ3_init_13 : decode cJ3_init 13 = .ok (.putfield 9, 3) := dk_181 0 9 (dk_at dksJ3_init_0 13 rfl rfl)
theorem dJ3_init_16 : decode cJ3_init 16 = .ok (.goto 44, 3) := dk_167 0 44 (dk_at dksJ3_init_0 16 rfl rfl)
theorem dJ3_init_19 : decode cJ3_init 19 = .ok (.iload_n 1, 1) := dk_27 (dk_at dksJ3_init_0 19 rfl rfl)
theorem dJ3_init_20 : decode cJ3_init 20 = .ok (.ifCond .ne 13, 3) := dk_154 0 13 (dk_at dksJ3_init_0 20 rfl rfl)
theorem dJ3_init_23 : decode cJ3_init 23 = .ok (.aload_n 0, 1) := dk_42 (dk_at dksJ3_init_0 23 rfl rfl)
theorem dJ3_init_24 : decode cJ3_init 24 = .ok (.getstatic 15, 3) := dk_178 0 15 (dk_at dksJ3_init_1 0 rfl rfl)
theorem dJ3_init_27 : decode cJ3_init 27 = .ok (.putfield 9, 3) := dk_181 0 9 (dk_at dksJ3_init_1 3 rfl rfl)
theorem dJ3_init_30 : decode cJ3_init 30 = .ok (.goto 30, 3) := dk_167 0 30 (dk_at dksJ3_init_1 6 rfl rfl)
theorem dJ3_init_33 : decode cJ3_init 33 = .ok (.new 18, 3) := dk_187 0 18 (dk_at dksJ3_init_1 9 rfl rfl)
theorem dJ3_init_36 : decode cJ3_init 36 = .ok (.dup, 1) := dk_89 (dk_at dksJ3_init_1 12 rfl rfl)
theorem dJ3_init_37 : decode cJ3_init 37 = .ok (.new 20, 3) := dk_187 0 20 (dk_at dksJ3_init_1 13 rfl rfl)
theorem dJ3_init_40 : decode cJ3_init 40 = .ok (.dup, 1) := dk_89 (dk_at dksJ3_init_1 16 rfl rfl)
theorem dJ3_init_41 : decode cJ3_init 41 = .ok (.invokespecial 22, 3) := dk_183 0 22 (dk_at dksJ3_init_1 17 rfl rfl)
theorem dJ3_init_44 : decode cJ3_init 44 = .ok (.ldc 23, 2) := dk_18 23 (dk_at dksJ3_init_1 20 rfl rfl)
theorem dJ3_init_46 : decode cJ3_init 46 = .ok (.invokevirtual 25, 3) := dk_182 0 25 (dk_at dksJ3_init_2 0 rfl rfl)
theorem dJ3_init_49 : decode cJ3_init 49 = .ok (.iload_n 1, 1) := dk_27 (dk_at dksJ3_init_2 3 rfl rfl)
theorem dJ3_init_50 : decode cJ3_init 50 = .ok (.invokevirtual 29, 3) := dk_182 0 29 (dk_at dksJ3_init_2 4 rfl rfl)
theorem dJ3_init_53 : decode cJ3_init 53 = .ok (.invokevirtual 32, 3) := dk_182 0 32 (dk_at dksJ3_init_2 7 rfl rfl)
theorem dJ3_init_56 : decode cJ3_init 56 = .ok (.invokespecial 36, 3) := dk_183 0 36 (dk_at dksJ3_init_2 10 rfl rfl)
theorem dJ3_init_59 : decode cJ3_init 59 = .ok (.athrow, 1) := dk_191 (dk_at dksJ3_init_2 13 rfl rfl)
theorem dJ3_init_60 : decode cJ3_init 60 = .ok (.return_, 1) := dk_177 (dk_at dksJ3_init_2 14 rfl rfl)
abbrev cJ3_add : ByteArray := prog_57_method_25_code
def yJ3_add : MethodName := ⟨RJ3, "add", "(Ljava/lang/Object;)Z"⟩
def dkwJ3_add_1 : List UInt8 := [172]
abbrev dktJ3_add_1 : List UInt8 := dkwJ3_add_1 ++ []
def dkwJ3_add_0 : List UInt8 := [42, 89, 180, 0, 63, 4, 96, 181, 0, 63, 42, 43, 42, 180, 0, 9, 42, 180, 0, 48, 182, 0, 131, 4]
abbrev dktJ3_add_0 : List UInt8 := dkwJ3_add_0 ++ dktJ3_add_1
theorem dksJ3_add_0 : cJ3_add.data.toList.drop 0 = dktJ3_add_0 := by decide +kernel
theorem dksJ3_add_1 : cJ3_add.data.toList.drop 24 = dktJ3_add_1 := dk_seg dksJ3_add_0 24 rfl rfl
theorem dJ3_add_0 : decode cJ3_add 0 = .ok (.aload_n 0, 1) := dk_42 (dk_at dksJ3_add_0 0 rfl rfl)
theorem dJ3_add_1 : decode cJ3_add 1 = .ok (.dup, 1) := dk_89 (dk_at dksJ3_add_0 1 rfl rfl)
theorem dJ3_add_2 : decode cJ3_add 2 = .ok (.getfield 63, 3) := dk_180 0 63 (dk_at dksJ3_add_0 2 rfl rfl)
theorem dJ3_add_5 : decode cJ3_add 5 = .ok (.iconst 1, 1) := dk_4 (dk_at dksJ3_add_0 5 rfl rfl)
theorem dJ3_add_6 : decode cJ3_add 6 = .ok (.iadd, 1) := dk_96 (dk_at dksJ3_add_0 6 rfl rfl)
theorem dJ3_add_7 : decode cJ3_add 7 = .ok (.putfield 63, 3) := dk_181 0 63 (dk_at dksJ3_add_0 7 rfl rfl)
theorem dJ3_add_10 : decode cJ3_add 10 = .ok (.aload_n 0, 1) := dk_42 (dk_at dksJ3_add_0 10 rfl rfl)
theorem dJ3_add_11 : decode cJ3_add 11 = .ok (.aload_n 1, 1) := dk_43 (dk_at dksJ3_add_0 11 rfl rfl)
theorem dJ3_add_12 : decode cJ3_add 12 = .ok (.aload_n 0, 1) := dk_42 (dk_at dksJ3_add_0 12 rfl rfl)
theorem dJ3_add_13 : decode cJ3_add 13 = .ok (.getfield 9, 3) := dk_180 0 9 (dk_at dksJ3_add_0 13 rfl rfl)
theorem dJ3_add_16 : decode cJ3_add 16 = .ok (.aload_n 0, 1) := dk_42 (dk_at dksJ3_add_0 16 rfl rfl)
theorem dJ3_add_17 : decode cJ3_add 17 = .ok (.getfield 48, 3) := dk_180 0 48 (dk_at dksJ3_add_0 17 rfl rfl)
theorem dJ3_add_20 : decode cJ3_add 20 = .ok (.invokevirtual 131, 3) := dk_182 0 131 (dk_at dksJ3_add_0 20 rfl rfl)
theorem dJ3_add_23 : decode cJ3_add 23 = .ok (.iconst 1, 1) := dk_4 (dk_at dksJ3_add_0 23 rfl rfl)
theorem dJ3_add_24 : decode cJ3_add 24 = .ok (.ireturn, 1) := dk_172 (dk_at dksJ3_add_1 0 rfl rfl)
abbrev cJ3_add_2 : ByteArray := prog_57_method_24_code
def yJ3_add_2 : MethodName := ⟨RJ3, "add", "(Ljava/lang/Object;[Ljava/lang/Object;I)V"⟩
def dkwJ3_add_2_0 : List UInt8 := [29, 44, 190, 160, 0, 8, 42, 182, 0, 129, 77, 44, 29, 43, 83, 42, 29, 4, 96, 181, 0, 48, 177]
abbrev dktJ3_add_2_0 : List UInt8 := dkwJ3_add_2_0 ++ []
theorem dksJ3_add_2_0 : cJ3_add_2.data.toList.drop 0 = dktJ3_add_2_0 := by decide +kernel
theorem dJ3_add_2_0 : decode cJ3_add_2 0 = .ok (.iload_n 3, 1) := dk_29 (dk_at dksJ3_add_2_0 0 rfl rfl)
theorem dJ3_add_2_1 : decode cJ3_add_2 1 = .ok (.aload_n 2, 1) := dk_44 (dk_at dksJ3_add_2_0 1 rfl rfl)
theorem dJ3_add_2_2 : decode cJ3_add_2 2 = .ok (.arraylength, 1) := dk_190 (dk_at dksJ3_add_2_0 2 rfl rfl)
theorem dJ3_add_2_3 : decode cJ3_add_2 3 = .ok (.if_icmp .ne 8, 3) := dk_160 0 8 (dk_at dksJ3_add_2_0 3 rfl rfl)
theorem dJ3_add_2_6 : decode cJ3_add_2 6 = .ok (.aload_n 0, 1) := dk_42 (dk_at dksJ3_add_2_0 6 rfl rfl)
theorem dJ3_add_2_7 : decode cJ3_add_2 7 = .ok (.invokevirtual 129, 3) := dk_182 0 129 (dk_at dksJ3_add_2_0 7 rfl rfl)
theorem dJ3_add_2_10 : decode cJ3_add_2 10 = .ok (.astore_n 2, 1) := dk_77 (dk_at dksJ3_add_2_0 10 rfl rfl)
theorem dJ3_add_2_11 : decode cJ3_add_2 11 = .ok (.aload_n 2, 1) := dk_44 (dk_at dksJ3_add_2_0 11 rfl rfl)
theorem dJ3_add_2_12 : decode cJ3_add_2 12 = .ok (.iload_n 3, 1) := dk_29 (dk_at dksJ3_add_2_0 12 rfl rfl)
theorem dJ3_add_2_13 : decode cJ3_add_2 13 = .ok (.aload_n 1, 1) := dk_43 (dk_at dksJ3_add_2_0 13 rfl rfl)
theorem dJ3_add_2_14 : decode cJ3_add_2 14 = .ok (.aastore, 1) := dk_83 (dk_at dksJ3_add_2_0 14 rfl rfl)
theorem dJ3_add_2_15 : decode cJ3_add_2 15 = .ok (.aload_n 0, 1) := dk_42 (dk_at dksJ3_add_2_0 15 rfl rfl)
theorem dJ3_add_2_16 : decode cJ3_add_2 16 = .ok (.iload_n 3, 1) := dk_29 (dk_at dksJ3_add_2_0 16 rfl rfl)
theorem dJ3_add_2_17 : decode cJ3_add_2 17 = .ok (.iconst 1, 1) := dk_4 (dk_at dksJ3_add_2_0 17 rfl rfl)
theorem dJ3_add_2_18 : decode cJ3_add_2 18 = .ok (.iadd, 1) := dk_96 (dk_at dksJ3_add_2_0 18 rfl rfl)
theorem dJ3_add_2_19 : decode cJ3_add_2 19 = .ok (.putfield 48, 3) := dk_181 0 48 (dk_at dksJ3_add_2_0 19 rfl rfl)
theorem dJ3_add_2_22 : decode cJ3_add_2 22 = .ok (.return_, 1) := dk_177 (dk_at dksJ3_add_2_0 22 rfl rfl)
abbrev cJ3_grow : ByteArray := prog_57_method_7_code
def yJ3_grow : MethodName := ⟨RJ3, "grow", "()[Ljava/lang/Object;"⟩
def dkwJ3_grow_0 : List UInt8 := [42, 42, 180, 0, 48, 4, 96, 182, 0, 69, 176]
abbrev dktJ3_grow_0 : List UInt8 := dkwJ3_grow_0 ++ []
theorem dksJ3_grow_0 : cJ3_grow.data.toList.drop 0 = dktJ3_grow_0 := by decide +kernel
theorem dJ3_grow_0 : decode cJ3_grow 0 = .ok (.aload_n 0, 1) := dk_42 (dk_at dksJ3_grow_0 0 rfl rfl)
theorem dJ3_grow_1 : decode cJ3_grow 1 = .ok (.aload_n 0, 1) := dk_42 (dk_at dksJ3_grow_0 1 rfl rfl)
theorem dJ3_grow_2 : decode cJ3_grow 2 = .ok (.getfield 48, 3) := dk_180 0 48 (dk_at dksJ3_grow_0 2 rfl rfl)
theorem dJ3_grow_5 : decode cJ3_grow 5 = .ok (.iconst 1, 1) := dk_4 (dk_at dksJ3_grow_0 5 rfl rfl)
theorem dJ3_grow_6 : decode cJ3_grow 6 = .ok (.iadd, 1) := dk_96 (dk_at dksJ3_grow_0 6 rfl rfl)
theorem dJ3_grow_7 : decode cJ3_grow 7 = .ok (.invokevirtual 69, 3) := dk_182 0 69 (dk_at dksJ3_grow_0 7 rfl rfl)
theorem dJ3_grow_10 : decode cJ3_grow 10 = .ok (.areturn, 1) := dk_176 (dk_at dksJ3_grow_0 10 rfl rfl)
abbrev cJ3_grow_2 : ByteArray := prog_57_method_6_code
def yJ3_grow_2 : MethodName := ⟨RJ3, "grow", "(I)[Ljava/lang/Object;"⟩
def dkwJ3_grow_2_2 : List UInt8 := [27, 184, 0, 79, 189, 0, 7, 90, 181, 0, 9, 176]
abbrev dktJ3_grow_2_2 : List UInt8 := dkwJ3_grow_2_2 ++ []
def dkwJ3_grow_2_1 : List UInt8 := [28, 4, 122, 184, 0, 73, 62, 42, 42, 180, 0, 9, 29, 184, 0, 66, 90, 181, 0, 9, 176, 42, 16, 10]
abbrev dktJ3_grow_2_1 : List UInt8 := dkwJ3_grow_2_1 ++ dktJ3_grow_2_2
def dkwJ3_grow_2_0 : List UInt8 := [42, 180, 0, 9, 190, 61, 28, 157, 0, 13, 42, 180, 0, 9, 178, 0, 39, 165, 0, 28, 28, 27, 28, 100]
abbrev dktJ3_grow_2_0 : List UInt8 := dkwJ3_grow_2_0 ++ dktJ3_grow_2_1
theorem dksJ3_grow_2_0 : cJ3_grow_2.data.toList.drop 0 = dktJ3_grow_2_0 := by decide +kernel
theorem dksJ3_grow_2_1 : cJ3_grow_2.data.toList.drop 24 = dktJ3_grow_2_1 := dk_seg dksJ3_grow_2_0 24 rfl rfl
theorem dksJ3_grow_2_2 : cJ3_grow_2.data.toList.drop 48 = dktJ3_grow_2_2 := dk_seg dksJ3_grow_2_1 24 rfl rfl
theorem dJ3_grow_2_0 : decode cJ3_grow_2 0 = .ok (.aload_n 0, 1) := dk_42 (dk_at dksJ3_grow_2_0 0 rfl rfl)
theorem dJ3_grow_2_1 : decode cJ3_grow_2 1 = .ok (.getfield 9, 3) := dk_180 0 9 (dk_at dksJ3_grow_2_0 1 rfl rfl)
theorem dJ3_grow_2_4 : decode cJ3_grow_2 4 = .ok (.arraylength, 1) := dk_190 (dk_at dksJ3_grow_2_0 4 rfl rfl)
theorem dJ3_grow_2_5 : decode cJ3_grow_2 5 = .ok (.istore_n 2, 1) := dk_61 (dk_at dksJ3_grow_2_0 5 rfl rfl)
theorem dJ3_grow_2_6 : decode cJ3_grow_2 6 = .ok (.iload_n 2, 1) := dk_28 (dk_at dksJ3_grow_2_0 6 rfl rfl)
theorem dJ3_grow_2_7 : decode cJ3_grow_2 7 = .ok (.ifCond .gt 13, 3) := dk_157 0 13 (dk_at dksJ3_grow_2_0 7 rfl rfl)
theorem dJ3_grow_2_10 : decode cJ3_grow_2 10 = .ok (.aload_n 0, 1) := dk_42 (dk_at dksJ3_grow_2_0 10 rfl rfl)
theorem dJ3_grow_2_11 : decode cJ3_grow_2 11 = .ok (.getfield 9, 3) := dk_180 0 9 (dk_at dksJ3_grow_2_0 11 rfl rfl)
theorem dJ3_grow_2_14 : decode cJ3_grow_2 14 = .ok (.getstatic 39, 3) := dk_178 0 39 (dk_at dksJ3_grow_2_0 14 rfl rfl)
theorem dJ3_grow_2_17 : decode cJ3_grow_2 17 = .ok (.if_acmp .eq 28, 3) := dk_165 0 28 (dk_at dksJ3_grow_2_0 17 rfl rfl)
theorem dJ3_grow_2_20 : decode cJ3_grow_2 20 = .ok (.iload_n 2, 1) := dk_28 (dk_at dksJ3_grow_2_0 20 rfl rfl)
theorem dJ3_grow_2_21 : decode cJ3_grow_2 21 = .ok (.iload_n 1, 1) := dk_27 (dk_at dksJ3_grow_2_0 21 rfl rfl)
theorem dJ3_grow_2_22 : decode cJ3_grow_2 22 = .ok (.iload_n 2, 1) := dk_28 (dk_at dksJ3_grow_2_0 22 rfl rfl)
theorem dJ3_grow_2_23 : decode cJ3_grow_2 23 = .ok (.isub, 1) := dk_100 (dk_at dksJ3_grow_2_0 23 rfl rfl)
theorem dJ3_grow_2_24 : decode cJ3_grow_2 24 = .ok (.iload_n 2, 1) := dk_28 (dk_at dksJ3_grow_2_1 0 rfl rfl)
theorem dJ3_grow_2_25 : decode cJ3_grow_2 25 = .ok (.iconst 1, 1) := dk_4 (dk_at dksJ3_grow_2_1 1 rfl rfl)
theorem dJ3_grow_2_26 : decode cJ3_grow_2 26 = .ok (.ishr, 1) := dk_122 (dk_at dksJ3_grow_2_1 2 rfl rfl)
theorem dJ3_grow_2_27 : decode cJ3_grow_2 27 = .ok (.invokestatic 73, 3) := dk_184 0 73 (dk_at dksJ3_grow_2_1 3 rfl rfl)
theorem dJ3_grow_2_30 : decode cJ3_grow_2 30 = .ok (.istore_n 3, 1) := dk_62 (dk_at dksJ3_grow_2_1 6 rfl rfl)
theorem dJ3_grow_2_31 : decode cJ3_grow_2 31 = .ok (.aload_n 0, 1) := dk_42 (dk_at dksJ3_grow_2_1 7 rfl rfl)
theorem dJ3_grow_2_32 : decode cJ3_grow_2 32 = .ok (.aload_n 0, 1) := dk_42 (dk_at dksJ3_grow_2_1 8 rfl rfl)
theorem dJ3_grow_2_33 : decode cJ3_grow_2 33 = .ok (.getfield 9, 3) := dk_180 0 9 (dk_at dksJ3_grow_2_1 9 rfl rfl)
theorem dJ3_grow_2_36 : decode cJ3_grow_2 36 = .ok (.iload_n 3, 1) := dk_29 (dk_at dksJ3_grow_2_1 12 rfl rfl)
theorem dJ3_grow_2_37 : decode cJ3_grow_2 37 = .ok (.invokestatic 66, 3) := dk_184 0 66 (dk_at dksJ3_grow_2_1 13 rfl rfl)
theorem dJ3_grow_2_40 : decode cJ3_grow_2 40 = .ok (.dup_x1, 1) := dk_90 (dk_at dksJ3_grow_2_1 16 rfl rfl)
theorem dJ3_grow_2_41 : decode cJ3_grow_2 41 = .ok (.putfield 9, 3) := dk_181 0 9 (dk_at dksJ3_grow_2_1 17 rfl rfl)
theorem dJ3_grow_2_44 : decode cJ3_grow_2 44 = .ok (.areturn, 1) := dk_176 (dk_at dksJ3_grow_2_1 20 rfl rfl)
theorem dJ3_grow_2_45 : decode cJ3_grow_2 45 = .ok (.aload_n 0, 1) := dk_42 (dk_at dksJ3_grow_2_1 21 rfl rfl)
theorem dJ3_grow_2_46 : decode cJ3_grow_2 46 = .ok (.bipush 10, 2) := dk_16 10 (dk_at dksJ3_grow_2_1 22 rfl rfl)
theorem dJ3_grow_2_48 : decode cJ3_grow_2 48 = .ok (.iload_n 1, 1) := dk_27 (dk_at dksJ3_grow_2_2 0 rfl rfl)
theorem dJ3_grow_2_49 : decode cJ3_grow_2 49 = .ok (.invokestatic 79, 3) := dk_184 0 79 (dk_at dksJ3_grow_2_2 1 rfl rfl)
theorem dJ3_grow_2_52 : decode cJ3_grow_2 52 = .ok (.anewarray 7, 3) := dk_189 0 7 (dk_at dksJ3_grow_2_2 4 rfl rfl)
theorem dJ3_grow_2_55 : decode cJ3_grow_2 55 = .ok (.dup_x1, 1) := dk_90 (dk_at dksJ3_grow_2_2 7 rfl rfl)
theorem dJ3_grow_2_56 : decode cJ3_grow_2 56 = .ok (.putfield 9, 3) := dk_181 0 9 (dk_at dksJ3_grow_2_2 8 rfl rfl)
theorem dJ3_grow_2_59 : decode cJ3_grow_2 59 = .ok (.areturn, 1) := dk_176 (dk_at dksJ3_grow_2_2 11 rfl rfl)
abbrev cJ3_init_2 : ByteArray := prog_57_method_3_code
def yJ3_init_2 : MethodName := ⟨RJ3, "<init>", "(Ljava/util/Collection;)V"⟩
def dkwJ3_init_2_2 : List UInt8 := [18, 56, 184, 0, 57, 181, 0, 9, 167, 0, 10, 42, 178, 0, 15, 181, 0, 9, 177]
abbrev dktJ3_init_2_2 : List UInt8 := dkwJ3_init_2_2 ++ []
def dkwJ3_init_2_1 : List UInt8 := [185, 0, 52, 1, 0, 18, 10, 166, 0, 11, 42, 44, 181, 0, 9, 167, 0, 27, 42, 44, 42, 180, 0, 48]
abbrev dktJ3_init_2_1 : List UInt8 := dkwJ3_init_2_1 ++ dktJ3_init_2_2
def dkwJ3_init_2_0 : List UInt8 := [42, 183, 0, 1, 43, 185, 0, 42, 1, 0, 77, 42, 44, 190, 90, 181, 0, 48, 153, 0, 39, 43]
abbrev dktJ3_init_2_0 : List UInt8 := dkwJ3_init_2_0 ++ dktJ3_init_2_1
theorem dksJ3_init_2_0 : cJ3_init_2.data.toList.drop 0 = dktJ3_init_2_0 := by decide +kernel
theorem dksJ3_init_2_1 : cJ3_init_2.data.toList.drop 22 = dktJ3_init_2_1 := dk_seg dksJ3_init_2_0 22 rfl rfl
theorem dksJ3_init_2_2 : cJ3_init_2.data.toList.drop 46 = dktJ3_init_2_2 := dk_seg dksJ3_init_2_1 24 rfl rfl
theorem dJ3_init_2_0 : decode cJ3_init_2 0 = .ok (.aload_n 0, 1) := dk_42 (dk_at dksJ3_init_2_0 0 rfl rfl)
theorem dJ3_init_2_1 : decode cJ3_init_2 1 = .ok (.invokespecial 1, 3) := dk_183 0 1 (dk_at dksJ3_init_2_0 1 rfl rfl)
theorem dJ3_init_2_4 : decode cJ3_init_2 4 = .ok (.aload_n 1, 1) := dk_43 (dk_at dksJ3_init_2_0 4 rfl rfl)
theorem dJ3_init_2_5 : decode cJ3_init_2 5 = .ok (.invokeinterface 42 1, 5) := by decide +kernel
theorem dJ3_init_2_10 : decode cJ3_init_2 10 = .ok (.astore_n 2, 1) := dk_77 (dk_at dksJ3_init_2_0 10 rfl rfl)
theorem dJ3_init_2_11 : decode cJ3_init_2 11 = .ok (.aload_n 0, 1) := dk_42 (dk_at dksJ3_init_2_0 11 rfl rfl)
theorem dJ3_init_2_12 : decode cJ3_init_2 12 = .ok (.aload_n 2, 1) := dk_44 (dk_at dksJ3_init_2_0 12 rfl rfl)
theorem dJ3_init_2_13 : decode cJ3_init_2 13 = .ok (.arraylength, 1) := dk_190 (dk_at dksJ3_init_2_0 13 rfl rfl)
theorem dJ3_init_2_14 : decode cJ3_init_2 14 = .ok (.dup_x1, 1) := dk_90 (dk_at dksJ3_init_2_0 14 rfl rfl)
theorem dJ3_init_2_15 : decode cJ3_init_2 15 = .ok (.putfield 48, 3) := dk_181 0 48 (dk_at dksJ3_init_2_0 15 rfl rfl)
theorem dJ3_init_2_18 : decode cJ3_init_2 18 = .ok (.ifCond .eq 39, 3) := dk_153 0 39 (dk_at dksJ3_init_2_0 18 rfl rfl)
theorem dJ3_init_2_21 : decode cJ3_init_2 21 = .ok (.aload_n 1, 1) := dk_43 (dk_at dksJ3_init_2_0 21 rfl rfl)
theorem dJ3_init_2_22 : decode cJ3_init_2 22 = .ok (.invokeinterface 52 1, 5) := by decide +kernel
theorem dJ3_init_2_27 : decode cJ3_init_2 27 = .ok (.ldc 10, 2) := dk_18 10 (dk_at dksJ3_init_2_1 5 rfl rfl)
theorem dJ3_init_2_29 : decode cJ3_init_2 29 = .ok (.if_acmp .ne 11, 3) := dk_166 0 11 (dk_at dksJ3_init_2_1 7 rfl rfl)
theorem dJ3_init_2_32 : decode cJ3_init_2 32 = .ok (.aload_n 0, 1) := dk_42 (dk_at dksJ3_init_2_1 10 rfl rfl)
theorem dJ3_init_2_33 : decode cJ3_init_2 33 = .ok (.aload_n 2, 1) := dk_44 (dk_at dksJ3_init_2_1 11 rfl rfl)
theorem dJ3_init_2_34 : decode cJ3_init_2 34 = .ok (.putfield 9, 3) := dk_181 0 9 (dk_at dksJ3_init_2_1 12 rfl rfl)
theorem dJ3_init_2_37 : decode cJ3_init_2 37 = .ok (.goto 27, 3) := dk_167 0 27 (dk_at dksJ3_init_2_1 15 rfl rfl)
theorem dJ3_init_2_40 : decode cJ3_init_2 40 = .ok (.aload_n 0, 1) := dk_42 (dk_at dksJ3_init_2_1 18 rfl rfl)
theorem dJ3_init_2_41 : decode cJ3_init_2 41 = .ok (.aload_n 2, 1) := dk_44 (dk_at dksJ3_init_2_1 19 rfl rfl)
theorem dJ3_init_2_42 : decode cJ3_init_2 42 = .ok (.aload_n 0, 1) := dk_42 (dk_at dksJ3_init_2_1 20 rfl rfl)
theorem dJ3_init_2_43 : decode cJ3_init_2 43 = .ok (.getfield 48, 3) := dk_180 0 48 (dk_at dksJ3_init_2_1 21 rfl rfl)
theorem dJ3_init_2_46 : decode cJ3_init_2 46 = .ok (.ldc 56, 2) := dk_18 56 (dk_at dksJ3_init_2_2 0 rfl rfl)
theorem dJ3_init_2_48 : decode cJ3_init_2 48 = .ok (.invokestatic 57, 3) := dk_184 0 57 (dk_at dksJ3_init_2_2 2 rfl rfl)
theorem dJ3_init_2_51 : decode cJ3_init_2 51 = .ok (.putfield 9, 3) := dk_181 0 9 (dk_at dksJ3_init_2_2 5 rfl rfl)
theorem dJ3_init_2_54 : decode cJ3_init_2 54 = .ok (.goto 10, 3) := dk_167 0 10 (dk_at dksJ3_init_2_2 8 rfl rfl)
theorem dJ3_init_2_57 : decode cJ3_init_2 57 = .ok (.aload_n 0, 1) := dk_42 (dk_at dksJ3_init_2_2 11 rfl rfl)
theorem dJ3_init_2_58 : decode cJ3_init_2 58 = .ok (.getstatic 15, 3) := dk_178 0 15 (dk_at dksJ3_init_2_2 12 rfl rfl)
theorem dJ3_init_2_61 : decode cJ3_init_2 61 = .ok (.putfield 9, 3) := dk_181 0 9 (dk_at dksJ3_init_2_2 15 rfl rfl)
theorem dJ3_init_2_64 : decode cJ3_init_2 64 = .ok (.return_, 1) := dk_177 (dk_at dksJ3_init_2_2 18 rfl rfl)
abbrev cJ3_toArray : ByteArray := prog_57_method_16_code
def yJ3_toArray : MethodName := ⟨RJ3, "toArray", "()[Ljava/lang/Object;"⟩
def dkwJ3_toArray_0 : List UInt8 := [42, 180, 0, 9, 42, 180, 0, 48, 184, 0, 66, 176]
abbrev dktJ3_toArray_0 : List UInt8 := dkwJ3_toArray_0 ++ []
theorem dksJ3_toArray_0 : cJ3_toArray.data.toList.drop 0 = dktJ3_toArray_0 := by decide +kernel
theorem dJ3_toArray_0 : decode cJ3_toArray 0 = .ok (.aload_n 0, 1) := dk_42 (dk_at dksJ3_toArray_0 0 rfl rfl)
theorem dJ3_toArray_1 : decode cJ3_toArray 1 = .ok (.getfield 9, 3) := dk_180 0 9 (dk_at dksJ3_toArray_0 1 rfl rfl)
theorem dJ3_toArray_4 : decode cJ3_toArray 4 = .ok (.aload_n 0, 1) := dk_42 (dk_at dksJ3_toArray_0 4 rfl rfl)
theorem dJ3_toArray_5 : decode cJ3_toArray 5 = .ok (.getfield 48, 3) := dk_180 0 48 (dk_at dksJ3_toArray_0 5 rfl rfl)
theorem dJ3_toArray_8 : decode cJ3_toArray 8 = .ok (.invokestatic 66, 3) := dk_184 0 66 (dk_at dksJ3_toArray_0 8 rfl rfl)
theorem dJ3_toArray_11 : decode cJ3_toArray 11 = .ok (.areturn, 1) := dk_176 (dk_at dksJ3_toArray_0 11 rfl rfl)
abbrev cJ3_clear : ByteArray := prog_57_method_40_code
def yJ3_clear : MethodName := ⟨RJ3, "clear", "()V"⟩
def dkwJ3_clear_1 : List UInt8 := [181, 0, 48, 62, 29, 28, 162, 0, 13, 43, 29, 1, 83, 132, 3, 1, 167, 255, 244, 177]
abbrev dktJ3_clear_1 : List UInt8 := dkwJ3_clear_1 ++ []
def dkwJ3_clear_0 : List UInt8 := [42, 89, 180, 0, 63, 4, 96, 181, 0, 63, 42, 180, 0, 9, 76, 42, 180, 0, 48, 61, 42, 3, 90]
abbrev dktJ3_clear_0 : List UInt8 := dkwJ3_clear_0 ++ dktJ3_clear_1
theorem dksJ3_clear_0 : cJ3_clear.data.toList.drop 0 = dktJ3_clear_0 := by decide +kernel
theorem dksJ3_clear_1 : cJ3_clear.data.toList.drop 23 = dktJ3_clear_1 := dk_seg dksJ3_clear_0 23 rfl rfl
theorem dJ3_clear_0 : decode cJ3_clear 0 = .ok (.aload_n 0, 1) := dk_42 (dk_at dksJ3_clear_0 0 rfl rfl)
theorem dJ3_clear_1 : decode cJ3_clear 1 = .ok (.dup, 1) := dk_89 (dk_at dksJ3_clear_0 1 rfl rfl)
theorem dJ3_clear_2 : decode cJ3_clear 2 = .ok (.getfield 63, 3) := dk_180 0 63 (dk_at dksJ3_clear_0 2 rfl rfl)
theorem dJ3_clear_5 : decode cJ3_clear 5 = .ok (.iconst 1, 1) := dk_4 (dk_at dksJ3_clear_0 5 rfl rfl)
theorem dJ3_clear_6 : decode cJ3_clear 6 = .ok (.iadd, 1) := dk_96 (dk_at dksJ3_clear_0 6 rfl rfl)
theorem dJ3_clear_7 : decode cJ3_clear 7 = .ok (.putfield 63, 3) := dk_181 0 63 (dk_at dksJ3_clear_0 7 rfl rfl)
theorem dJ3_clear_10 : decode cJ3_clear 10 = .ok (.aload_n 0, 1) := dk_42 (dk_at dksJ3_clear_0 10 rfl rfl)
theorem dJ3_clear_11 : decode cJ3_clear 11 = .ok (.getfield 9, 3) := dk_180 0 9 (dk_at dksJ3_clear_0 11 rfl rfl)
theorem dJ3_clear_14 : decode cJ3_clear 14 = .ok (.astore_n 1, 1) := dk_76 (dk_at dksJ3_clear_0 14 rfl rfl)
theorem dJ3_clear_15 : decode cJ3_clear 15 = .ok (.aload_n 0, 1) := dk_42 (dk_at dksJ3_clear_0 15 rfl rfl)
theorem dJ3_clear_16 : decode cJ3_clear 16 = .ok (.getfield 48, 3) := dk_180 0 48 (dk_at dksJ3_clear_0 16 rfl rfl)
theorem dJ3_clear_19 : decode cJ3_clear 19 = .ok (.istore_n 2, 1) := dk_61 (dk_at dksJ3_clear_0 19 rfl rfl)
theorem dJ3_clear_20 : decode cJ3_clear 20 = .ok (.aload_n 0, 1) := dk_42 (dk_at dksJ3_clear_0 20 rfl rfl)
theorem dJ3_clear_21 : decode cJ3_clear 21 = .ok (.iconst 0, 1) := dk_3 (dk_at dksJ3_clear_0 21 rfl rfl)
theorem dJ3_clear_22 : decode cJ3_clear 22 = .ok (.dup_x1, 1) := dk_90 (dk_at dksJ3_clear_0 22 rfl rfl)
theorem dJ3_clear_23 : decode cJ3_clear 23 = .ok (.putfield 48, 3) := dk_181 0 48 (dk_at dksJ3_clear_1 0 rfl rfl)
theorem dJ3_clear_26 : decode cJ3_clear 26 = .ok (.istore_n 3, 1) := dk_62 (dk_at dksJ3_clear_1 3 rfl rfl)
theorem dJ3_clear_27 : decode cJ3_clear 27 = .ok (.iload_n 3, 1) := dk_29 (dk_at dksJ3_clear_1 4 rfl rfl)
theorem dJ3_clear_28 : decode cJ3_clear 28 = .ok (.iload_n 2, 1) := dk_28 (dk_at dksJ3_clear_1 5 rfl rfl)
theorem dJ3_clear_29 : decode cJ3_clear 29 = .ok (.if_icmp .ge 13, 3) := dk_162 0 13 (dk_at dksJ3_clear_1 6 rfl rfl)
theorem dJ3_clear_32 : decode cJ3_clear 32 = .ok (.aload_n 1, 1) := dk_43 (dk_at dksJ3_clear_1 9 rfl rfl)
theorem dJ3_clear_33 : decode cJ3_clear 33 = .ok (.iload_n 3, 1) := dk_29 (dk_at dksJ3_clear_1 10 rfl rfl)
theorem dJ3_clear_34 : decode cJ3_clear 34 = .ok (.aconst_null, 1) := dk_1 (dk_at dksJ3_clear_1 11 rfl rfl)
theorem dJ3_clear_35 : decode cJ3_clear 35 = .ok (.aastore, 1) := dk_83 (dk_at dksJ3_clear_1 12 rfl rfl)
theorem dJ3_clear_36 : decode cJ3_clear 36 = .ok (.iinc 3 1, 3) := dk_132 3 1 (dk_at dksJ3_clear_1 13 rfl rfl)
theorem dJ3_clear_39 : decode cJ3_clear 39 = .ok (.goto (-12), 3) := dk_167 255 244 (dk_at dksJ3_clear_1 16 rfl rfl)
theorem dJ3_clear_42 : decode cJ3_clear 42 = .ok (.return_, 1) := dk_177 (dk_at dksJ3_clear_1 19 rfl rfl)
abbrev cJ3_iterator : ByteArray := prog_57_method_55_code
def yJ3_iterator : MethodName := ⟨RJ3, "iterator", "()Ljava/util/Iterator;"⟩
def dkwJ3_iterator_0 : List UInt8 := [187, 1, 11, 89, 42, 183, 1, 13, 176]
abbrev dktJ3_iterator_0 : List UInt8 := dkwJ3_iterator_0 ++ []
theorem dksJ3_iterator_0 : cJ3_iterator.data.toList.drop 0 = dktJ3_iterator_0 := by decide +kernel
theorem dJ3_iterator_0 : decode cJ3_iterator 0 = .ok (.new 267, 3) := dk_187 1 11 (dk_at dksJ3_iterator_0 0 rfl rfl)
theorem dJ3_iterator_3 : decode cJ3_iterator 3 = .ok (.dup, 1) := dk_89 (dk_at dksJ3_iterator_0 3 rfl rfl)
theorem dJ3_iterator_4 : decode cJ3_iterator 4 = .ok (.aload_n 0, 1) := dk_42 (dk_at dksJ3_iterator_0 4 rfl rfl)
theorem dJ3_iterator_5 : decode cJ3_iterator 5 = .ok (.invokespecial 269, 3) := dk_183 1 13 (dk_at dksJ3_iterator_0 5 rfl rfl)
theorem dJ3_iterator_8 : decode cJ3_iterator 8 = .ok (.areturn, 1) := dk_176 (dk_at dksJ3_iterator_0 8 rfl rfl)
abbrev cJ3_size : ByteArray := prog_57_method_8_code
def yJ3_size : MethodName := ⟨RJ3, "size", "()I"⟩
theorem dJ3_size_0 : decode cJ3_size 0 = .ok (.aload_n 0, 1) := by decide +kernel
theorem dJ3_size_1 : decode cJ3_size 1 = .ok (.getfield 48, 3) := by decide +kernel
theorem dJ3_size_4 : decode cJ3_size 4 = .ok (.ireturn, 1) := by decide +kernel
abbrev cJ3_get : ByteArray := prog_57_method_20_code
def yJ3_get : MethodName := ⟨RJ3, "get", "(I)Ljava/lang/Object;"⟩
def dkwJ3_get_0 : List UInt8 := [27, 42, 180, 0, 48, 184, 0, 118, 87, 42, 27, 182, 0, 123, 176]
abbrev dktJ3_get_0 : List UInt8 := dkwJ3_get_0 ++ []
theorem dksJ3_get_0 : cJ3_get.data.toList.drop 0 = dktJ3_get_0 := by decide +kernel
theorem dJ3_get_0 : decode cJ3_get 0 = .ok (.iload_n 1, 1) := dk_27 (dk_at dksJ3_get_0 0 rfl rfl)
theorem dJ3_get_1 : decode cJ3_get 1 = .ok (.aload_n 0, 1) := dk_42 (dk_at dksJ3_get_0 1 rfl rfl)
theorem dJ3_get_2 : decode cJ3_get 2 = .ok (.getfield 48, 3) := dk_180 0 48 (dk_at dksJ3_get_0 2 rfl rfl)
theorem dJ3_get_5 : decode cJ3_get 5 = .ok (.invokestatic 118, 3) := dk_184 0 118 (dk_at dksJ3_get_0 5 rfl rfl)
theorem dJ3_get_8 : decode cJ3_get 8 = .ok (.pop, 1) := dk_87 (dk_at dksJ3_get_0 8 rfl rfl)
theorem dJ3_get_9 : decode cJ3_get 9 = .ok (.aload_n 0, 1) := dk_42 (dk_at dksJ3_get_0 9 rfl rfl)
theorem dJ3_get_10 : decode cJ3_get 10 = .ok (.iload_n 1, 1) := dk_27 (dk_at dksJ3_get_0 10 rfl rfl)
theorem dJ3_get_11 : decode cJ3_get 11 = .ok (.invokevirtual 123, 3) := dk_182 0 123 (dk_at dksJ3_get_0 11 rfl rfl)
theorem dJ3_get_14 : decode cJ3_get 14 = .ok (.areturn, 1) := dk_176 (dk_at dksJ3_get_0 14 rfl rfl)
abbrev cJ3_elementData : ByteArray := prog_57_method_18_code
def yJ3_elementData : MethodName := ⟨RJ3, "elementData", "(I)Ljava/lang/Object;"⟩
def dkwJ3_elementData_0 : List UInt8 := [42, 180, 0, 9, 27, 50, 176]
abbrev dktJ3_elementData_0 : List UInt8 := dkwJ3_elementData_0 ++ []
theorem dksJ3_elementData_0 : cJ3_elementData.data.toList.drop 0 = dktJ3_elementData_0 := by decide +kernel
theorem dJ3_elementData_0 : decode cJ3_elementData 0 = .ok (.aload_n 0, 1) := dk_42 (dk_at dksJ3_elementData_0 0 rfl rfl)
theorem dJ3_elementData_1 : decode cJ3_elementData 1 = .ok (.getfield 9, 3) := dk_180 0 9 (dk_at dksJ3_elementData_0 1 rfl rfl)
theorem dJ3_elementData_4 : decode cJ3_elementData 4 = .ok (.iload_n 1, 1) := dk_27 (dk_at dksJ3_elementData_0 4 rfl rfl)
theorem dJ3_elementData_5 : decode cJ3_elementData 5 = .ok (.aaload, 1) := dk_50 (dk_at dksJ3_elementData_0 5 rfl rfl)
theorem dJ3_elementData_6 : decode cJ3_elementData 6 = .ok (.areturn, 1) := dk_176 (dk_at dksJ3_elementData_0 6 rfl rfl)
abbrev cJ3_add_3 : ByteArray := prog_57_method_26_code
def yJ3_add_3 : MethodName := ⟨RJ3, "add", "(ILjava/lang/Object;)V"⟩
def dkwJ3_add_3_2 : List UInt8 := [29, 27, 100, 184, 0, 112, 25, 4, 27, 44, 83, 42, 29, 4, 96, 181, 0, 48, 177]
abbrev dktJ3_add_3_2 : List UInt8 := dkwJ3_add_3_2 ++ []
def dkwJ3_add_3_1 : List UInt8 := [180, 0, 9, 89, 58, 4, 190, 160, 0, 9, 42, 182, 0, 129, 58, 4, 25, 4, 27, 25, 4, 27, 4, 96]
abbrev dktJ3_add_3_1 : List UInt8 := dkwJ3_add_3_1 ++ dktJ3_add_3_2
def dkwJ3_add_3_0 : List UInt8 := [42, 27, 182, 0, 135, 42, 89, 180, 0, 63, 4, 96, 181, 0, 63, 42, 180, 0, 48, 89, 62, 42]
abbrev dktJ3_add_3_0 : List UInt8 := dkwJ3_add_3_0 ++ dktJ3_add_3_1
theorem dksJ3_add_3_0 : cJ3_add_3.data.toList.drop 0 = dktJ3_add_3_0 := by decide +kernel
theorem dksJ3_add_3_1 : cJ3_add_3.data.toList.drop 22 = dktJ3_add_3_1 := dk_seg dksJ3_add_3_0 22 rfl rfl
theorem dksJ3_add_3_2 : cJ3_add_3.data.toList.drop 46 = dktJ3_add_3_2 := dk_seg dksJ3_add_3_1 24 rfl rfl
theorem dJ3_add_3_0 : decode cJ3_add_3 0 = .ok (.aload_n 0, 1) := dk_42 (dk_at dksJ3_add_3_0 0 rfl rfl)
theorem dJ3_add_3_1 : decode cJ3_add_3 1 = .ok (.iload_n 1, 1) := dk_27 (dk_at dksJ3_add_3_0 1 rfl rfl)
theorem dJ3_add_3_2 : decode cJ3_add_3 2 = .ok (.invokevirtual 135, 3) := dk_182 0 135 (dk_at dksJ3_add_3_0 2 rfl rfl)
theorem dJ3_add_3_5 : decode cJ3_add_3 5 = .ok (.aload_n 0, 1) := dk_42 (dk_at dksJ3_add_3_0 5 rfl rfl)
theorem dJ3_add_3_6 : decode cJ3_add_3 6 = .ok (.dup, 1) := dk_89 (dk_at dksJ3_add_3_0 6 rfl rfl)
theorem dJ3_add_3_7 : decode cJ3_add_3 7 = .ok (.getfield 63, 3) := dk_180 0 63 (dk_at dksJ3_add_3_0 7 rfl rfl)
theorem dJ3_add_3_10 : decode cJ3_add_3 10 = .ok (.iconst 1, 1) := dk_4 (dk_at dksJ3_add_3_0 10 rfl rfl)
theorem dJ3_add_3_11 : decode cJ3_add_3 11 = .ok (.iadd, 1) := dk_96 (dk_at dksJ3_add_3_0 11 rfl rfl)
theorem dJ3_add_3_12 : decode cJ3_add_3 12 = .ok (.putfield 63, 3) := dk_181 0 63 (dk_at dksJ3_add_3_0 12 rfl rfl)
theorem dJ3_add_3_15 : decode cJ3_add_3 15 = .ok (.aload_n 0, 1) := dk_42 (dk_at dksJ3_add_3_0 15 rfl rfl)
theorem dJ3_add_3_16 : decode cJ3_add_3 16 = .ok (.getfield 48, 3) := dk_180 0 48 (dk_at dksJ3_add_3_0 16 rfl rfl)
theorem dJ3_add_3_19 : decode cJ3_add_3 19 = .ok (.dup, 1) := dk_89 (dk_at dksJ3_add_3_0 19 rfl rfl)
theorem dJ3_add_3_20 : decode cJ3_add_3 20 = .ok (.istore_n 3, 1) := dk_62 (dk_at dksJ3_add_3_0 20 rfl rfl)
theorem dJ3_add_3_21 : decode cJ3_add_3 21 = .ok (.aload_n 0, 1) := dk_42 (dk_at dksJ3_add_3_0 21 rfl rfl)
theorem dJ3_add_3_22 : decode cJ3_add_3 22 = .ok (.getfield 9, 3) := dk_180 0 9 (dk_at dksJ3_add_3_1 0 rfl rfl)
theorem dJ3_add_3_25 : decode cJ3_add_3 25 = .ok (.dup, 1) := dk_89 (dk_at dksJ3_add_3_1 3 rfl rfl)
theorem dJ3_add_3_26 : decode cJ3_add_3 26 = .ok (.astore 4, 2) := dk_58 4 (dk_at dksJ3_add_3_1 4 rfl rfl)
theorem dJ3_add_3_28 : decode cJ3_add_3 28 = .ok (.arraylength, 1) := dk_190 (dk_at dksJ3_add_3_1 6 rfl rfl)
theorem dJ3_add_3_29 : decode cJ3_add_3 29 = .ok (.if_icmp .ne 9, 3) := dk_160 0 9 (dk_at dksJ3_add_3_1 7 rfl rfl)
theorem dJ3_add_3_32 : decode cJ3_add_3 32 = .ok (.aload_n 0, 1) := dk_42 (dk_at dksJ3_add_3_1 10 rfl rfl)
theorem dJ3_add_3_33 : decode cJ3_add_3 33 = .ok (.invokevirtual 129, 3) := dk_182 0 129 (dk_at dksJ3_add_3_1 11 rfl rfl)
theorem dJ3_add_3_36 : decode cJ3_add_3 36 = .ok (.astore 4, 2) := dk_58 4 (dk_at dksJ3_add_3_1 14 rfl rfl)
theorem dJ3_add_3_38 : decode cJ3_add_3 38 = .ok (.aload 4, 2) := dk_25 4 (dk_at dksJ3_add_3_1 16 rfl rfl)
theorem dJ3_add_3_40 : decode cJ3_add_3 40 = .ok (.iload_n 1, 1) := dk_27 (dk_at dksJ3_add_3_1 18 rfl rfl)
theorem dJ3_add_3_41 : decode cJ3_add_3 41 = .ok (.aload 4, 2) := dk_25 4 (dk_at dksJ3_add_3_1 19 rfl rfl)
theorem dJ3_add_3_43 : decode cJ3_add_3 43 = .ok (.iload_n 1, 1) := dk_27 (dk_at dksJ3_add_3_1 21 rfl rfl)
theorem dJ3_add_3_44 : decode cJ3_add_3 44 = .ok (.iconst 1, 1) := dk_4 (dk_at dksJ3_add_3_1 22 rfl rfl)
theorem dJ3_add_3_45 : decode cJ3_add_3 45 = .ok (.iadd, 1) := dk_96 (dk_at dksJ3_add_3_1 23 rfl rfl)
theorem dJ3_add_3_46 : decode cJ3_add_3 46 = .ok (.iload_n 3, 1) := dk_29 (dk_at dksJ3_add_3_2 0 rfl rfl)
theorem dJ3_add_3_47 : decode cJ3_add_3 47 = .ok (.iload_n 1, 1) := dk_27 (dk_at dksJ3_add_3_2 1 rfl rfl)
theorem dJ3_add_3_48 : decode cJ3_add_3 48 = .ok (.isub, 1) := dk_100 (dk_at dksJ3_add_3_2 2 rfl rfl)
theorem dJ3_add_3_49 : decode cJ3_add_3 49 = .ok (.invokestatic 112, 3) := dk_184 0 112 (dk_at dksJ3_add_3_2 3 rfl rfl)
theorem dJ3_add_3_52 : decode cJ3_add_3 52 = .ok (.aload 4, 2) := dk_25 4 (dk_at dksJ3_add_3_2 6 rfl rfl)
theorem dJ3_add_3_54 : decode cJ3_add_3 54 = .ok (.iload_n 1, 1) := dk_27 (dk_at dksJ3_add_3_2 8 rfl rfl)
theorem dJ3_add_3_55 : decode cJ3_add_3 55 = .ok (.aload_n 2, 1) := dk_44 (dk_at dksJ3_add_3_2 9 rfl rfl)
theorem dJ3_add_3_56 : decode cJ3_add_3 56 = .ok (.aastore, 1) := dk_83 (dk_at dksJ3_add_3_2 10 rfl rfl)
theorem dJ3_add_3_57 : decode cJ3_add_3 57 = .ok (.aload_n 0, 1) := dk_42 (dk_at dksJ3_add_3_2 11 rfl rfl)
theorem dJ3_add_3_58 : decode cJ3_add_3 58 = .ok (.iload_n 3, 1) := dk_29 (dk_at dksJ3_add_3_2 12 rfl rfl)
theorem dJ3_add_3_59 : decode cJ3_add_3 59 = .ok (.iconst 1, 1) := dk_4 (dk_at dksJ3_add_3_2 13 rfl rfl)
theorem dJ3_add_3_60 : decode cJ3_add_3 60 = .ok (.iadd, 1) := dk_96 (dk_at dksJ3_add_3_2 14 rfl rfl)
theorem dJ3_add_3_61 : decode cJ3_add_3 61 = .ok (.putfield 48, 3) := dk_181 0 48 (dk_at dksJ3_add_3_2 15 rfl rfl)
theorem dJ3_add_3_64 : decode cJ3_add_3 64 = .ok (.return_, 1) := dk_177 (dk_at dksJ3_add_3_2 18 rfl rfl)
abbrev cJ3_rangeCheckForAdd : ByteArray := prog_57_method_45_code
def yJ3_rangeCheckForAdd : MethodName := ⟨RJ3, "rangeCheckForAdd", "(I)V"⟩
def dkwJ3_rangeCheckForAdd_1 : List UInt8 := [191, 177]
abbrev dktJ3_rangeCheckForAdd_1 : List UInt8 := dkwJ3_rangeCheckForAdd_1 ++ []
def dkwJ3_rangeCheckForAdd_0 : List UInt8 := [27, 42, 180, 0, 48, 163, 0, 7, 27, 156, 0, 16, 187, 0, 187, 89, 42, 27, 182, 0, 198, 183, 0, 193]
abbrev dktJ3_rangeCheckForAdd_0 : List UInt8 := dkwJ3_rangeCheckForAdd_0 ++ dktJ3_rangeCheckForAdd_1
theorem dksJ3_rangeCheckForAdd_0 : cJ3_rangeCheckForAdd.data.toList.drop 0 = dktJ3_rangeCheckForAdd_0 := by decide +kernel
theorem dksJ3_rangeCheckForAdd_1 : cJ3_rangeCheckForAdd.data.toList.drop 24 = dktJ3_rangeCheckForAdd_1 := dk_seg dksJ3_rangeCheckForAdd_0 24 rfl rfl
theorem dJ3_rangeCheckForAdd_0 : decode cJ3_rangeCheckForAdd 0 = .ok (.iload_n 1, 1) := dk_27 (dk_at dksJ3_rangeCheckForAdd_0 0 rfl rfl)
theorem dJ3_rangeCheckForAdd_1 : decode cJ3_rangeCheckForAdd 1 = .ok (.aload_n 0, 1) := dk_42 (dk_at dksJ3_rangeCheckForAdd_0 1 rfl rfl)
theorem dJ3_rangeCheckForAdd_2 : decode cJ3_rangeCheckForAdd 2 = .ok (.getfield 48, 3) := dk_180 0 48 (dk_at dksJ3_rangeCheckForAdd_0 2 rfl rfl)
theorem dJ3_rangeCheckForAdd_5 : decode cJ3_rangeCheckForAdd 5 = .ok (.if_icmp .gt 7, 3) := dk_163 0 7 (dk_at dksJ3_rangeCheckForAdd_0 5 rfl rfl)
theorem dJ3_rangeCheckForAdd_8 : decode cJ3_rangeCheckForAdd 8 = .ok (.iload_n 1, 1) := dk_27 (dk_at dksJ3_rangeCheckForAdd_0 8 rfl rfl)
theorem dJ3_rangeCheckForAdd_9 : decode cJ3_rangeCheckForAdd 9 = .ok (.ifCond .ge 16, 3) := dk_156 0 16 (dk_at dksJ3_rangeCheckForAdd_0 9 rfl rfl)
theorem dJ3_rangeCheckForAdd_12 : decode cJ3_rangeCheckForAdd 12 = .ok (.new 187, 3) := dk_187 0 187 (dk_at dksJ3_rangeCheckForAdd_0 12 rfl rfl)
theorem dJ3_rangeCheckForAdd_15 : decode cJ3_rangeCheckForAdd 15 = .ok (.dup, 1) := dk_89 (dk_at dksJ3_rangeCheckForAdd_0 15 rfl rfl)
theorem dJ3_rangeCheckForAdd_16 : decode cJ3_rangeCheckForAdd 16 = .ok (.aload_n 0, 1) := dk_42 (dk_at dksJ3_rangeCheckForAdd_0 16 rfl rfl)
theorem dJ3_rangeCheckForAdd_17 : decode cJ3_rangeCheckForAdd 17 = .ok (.iload_n 1, 1) := dk_27 (dk_at dksJ3_rangeCheckForAdd_0 17 rfl rfl)
theorem dJ3_rangeCheckForAdd_18 : decode cJ3_rangeCheckForAdd 18 = .ok (.invokevirtual 198, 3) := dk_182 0 198 (dk_at dksJ3_rangeCheckForAdd_0 18 rfl rfl)
theorem dJ3_rangeCheckForAdd_21 : decode cJ3_rangeCheckForAdd 21 = .ok (.invokespecial 193, 3) := dk_183 0 193 (dk_at dksJ3_rangeCheckForAdd_0 21 rfl rfl)
theorem dJ3_rangeCheckForAdd_24 : decode cJ3_rangeCheckForAdd 24 = .ok (.athrow, 1) := dk_191 (dk_at dksJ3_rangeCheckForAdd_1 0 rfl rfl)
theorem dJ3_rangeCheckForAdd_25 : decode cJ3_rangeCheckForAdd 25 = .ok (.return_, 1) := dk_177 (dk_at dksJ3_rangeCheckForAdd_1 1 rfl rfl)
abbrev cJ3_remove : ByteArray := prog_57_method_29_code
def yJ3_remove : MethodName := ⟨RJ3, "remove", "(I)Ljava/lang/Object;"⟩
def dkwJ3_remove_1 : List UInt8 := [45, 176]
abbrev dktJ3_remove_1 : List UInt8 := dkwJ3_remove_1 ++ []
def dkwJ3_remove_0 : List UInt8 := [27, 42, 180, 0, 48, 184, 0, 118, 87, 42, 180, 0, 9, 77, 44, 27, 50, 78, 42, 44, 27, 182, 0, 144]
abbrev dktJ3_remove_0 : List UInt8 := dkwJ3_remove_0 ++ dktJ3_remove_1
theorem dksJ3_remove_0 : cJ3_remove.data.toList.drop 0 = dktJ3_remove_0 := by decide +kernel
theorem dksJ3_remove_1 : cJ3_remove.data.toList.drop 24 = dktJ3_remove_1 := dk_seg dksJ3_remove_0 24 rfl rfl
theorem dJ3_remove_0 : decode cJ3_remove 0 = .ok (.iload_n 1, 1) := dk_27 (dk_at dksJ3_remove_0 0 rfl rfl)
theorem dJ3_remove_1 : decode cJ3_remove 1 = .ok (.aload_n 0, 1) := dk_42 (dk_at dksJ3_remove_0 1 rfl rfl)
theorem dJ3_remove_2 : decode cJ3_remove 2 = .ok (.getfield 48, 3) := dk_180 0 48 (dk_at dksJ3_remove_0 2 rfl rfl)
theorem dJ3_remove_5 : decode cJ3_remove 5 = .ok (.invokestatic 118, 3) := dk_184 0 118 (dk_at dksJ3_remove_0 5 rfl rfl)
theorem dJ3_remove_8 : decode cJ3_remove 8 = .ok (.pop, 1) := dk_87 (dk_at dksJ3_remove_0 8 rfl rfl)
theorem dJ3_remove_9 : decode cJ3_remove 9 = .ok (.aload_n 0, 1) := dk_42 (dk_at dksJ3_remove_0 9 rfl rfl)
theorem dJ3_remove_10 : decode cJ3_remove 10 = .ok (.getfield 9, 3) := dk_180 0 9 (dk_at dksJ3_remove_0 10 rfl rfl)
theorem dJ3_remove_13 : decode cJ3_remove 13 = .ok (.astore_n 2, 1) := dk_77 (dk_at dksJ3_remove_0 13 rfl rfl)
theorem dJ3_remove_14 : decode cJ3_remove 14 = .ok (.aload_n 2, 1) := dk_44 (dk_at dksJ3_remove_0 14 rfl rfl)
theorem dJ3_remove_15 : decode cJ3_remove 15 = .ok (.iload_n 1, 1) := dk_27 (dk_at dksJ3_remove_0 15 rfl rfl)
theorem dJ3_remove_16 : decode cJ3_remove 16 = .ok (.aaload, 1) := dk_50 (dk_at dksJ3_remove_0 16 rfl rfl)
theorem dJ3_remove_17 : decode cJ3_remove 17 = .ok (.astore_n 3, 1) := dk_78 (dk_at dksJ3_remove_0 17 rfl rfl)
theorem dJ3_remove_18 : decode cJ3_remove 18 = .ok (.aload_n 0, 1) := dk_42 (dk_at dksJ3_remove_0 18 rfl rfl)
theorem dJ3_remove_19 : decode cJ3_remove 19 = .ok (.aload_n 2, 1) := dk_44 (dk_at dksJ3_remove_0 19 rfl rfl)
theorem dJ3_remove_20 : decode cJ3_remove 20 = .ok (.iload_n 1, 1) := dk_27 (dk_at dksJ3_remove_0 20 rfl rfl)
theorem dJ3_remove_21 : decode cJ3_remove 21 = .ok (.invokevirtual 144, 3) := dk_182 0 144 (dk_at dksJ3_remove_0 21 rfl rfl)
theorem dJ3_remove_24 : decode cJ3_remove 24 = .ok (.aload_n 3, 1) := dk_45 (dk_at dksJ3_remove_1 0 rfl rfl)
theorem dJ3_remove_25 : decode cJ3_remove 25 = .ok (.areturn, 1) := dk_176 (dk_at dksJ3_remove_1 1 rfl rfl)
abbrev cJ3_fastRemove : ByteArray := prog_57_method_39_code
def yJ3_fastRemove : MethodName := ⟨RJ3, "fastRemove", "([Ljava/lang/Object;I)V"⟩
def dkwJ3_fastRemove_1 : List UInt8 := [4, 96, 43, 28, 29, 28, 100, 184, 0, 112, 43, 42, 29, 90, 181, 0, 48, 1, 83, 177]
abbrev dktJ3_fastRemove_1 : List UInt8 := dkwJ3_fastRemove_1 ++ []
def dkwJ3_fastRemove_0 : List UInt8 := [42, 89, 180, 0, 63, 4, 96, 181, 0, 63, 42, 180, 0, 48, 4, 100, 89, 62, 28, 164, 0, 15, 43, 28]
abbrev dktJ3_fastRemove_0 : List UInt8 := dkwJ3_fastRemove_0 ++ dktJ3_fastRemove_1
theorem dksJ3_fastRemove_0 : cJ3_fastRemove.data.toList.drop 0 = dktJ3_fastRemove_0 := by decide +kernel
theorem dksJ3_fastRemove_1 : cJ3_fastRemove.data.toList.drop 24 = dktJ3_fastRemove_1 := dk_seg dksJ3_fastRemove_0 24 rfl rfl
theorem dJ3_fastRemove_0 : decode cJ3_fastRemove 0 = .ok (.aload_n 0, 1) := dk_42 (dk_at dksJ3_fastRemove_0 0 rfl rfl)
theorem dJ3_fastRemove_1 : decode cJ3_fastRemove 1 = .ok (.dup, 1) := dk_89 (dk_at dksJ3_fastRemove_0 1 rfl rfl)
theorem dJ3_fastRemove_2 : decode cJ3_fastRemove 2 = .ok (.getfield 63, 3) := dk_180 0 63 (dk_at dksJ3_fastRemove_0 2 rfl rfl)
theorem dJ3_fastRemove_5 : decode cJ3_fastRemove 5 = .ok (.iconst 1, 1) := dk_4 (dk_at dksJ3_fastRemove_0 5 rfl rfl)
theorem dJ3_fastRemove_6 : decode cJ3_fastRemove 6 = .ok (.iadd, 1) := dk_96 (dk_at dksJ3_fastRemove_0 6 rfl rfl)
theorem dJ3_fastRemove_7 : decode cJ3_fastRemove 7 = .ok (.putfield 63, 3) := dk_181 0 63 (dk_at dksJ3_fastRemove_0 7 rfl rfl)
theorem dJ3_fastRemove_10 : decode cJ3_fastRemove 10 = .ok (.aload_n 0, 1) := dk_42 (dk_at dksJ3_fastRemove_0 10 rfl rfl)
theorem dJ3_fastRemove_11 : decode cJ3_fastRemove 11 = .ok (.getfield 48, 3) := dk_180 0 48 (dk_at dksJ3_fastRemove_0 11 rfl rfl)
theorem dJ3_fastRemove_14 : decode cJ3_fastRemove 14 = .ok (.iconst 1, 1) := dk_4 (dk_at dksJ3_fastRemove_0 14 rfl rfl)
theorem dJ3_fastRemove_15 : decode cJ3_fastRemove 15 = .ok (.isub, 1) := dk_100 (dk_at dksJ3_fastRemove_0 15 rfl rfl)
theorem dJ3_fastRemove_16 : decode cJ3_fastRemove 16 = .ok (.dup, 1) := dk_89 (dk_at dksJ3_fastRemove_0 16 rfl rfl)
theorem dJ3_fastRemove_17 : decode cJ3_fastRemove 17 = .ok (.istore_n 3, 1) := dk_62 (dk_at dksJ3_fastRemove_0 17 rfl rfl)
theorem dJ3_fastRemove_18 : decode cJ3_fastRemove 18 = .ok (.iload_n 2, 1) := dk_28 (dk_at dksJ3_fastRemove_0 18 rfl rfl)
theorem dJ3_fastRemove_19 : decode cJ3_fastRemove 19 = .ok (.if_icmp .le 15, 3) := dk_164 0 15 (dk_at dksJ3_fastRemove_0 19 rfl rfl)
theorem dJ3_fastRemove_22 : decode cJ3_fastRemove 22 = .ok (.aload_n 1, 1) := dk_43 (dk_at dksJ3_fastRemove_0 22 rfl rfl)
theorem dJ3_fastRemove_23 : decode cJ3_fastRemove 23 = .ok (.iload_n 2, 1) := dk_28 (dk_at dksJ3_fastRemove_0 23 rfl rfl)
theorem dJ3_fastRemove_24 : decode cJ3_fastRemove 24 = .ok (.iconst 1, 1) := dk_4 (dk_at dksJ3_fastRemove_1 0 rfl rfl)
theorem dJ3_fastRemove_25 : decode cJ3_fastRemove 25 = .ok (.iadd, 1) := dk_96 (dk_at dksJ3_fastRemove_1 1 rfl rfl)
theorem dJ3_fastRemove_26 : decode cJ3_fastRemove 26 = .ok (.aload_n 1, 1) := dk_43 (dk_at dksJ3_fastRemove_1 2 rfl rfl)
theorem dJ3_fastRemove_27 : decode cJ3_fastRemove 27 = .ok (.iload_n 2, 1) := dk_28 (dk_at dksJ3_fastRemove_1 3 rfl rfl)
theorem dJ3_fastRemove_28 : decode cJ3_fastRemove 28 = .ok (.iload_n 3, 1) := dk_29 (dk_at dksJ3_fastRemove_1 4 rfl rfl)
theorem dJ3_fastRemove_29 : decode cJ3_fastRemove 29 = .ok (.iload_n 2, 1) := dk_28 (dk_at dksJ3_fastRemove_1 5 rfl rfl)
theorem dJ3_fastRemove_30 : decode cJ3_fastRemove 30 = .ok (.isub, 1) := dk_100 (dk_at dksJ3_fastRemove_1 6 rfl rfl)
theorem dJ3_fastRemove_31 : decode cJ3_fastRemove 31 = .ok (.invokestatic 112, 3) := dk_184 0 112 (dk_at dksJ3_fastRemove_1 7 rfl rfl)
theorem dJ3_fastRemove_34 : decode cJ3_fastRemove 34 = .ok (.aload_n 1, 1) := dk_43 (dk_at dksJ3_fastRemove_1 10 rfl rfl)
theorem dJ3_fastRemove_35 : decode cJ3_fastRemove 35 = .ok (.aload_n 0, 1) := dk_42 (dk_at dksJ3_fastRemove_1 11 rfl rfl)
theorem dJ3_fastRemove_36 : decode cJ3_fastRemove 36 = .ok (.iload_n 3, 1) := dk_29 (dk_at dksJ3_fastRemove_1 12 rfl rfl)
theorem dJ3_fastRemove_37 : decode cJ3_fastRemove 37 = .ok (.dup_x1, 1) := dk_90 (dk_at dksJ3_fastRemove_1 13 rfl rfl)
theorem dJ3_fastRemove_38 : decode cJ3_fastRemove 38 = .ok (.putfield 48, 3) := dk_181 0 48 (dk_at dksJ3_fastRemove_1 14 rfl rfl)
theorem dJ3_fastRemove_41 : decode cJ3_fastRemove 41 = .ok (.aconst_null, 1) := dk_1 (dk_at dksJ3_fastRemove_1 17 rfl rfl)
theorem dJ3_fastRemove_42 : decode cJ3_fastRemove 42 = .ok (.aastore, 1) := dk_83 (dk_at dksJ3_fastRemove_1 18 rfl rfl)
theorem dJ3_fastRemove_43 : decode cJ3_fastRemove 43 = .ok (.return_, 1) := dk_177 (dk_at dksJ3_fastRemove_1 19 rfl rfl)
theorem q125 : (Jvm.Cond.initialized "java/util/ArrayList") ∈ lw_all := lw_g (lw_at lw_m1 6 rfl) rfl
theorem q211 : (Jvm.Cond.instantiable "java/util/ArrayList" (3 : Nat)) ∈ lw_all := lw_g (lw_at lw_m1 92 rfl) rfl
theorem q213 : (Jvm.Cond.instanceMethod ({ cls := "java/util/ArrayList", name := "<init>", desc := "(I)V" } : Jvm.MethodName)) ∈ lw_all := lw_g (lw_at lw_m1 94 rfl) rfl
theorem q214 : (Jvm.Cond.code ({ cls := "java/util/ArrayList", name := "<init>", desc := "(I)V" } : Jvm.MethodName) prog_57_method_1_code (2 : Nat) (Option.none : Option Jvm.ClassFile.FieldType)) ∈ lw_all := lw_g (lw_at lw_m1 95 rfl) rfl
theorem q215 : (Jvm.Cond.methodLink "java/util/ArrayList" (1 : Nat) ({ cls := "java/util/AbstractList", name := "<init>", desc := "()V" } : Jvm.MethodName)) ∈ lw_all := lw_g (lw_at lw_m1 96 rfl) rfl
theorem q219 : (Jvm.Cond.classLink "java/util/ArrayList" (7 : Nat) "java/lang/Object") ∈ lw_all := lw_g (lw_at lw_m1 100 rfl) rfl
theorem q220 : (Jvm.Cond.fieldLink "java/util/ArrayList" (15 : Nat) "java/util/ArrayList" "EMPTY_ELEMENTDATA" "[Ljava/lang/Object;") ∈ lw_all := lw_g (lw_at lw_m1 101 rfl) rfl
theorem q221 : (Jvm.Cond.laysStatic "java/util/ArrayList" "EMPTY_ELEMENTDATA" "[Ljava/lang/Object;") ∈ lw_tbl := lw_at lw_m1 102 rfl
theorem q222 : (Jvm.Cond.classLink "java/util/ArrayList" (18 : Nat) "java/lang/IllegalArgumentException") ∈ lw_all := lw_g (lw_at lw_m1 103 rfl) rfl
theorem q263 : (Jvm.Cond.classLink "java/util/ArrayList" (20 : Nat) "java/lang/StringBuilder") ∈ lw_all := lw_g (lw_at lw_m1 144 rfl) rfl
theorem q265 : (Jvm.Cond.methodLink "java/util/ArrayList" (22 : Nat) ({ cls := "java/lang/StringBuilder", name := "<init>", desc := "()V" } : Jvm.MethodName)) ∈ lw_all := lw_g (lw_at lw_m1 146 rfl) rfl
theorem q294 : (Jvm.Cond.stringRef "java/util/ArrayList" (23 : Nat) "Illegal Capacity: ") ∈ lw_tbl := lw_at lw_m1 175 rfl
theorem q295 : (Jvm.Cond.methodLink "java/util/ArrayList" (25 : Nat) ({ cls := "java/lang/StringBuilder", name := "append", desc := "(Ljava/lang/String;)Ljava/lang/StringBuilder;" } : Jvm.MethodName)) ∈ lw_all := lw_g (lw_at lw_m1 176 rfl) rfl
theorem q415 : (Jvm.Cond.methodLink "java/util/ArrayList" (29 : Nat) ({ cls := "java/lang/StringBuilder", name := "append", desc := "(I)Ljava/lang/StringBuilder;" } : Jvm.MethodName)) ∈ lw_all := lw_g (lw_at lw_m2 56 rfl) rfl
theorem q440 : (Jvm.Cond.methodLink "java/util/ArrayList" (32 : Nat) ({ cls := "java/lang/StringBuilder", name := "toString", desc := "()Ljava/lang/String;" } : Jvm.MethodName)) ∈ lw_all := lw_g (lw_at lw_m2 81 rfl) rfl
theorem q534 : (Jvm.Cond.methodLink "java/util/ArrayList" (36 : Nat) ({ cls := "java/lang/IllegalArgumentException", name := "<init>", desc := "(Ljava/lang/String;)V" } : Jvm.MethodName)) ∈ lw_all := lw_g (lw_at lw_m2 175 rfl) rfl
theorem q535 : (Jvm.Cond.fieldLink "java/util/ArrayList" (9 : Nat) "java/util/ArrayList" "elementData" "[Ljava/lang/Object;") ∈ lw_all := lw_g (lw_at lw_m2 176 rfl) rfl
theorem q538 : (Jvm.Cond.fieldLink "java/util/ArrayList" (48 : Nat) "java/util/ArrayList" "size" "I") ∈ lw_all := lw_g (lw_at lw_m2 179 rfl) rfl
theorem q541 : (Jvm.Cond.sameField "java/util/ArrayList" "java/util/AbstractList" "modCount" "I") ∈ lw_all := lw_g (lw_at lw_m2 182 rfl) rfl
theorem q542 : (Jvm.Cond.fieldLink "java/util/ArrayList" (63 : Nat) "java/util/ArrayList" "modCount" "I") ∈ lw_all := lw_g (lw_at lw_m2 183 rfl) rfl
theorem q543 : (Jvm.Cond.lays "java/util/ArrayList" "java/util/ArrayList" "elementData" "[Ljava/lang/Object;") ∈ lw_all := lw_g (lw_at lw_m2 184 rfl) rfl
theorem q544 : (Jvm.Cond.soleField "java/util/ArrayList" "elementData") ∈ lw_all := lw_g (lw_at lw_m2 185 rfl) rfl
theorem q545 : (Jvm.Cond.lays "java/util/ArrayList" "java/util/ArrayList" "size" "I") ∈ lw_all := lw_g (lw_at lw_m2 186 rfl) rfl
theorem q546 : (Jvm.Cond.soleField "java/util/ArrayList" "size") ∈ lw_all := lw_g (lw_at lw_m2 187 rfl) rfl
theorem q547 : (Jvm.Cond.lays "java/util/ArrayList" "java/util/AbstractList" "modCount" "I") ∈ lw_all := lw_g (lw_at lw_m2 188 rfl) rfl
theorem q549 : (Jvm.Cond.superclass "java/util/ArrayList" "java/util/AbstractList") ∈ lw_all := lw_g (lw_at lw_m2 190 rfl) rfl
theorem q664 : (Jvm.Cond.castable "java/util/ArrayList" "java/util/List") ∈ lw_tbl := lw_at lw_m3 65 rfl
theorem q665 : (Jvm.Cond.selects "java/util/ArrayList" ({ cls := "java/util/List", name := "add", desc := "(Ljava/lang/Object;)Z" } : Jvm.MethodName) ({ cls := "java/util/ArrayList", name := "add", desc := "(Ljava/lang/Object;)Z" } : Jvm.MethodName)) ∈ lw_all := lw_g (lw_at lw_m3 66 rfl) rfl
theorem q666 : (Jvm.Cond.unhidden "java/util/ArrayList" "add" "(Ljava/lang/Object;)Z") ∈ lw_tbl := lw_at lw_m3 67 rfl
theorem q667 : (Jvm.Cond.instanceMethod ({ cls := "java/util/ArrayList", name := "add", desc := "(Ljava/lang/Object;)Z" } : Jvm.MethodName)) ∈ lw_all := lw_g (lw_at lw_m3 68 rfl) rfl
theorem q668 : (Jvm.Cond.publicMethod ({ cls := "java/util/ArrayList", name := "add", desc := "(Ljava/lang/Object;)Z" } : Jvm.MethodName)) ∈ lw_tbl := lw_at lw_m3 69 rfl
theorem q669 : (Jvm.Cond.code ({ cls := "java/util/ArrayList", name := "add", desc := "(Ljava/lang/Object;)Z" } : Jvm.MethodName) prog_57_method_25_code (2 : Nat) (Option.some Jvm.ClassFile.FieldType.boolean)) ∈ lw_all := lw_g (lw_at lw_m3 70 rfl) rfl
theorem q670 : (Jvm.Cond.methodLink "java/util/ArrayList" (131 : Nat) ({ cls := "java/util/ArrayList", name := "add", desc := "(Ljava/lang/Object;[Ljava/lang/Object;I)V" } : Jvm.MethodName)) ∈ lw_all := lw_g (lw_at lw_m3 71 rfl) rfl
theorem q671 : (Jvm.Cond.privateMethod ({ cls := "java/util/ArrayList", name := "add", desc := "(Ljava/lang/Object;[Ljava/lang/Object;I)V" } : Jvm.MethodName)) ∈ lw_tbl := lw_at lw_m3 72 rfl
theorem q672 : (Jvm.Cond.instanceMethod ({ cls := "java/util/ArrayList", name := "add", desc := "(Ljava/lang/Object;[Ljava/lang/Object;I)V" } : Jvm.MethodName)) ∈ lw_all := lw_g (lw_at lw_m3 73 rfl) rfl
theorem q673 : (Jvm.Cond.code ({ cls := "java/util/ArrayList", name := "add", desc := "(Ljava/lang/Object;[Ljava/lang/Object;I)V" } : Jvm.MethodName) prog_57_method_24_code (4 : Nat) (Option.none : Option Jvm.ClassFile.FieldType)) ∈ lw_all := lw_g (lw_at lw_m3 74 rfl) rfl
theorem q674 : (Jvm.Cond.methodLink "java/util/ArrayList" (129 : Nat) ({ cls := "java/util/ArrayList", name := "grow", desc := "()[Ljava/lang/Object;" } : Jvm.MethodName)) ∈ lw_all := lw_g (lw_at lw_m3 75 rfl) rfl
theorem q675 : (Jvm.Cond.privateMethod ({ cls := "java/util/ArrayList", name := "grow", desc := "()[Ljava/lang/Object;" } : Jvm.MethodName)) ∈ lw_tbl := lw_at lw_m3 76 rfl
theorem q676 : (Jvm.Cond.instanceMethod ({ cls := "java/util/ArrayList", name := "grow", desc := "()[Ljava/lang/Object;" } : Jvm.MethodName)) ∈ lw_all := lw_g (lw_at lw_m3 77 rfl) rfl
theorem q677 : (Jvm.Cond.code ({ cls := "java/util/ArrayList", name := "grow", desc := "()[Ljava/lang/Object;" } : Jvm.MethodName) prog_57_method_7_code (1 : Nat) (Option.some (Jvm.ClassFile.FieldType.array (Jvm.ClassFile.FieldType.object "java/lang/Object")))) ∈ lw_all := lw_g (lw_at lw_m3 78 rfl) rfl
theorem q678 : (Jvm.Cond.methodLink "java/util/ArrayList" (69 : Nat) ({ cls := "java/util/ArrayList", name := "grow", desc := "(I)[Ljava/lang/Object;" } : Jvm.MethodName)) ∈ lw_all := lw_g (lw_at lw_m3 79 rfl) rfl
theorem q679 : (Jvm.Cond.privateMethod ({ cls := "java/util/ArrayList", name := "grow", desc := "(I)[Ljava/lang/Object;" } : Jvm.MethodName)) ∈ lw_tbl := lw_at lw_m3 80 rfl
theorem q680 : (Jvm.Cond.instanceMethod ({ cls := "java/util/ArrayList", name := "grow", desc := "(I)[Ljava/lang/Object;" } : Jvm.MethodName)) ∈ lw_all := lw_g (lw_at lw_m3 81 rfl) rfl
theorem q681 : (Jvm.Cond.code ({ cls := "java/util/ArrayList", name := "grow", desc := "(I)[Ljava/lang/Object;" } : Jvm.MethodName) prog_57_method_6_code (4 : Nat) (Option.some (Jvm.ClassFile.FieldType.array (Jvm.ClassFile.FieldType.object "java/lang/Object")))) ∈ lw_all := lw_g (lw_at lw_m3 82 rfl) rfl
theorem q682 : (Jvm.Cond.fieldLink "java/util/ArrayList" (39 : Nat) "java/util/ArrayList" "DEFAULTCAPACITY_EMPTY_ELEMENTDATA" "[Ljava/lang/Object;") ∈ lw_all := lw_g (lw_at lw_m3 83 rfl) rfl
theorem q683 : (Jvm.Cond.laysStatic "java/util/ArrayList" "DEFAULTCAPACITY_EMPTY_ELEMENTDATA" "[Ljava/lang/Object;") ∈ lw_tbl := lw_at lw_m3 84 rfl
theorem q684 : (Jvm.Cond.methodLink "java/util/ArrayList" (73 : Nat) ({ cls := "jdk/internal/util/ArraysSupport", name := "newLength", desc := "(III)I" } : Jvm.MethodName)) ∈ lw_all := lw_g (lw_at lw_m3 85 rfl) rfl
theorem q685 : (Jvm.Cond.methodLink "java/util/ArrayList" (66 : Nat) ({ cls := "java/util/Arrays", name := "copyOf", desc := "([Ljava/lang/Object;I)[Ljava/lang/Object;" } : Jvm.MethodName)) ∈ lw_all := lw_g (lw_at lw_m3 86 rfl) rfl
theorem q720 : (Jvm.Cond.selects "java/util/ArrayList" ({ cls := "java/lang/Object", name := "getClass", desc := "()Ljava/lang/Class;" } : Jvm.MethodName) ({ cls := "java/lang/Object", name := "getClass", desc := "()Ljava/lang/Class;" } : Jvm.MethodName)) ∈ lw_all := lw_g (lw_at lw_m3 121 rfl) rfl
theorem q733 : (Jvm.Cond.methodLink "java/util/ArrayList" (79 : Nat) ({ cls := "java/lang/Math", name := "max", desc := "(II)I" } : Jvm.MethodName)) ∈ lw_all := lw_g (lw_at lw_m3 134 rfl) rfl
theorem q1267 : (Jvm.Cond.instanceMethod ({ cls := "java/util/ArrayList", name := "<init>", desc := "(Ljava/util/Collection;)V" } : Jvm.MethodName)) ∈ lw_all := lw_g (lw_at lw_m5 188 rfl) rfl
theorem q1268 : (Jvm.Cond.code ({ cls := "java/util/ArrayList", name := "<init>", desc := "(Ljava/util/Collection;)V" } : Jvm.MethodName) prog_57_method_3_code (3 : Nat) (Option.none : Option Jvm.ClassFile.FieldType)) ∈ lw_all := lw_g (lw_at lw_m5 189 rfl) rfl
theorem q1269 : (Jvm.Cond.interfaceEntry "java/util/ArrayList" (42 : Nat)) ∈ lw_tbl := lw_at lw_m5 190 rfl
theorem q1270 : (Jvm.Cond.methodLink "java/util/ArrayList" (42 : Nat) ({ cls := "java/util/Collection", name := "toArray", desc := "()[Ljava/lang/Object;" } : Jvm.MethodName)) ∈ lw_all := lw_g (lw_at lw_m5 191 rfl) rfl
theorem q1288 : (Jvm.Cond.castable "java/util/ArrayList" "java/util/Collection") ∈ lw_tbl := lw_at lw_m5 209 rfl
theorem q1289 : (Jvm.Cond.selects "java/util/ArrayList" ({ cls := "java/util/Collection", name := "toArray", desc := "()[Ljava/lang/Object;" } : Jvm.MethodName) ({ cls := "java/util/ArrayList", name := "toArray", desc := "()[Ljava/lang/Object;" } : Jvm.MethodName)) ∈ lw_all := lw_g (lw_at lw_m5 210 rfl) rfl
theorem q1290 : (Jvm.Cond.unhidden "java/util/ArrayList" "toArray" "()[Ljava/lang/Object;") ∈ lw_tbl := lw_at lw_m5 211 rfl
theorem q1291 : (Jvm.Cond.instanceMethod ({ cls := "java/util/ArrayList", name := "toArray", desc := "()[Ljava/lang/Object;" } : Jvm.MethodName)) ∈ lw_all := lw_g (lw_at lw_m5 212 rfl) rfl
theorem q1292 : (Jvm.Cond.publicMethod ({ cls := "java/util/ArrayList", name := "toArray", desc := "()[Ljava/lang/Object;" } : Jvm.MethodName)) ∈ lw_tbl := lw_at lw_m5 213 rfl
theorem q1293 : (Jvm.Cond.code ({ cls := "java/util/ArrayList", name := "toArray", desc := "()[Ljava/lang/Object;" } : Jvm.MethodName) prog_57_method_16_code (1 : Nat) (Option.some (Jvm.ClassFile.FieldType.array (Jvm.ClassFile.FieldType.object "java/lang/Object")))) ∈ lw_all := lw_g (lw_at lw_m5 214 rfl) rfl
theorem q1294 : (Jvm.Cond.interfaceEntry "java/util/ArrayList" (52 : Nat)) ∈ lw_tbl := lw_at lw_m5 215 rfl
theorem q1295 : (Jvm.Cond.methodLink "java/util/ArrayList" (52 : Nat) ({ cls := "java/util/Collection", name := "getClass", desc := "()Ljava/lang/Class;" } : Jvm.MethodName)) ∈ lw_all := lw_g (lw_at lw_m5 216 rfl) rfl
theorem q1300 : (Jvm.Cond.unhidden "java/util/ArrayList" "getClass" "()Ljava/lang/Class;") ∈ lw_tbl := lw_at lw_m5 221 rfl
theorem q1301 : (Jvm.Cond.classLink "java/util/ArrayList" (10 : Nat) "java/util/ArrayList") ∈ lw_all := lw_g (lw_at lw_m5 222 rfl) rfl
theorem q1302 : (Jvm.Cond.classLink "java/util/ArrayList" (56 : Nat) "[Ljava/lang/Object;") ∈ lw_all := lw_g (lw_at lw_m5 223 rfl) rfl
theorem q1303 : (Jvm.Cond.methodLink "java/util/ArrayList" (57 : Nat) ({ cls := "java/util/Arrays", name := "copyOf", desc := "([Ljava/lang/Object;ILjava/lang/Class;)[Ljava/lang/Object;" } : Jvm.MethodName)) ∈ lw_all := lw_g (lw_at lw_m5 224 rfl) rfl
theorem q1308 : (Jvm.Cond.selects "java/util/ArrayList" ({ cls := "java/util/List", name := "clear", desc := "()V" } : Jvm.MethodName) ({ cls := "java/util/ArrayList", name := "clear", desc := "()V" } : Jvm.MethodName)) ∈ lw_all := lw_g (lw_at lw_m5 229 rfl) rfl
theorem q1309 : (Jvm.Cond.unhidden "java/util/ArrayList" "clear" "()V") ∈ lw_tbl := lw_at lw_m5 230 rfl
theorem q1310 : (Jvm.Cond.instanceMethod ({ cls := "java/util/ArrayList", name := "clear", desc := "()V" } : Jvm.MethodName)) ∈ lw_all := lw_g (lw_at lw_m5 231 rfl) rfl
theorem q1311 : (Jvm.Cond.publicMethod ({ cls := "java/util/ArrayList", name := "clear", desc := "()V" } : Jvm.MethodName)) ∈ lw_tbl := lw_at lw_m5 232 rfl
theorem q1312 : (Jvm.Cond.code ({ cls := "java/util/ArrayList", name := "clear", desc := "()V" } : Jvm.MethodName) prog_57_method_40_code (4 : Nat) (Option.none : Option Jvm.ClassFile.FieldType)) ∈ lw_all := lw_g (lw_at lw_m5 233 rfl) rfl
theorem q1317 : (Jvm.Cond.selects "java/util/ArrayList" ({ cls := "java/util/List", name := "iterator", desc := "()Ljava/util/Iterator;" } : Jvm.MethodName) ({ cls := "java/util/ArrayList", name := "iterator", desc := "()Ljava/util/Iterator;" } : Jvm.MethodName)) ∈ lw_all := lw_g (lw_at lw_m5 238 rfl) rfl
theorem q1318 : (Jvm.Cond.unhidden "java/util/ArrayList" "iterator" "()Ljava/util/Iterator;") ∈ lw_tbl := lw_at lw_m5 239 rfl
theorem q1319 : (Jvm.Cond.instanceMethod ({ cls := "java/util/ArrayList", name := "iterator", desc := "()Ljava/util/Iterator;" } : Jvm.MethodName)) ∈ lw_all := lw_g (lw_at lw_m6 0 rfl) rfl
theorem q1320 : (Jvm.Cond.publicMethod ({ cls := "java/util/ArrayList", name := "iterator", desc := "()Ljava/util/Iterator;" } : Jvm.MethodName)) ∈ lw_tbl := lw_at lw_m6 1 rfl
theorem q1321 : (Jvm.Cond.code ({ cls := "java/util/ArrayList", name := "iterator", desc := "()Ljava/util/Iterator;" } : Jvm.MethodName) prog_57_method_55_code (1 : Nat) (Option.some (Jvm.ClassFile.FieldType.object "java/util/Iterator"))) ∈ lw_all := lw_g (lw_at lw_m6 2 rfl) rfl
theorem q1322 : (Jvm.Cond.classLink "java/util/ArrayList" (267 : Nat) "java/util/ArrayList$Itr") ∈ lw_all := lw_g (lw_at lw_m6 3 rfl) rfl
theorem q1324 : (Jvm.Cond.methodLink "java/util/ArrayList" (269 : Nat) ({ cls := "java/util/ArrayList$Itr", name := "<init>", desc := "(Ljava/util/ArrayList;)V" } : Jvm.MethodName)) ∈ lw_all := lw_g (lw_at lw_m6 5 rfl) rfl
theorem q1567 : (Jvm.Cond.selects "java/util/ArrayList" ({ cls := "java/util/List", name := "size", desc := "()I" } : Jvm.MethodName) ({ cls := "java/util/ArrayList", name := "size", desc := "()I" } : Jvm.MethodName)) ∈ lw_all := lw_g (lw_at lw_m7 8 rfl) rfl
theorem q1568 : (Jvm.Cond.unhidden "java/util/ArrayList" "size" "()I") ∈ lw_tbl := lw_at lw_m7 9 rfl
theorem q1569 : (Jvm.Cond.instanceMethod ({ cls := "java/util/ArrayList", name := "size", desc := "()I" } : Jvm.MethodName)) ∈ lw_all := lw_g (lw_at lw_m7 10 rfl) rfl
theorem q1570 : (Jvm.Cond.publicMethod ({ cls := "java/util/ArrayList", name := "size", desc := "()I" } : Jvm.MethodName)) ∈ lw_tbl := lw_at lw_m7 11 rfl
theorem q1571 : (Jvm.Cond.code ({ cls := "java/util/ArrayList", name := "size", desc := "()I" } : Jvm.MethodName) prog_57_method_8_code (1 : Nat) (Option.some Jvm.ClassFile.FieldType.int)) ∈ lw_all := lw_g (lw_at lw_m7 12 rfl) rfl
theorem q1576 : (Jvm.Cond.selects "java/util/ArrayList" ({ cls := "java/util/List", name := "get", desc := "(I)Ljava/lang/Object;" } : Jvm.MethodName) ({ cls := "java/util/ArrayList", name := "get", desc := "(I)Ljava/lang/Object;" } : Jvm.MethodName)) ∈ lw_all := lw_g (lw_at lw_m7 17 rfl) rfl
theorem q1577 : (Jvm.Cond.unhidden "java/util/ArrayList" "get" "(I)Ljava/lang/Object;") ∈ lw_tbl := lw_at lw_m7 18 rfl
theorem q1578 : (Jvm.Cond.instanceMethod ({ cls := "java/util/ArrayList", name := "get", desc := "(I)Ljava/lang/Object;" } : Jvm.MethodName)) ∈ lw_all := lw_g (lw_at lw_m7 19 rfl) rfl
theorem q1579 : (Jvm.Cond.publicMethod ({ cls := "java/util/ArrayList", name := "get", desc := "(I)Ljava/lang/Object;" } : Jvm.MethodName)) ∈ lw_tbl := lw_at lw_m7 20 rfl
theorem q1580 : (Jvm.Cond.code ({ cls := "java/util/ArrayList", name := "get", desc := "(I)Ljava/lang/Object;" } : Jvm.MethodName) prog_57_method_20_code (2 : Nat) (Option.some (Jvm.ClassFile.FieldType.object "java/lang/Object"))) ∈ lw_all := lw_g (lw_at lw_m7 21 rfl) rfl
theorem q1581 : (Jvm.Cond.methodLink "java/util/ArrayList" (118 : Nat) ({ cls := "java/util/Objects", name := "checkIndex", desc := "(II)I" } : Jvm.MethodName)) ∈ lw_all := lw_g (lw_at lw_m7 22 rfl) rfl
theorem q1585 : (Jvm.Cond.methodLink "java/util/ArrayList" (123 : Nat) ({ cls := "java/util/ArrayList", name := "elementData", desc := "(I)Ljava/lang/Object;" } : Jvm.MethodName)) ∈ lw_all := lw_g (lw_at lw_m7 26 rfl) rfl
theorem q1586 : (Jvm.Cond.instanceMethod ({ cls := "java/util/ArrayList", name := "elementData", desc := "(I)Ljava/lang/Object;" } : Jvm.MethodName)) ∈ lw_all := lw_g (lw_at lw_m7 27 rfl) rfl
theorem q1587 : (Jvm.Cond.selects "java/util/ArrayList" ({ cls := "java/util/ArrayList", name := "elementData", desc := "(I)Ljava/lang/Object;" } : Jvm.MethodName) ({ cls := "java/util/ArrayList", name := "elementData", desc := "(I)Ljava/lang/Object;" } : Jvm.MethodName)) ∈ lw_all := lw_g (lw_at lw_m7 28 rfl) rfl
theorem q1588 : (Jvm.Cond.code ({ cls := "java/util/ArrayList", name := "elementData", desc := "(I)Ljava/lang/Object;" } : Jvm.MethodName) prog_57_method_18_code (2 : Nat) (Option.some (Jvm.ClassFile.FieldType.object "java/lang/Object"))) ∈ lw_all := lw_g (lw_at lw_m7 29 rfl) rfl
theorem q1626 : (Jvm.Cond.selects "java/util/ArrayList" ({ cls := "java/util/List", name := "add", desc := "(ILjava/lang/Object;)V" } : Jvm.MethodName) ({ cls := "java/util/ArrayList", name := "add", desc := "(ILjava/lang/Object;)V" } : Jvm.MethodName)) ∈ lw_all := lw_g (lw_at lw_m7 67 rfl) rfl
theorem q1627 : (Jvm.Cond.unhidden "java/util/ArrayList" "add" "(ILjava/lang/Object;)V") ∈ lw_tbl := lw_at lw_m7 68 rfl
theorem q1628 : (Jvm.Cond.instanceMethod ({ cls := "java/util/ArrayList", name := "add", desc := "(ILjava/lang/Object;)V" } : Jvm.MethodName)) ∈ lw_all := lw_g (lw_at lw_m7 69 rfl) rfl
theorem q1629 : (Jvm.Cond.publicMethod ({ cls := "java/util/ArrayList", name := "add", desc := "(ILjava/lang/Object;)V" } : Jvm.MethodName)) ∈ lw_tbl := lw_at lw_m7 70 rfl
theorem q1630 : (Jvm.Cond.code ({ cls := "java/util/ArrayList", name := "add", desc := "(ILjava/lang/Object;)V" } : Jvm.MethodName) prog_57_method_26_code (5 : Nat) (Option.none : Option Jvm.ClassFile.FieldType)) ∈ lw_all := lw_g (lw_at lw_m7 71 rfl) rfl
theorem q1631 : (Jvm.Cond.methodLink "java/util/ArrayList" (135 : Nat) ({ cls := "java/util/ArrayList", name := "rangeCheckForAdd", desc := "(I)V" } : Jvm.MethodName)) ∈ lw_all := lw_g (lw_at lw_m7 72 rfl) rfl
theorem q1632 : (Jvm.Cond.privateMethod ({ cls := "java/util/ArrayList", name := "rangeCheckForAdd", desc := "(I)V" } : Jvm.MethodName)) ∈ lw_tbl := lw_at lw_m7 73 rfl
theorem q1633 : (Jvm.Cond.instanceMethod ({ cls := "java/util/ArrayList", name := "rangeCheckForAdd", desc := "(I)V" } : Jvm.MethodName)) ∈ lw_all := lw_g (lw_at lw_m7 74 rfl) rfl
theorem q1634 : (Jvm.Cond.code ({ cls := "java/util/ArrayList", name := "rangeCheckForAdd", desc := "(I)V" } : Jvm.MethodName) prog_57_method_45_code (2 : Nat) (Option.none : Option Jvm.ClassFile.FieldType)) ∈ lw_all := lw_g (lw_at lw_m7 75 rfl) rfl
theorem q1635 : (Jvm.Cond.methodLink "java/util/ArrayList" (112 : Nat) ({ cls := "java/lang/System", name := "arraycopy", desc := "(Ljava/lang/Object;ILjava/lang/Object;II)V" } : Jvm.MethodName)) ∈ lw_all := lw_g (lw_at lw_m7 76 rfl) rfl
theorem q1872 : (Jvm.Cond.selects "java/util/ArrayList" ({ cls := "java/util/List", name := "remove", desc := "(I)Ljava/lang/Object;" } : Jvm.MethodName) ({ cls := "java/util/ArrayList", name := "remove", desc := "(I)Ljava/lang/Object;" } : Jvm.MethodName)) ∈ lw_all := lw_g (lw_at lw_m8 73 rfl) rfl
theorem q1873 : (Jvm.Cond.unhidden "java/util/ArrayList" "remove" "(I)Ljava/lang/Object;") ∈ lw_tbl := lw_at lw_m8 74 rfl
theorem q1874 : (Jvm.Cond.instanceMethod ({ cls := "java/util/ArrayList", name := "remove", desc := "(I)Ljava/lang/Object;" } : Jvm.MethodName)) ∈ lw_all := lw_g (lw_at lw_m8 75 rfl) rfl
theorem q1875 : (Jvm.Cond.publicMethod ({ cls := "java/util/ArrayList", name := "remove", desc := "(I)Ljava/lang/Object;" } : Jvm.MethodName)) ∈ lw_tbl := lw_at lw_m8 76 rfl
theorem q1876 : (Jvm.Cond.code ({ cls := "java/util/ArrayList", name := "remove", desc := "(I)Ljava/lang/Object;" } : Jvm.MethodName) prog_57_method_29_code (4 : Nat) (Option.some (Jvm.ClassFile.FieldType.object "java/lang/Object"))) ∈ lw_all := lw_g (lw_at lw_m8 77 rfl) rfl
theorem q1877 : (Jvm.Cond.methodLink "java/util/ArrayList" (144 : Nat) ({ cls := "java/util/ArrayList", name := "fastRemove", desc := "([Ljava/lang/Object;I)V" } : Jvm.MethodName)) ∈ lw_all := lw_g (lw_at lw_m8 78 rfl) rfl
theorem q1878 : (Jvm.Cond.privateMethod ({ cls := "java/util/ArrayList", name := "fastRemove", desc := "([Ljava/lang/Object;I)V" } : Jvm.MethodName)) ∈ lw_tbl := lw_at lw_m8 79 rfl
theorem q1879 : (Jvm.Cond.instanceMethod ({ cls := "java/util/ArrayList", name := "fastRemove", desc := "([Ljava/lang/Object;I)V" } : Jvm.MethodName)) ∈ lw_all := lw_g (lw_at lw_m8 80 rfl) rfl
theorem q1880 : (Jvm.Cond.code ({ cls := "java/util/ArrayList", name := "fastRemove", desc := "([Ljava/lang/Object;I)V" } : Jvm.MethodName) prog_57_method_39_code (4 : Nat) (Option.none : Option Jvm.ClassFile.FieldType)) ∈ lw_all := lw_g (lw_at lw_m8 81 rfl) rfl
theorem q3436 : (Jvm.Cond.castable "java/util/ArrayList" "java/lang/Object") ∈ lw_tbl := lw_at lw_m14 197 rfl
theorem in_J3 : ∀ w ∈ wsJ30, w ∈ lw_all := lw_in wsJ30 [547, 543, 545] (by decide +kernel) (by decide +kernel)
/-! java/lang/Throwable -/
set_option maxRecDepth 100000
def RJ4 : String := "java/lang/Throwable"
def TJ4 : u_T := fun k => match k with
  | 0 => ("java/lang/Throwable", "cause", "Ljava/lang/Throwable;", false)
  | 1 => ("java/lang/Throwable", "stackTrace", "[Ljava/lang/StackTraceElement;", false)
  | 2 => ("java/lang/Throwable", "suppressedExceptions", "Ljava/util/List;", false)
  | 3 => ("java/lang/Throwable", "detailMessage", "Ljava/lang/String;", false)
  | _ => ("java/lang/Throwable", "backtrace", "Ljava/lang/Object;", false)
def tyJ4 : Nat → FieldType := fun k => match k with
  | 0 => .object "java/lang/Throwable"
  | 1 => .array (.object "java/lang/StackTraceElement")
  | 2 => .object "java/util/List"
  | 3 => .object "java/lang/String"
  | _ => .object "java/lang/Object"
abbrev wsJ40 : List Cond := u_ws RJ4 TJ4 5
theorem nmJ4 : ∀ a, a < 5 → ∀ b, b < 5 → a ≠ b → (TJ4 a).2.1 ≠ (TJ4 b).2.1 := by decide +kernel
theorem tyJ4_ok : ∀ k, k < 5 → parseFieldDescriptor (TJ4 k).2.2.1 = some (tyJ4 k) := by decide +kernel
abbrev cJ4_init : ByteArray := prog_50_method_1_code
def yJ4_init : MethodName := ⟨RJ4, "<init>", "()V"⟩
def dkwJ4_init_1 : List UInt8 := [182, 0, 27, 87, 177]
abbrev dktJ4_init_1 : List UInt8 := dkwJ4_init_1 ++ []
def dkwJ4_init_0 : List UInt8 := [42, 183, 0, 1, 42, 42, 181, 0, 7, 42, 178, 0, 13, 181, 0, 17, 42, 178, 0, 20, 181, 0, 24, 42]
abbrev dktJ4_init_0 : List UInt8 := dkwJ4_init_0 ++ dktJ4_init_1
theorem dksJ4_init_0 : cJ4_init.data.toList.drop 0 = dktJ4_init_0 := by decide +kernel
theorem dksJ4_init_1 : cJ4_init.data.toList.drop 24 = dktJ4_init_1 := dk_seg dksJ4_init_0 24 rfl rfl
theorem dJ4_init_0 : decode cJ4_init 0 = .ok (.aload_n 0, 1) := dk_42 (dk_at dksJ4_init_0 0 rfl rfl)
theorem dJ4_init_1 : decode cJ4_init 1 = .ok (.invokespecial 1, 3) := dk_183 0 1 (dk_at dksJ4_init_0 1 rfl rfl)
theorem dJ4_init_4 : decode cJ4_init 4 = .ok (.aload_n 0, 1) := dk_42 (dk_at dksJ4_init_0 4 rfl rfl)
theorem dJ4_init_5 : decode cJ4_init 5 = .ok (.aload_n 0, 1) := dk_42 (dk_at dksJ4_init_0 5 rfl rfl)
theorem dJ4_init_6 : decode cJ4_init 6 = .ok (.putfield 7, 3) := dk_181 0 7 (dk_at dksJ4_init_0 6 rfl rfl)
theorem dJ4_init_9 : decode cJ4_init 9 = .ok (.aload_n 0, 1) := dk_42 (dk_at dksJ4_init_0 9 rfl rfl)
theorem dJ4_init_10 : decode cJ4_init 10 = .ok (.getstatic 13, 3) := dk_178 0 13 (dk_at dksJ4_init_0 10 rfl rfl)
theorem dJ4_init_13 : decode cJ4_init 13 = .ok (.putfield 17, 3) := dk_181 0 17 (dk_at dksJ4_init_0 13 rfl rfl)
theorem dJ4_init_16 : decode cJ4_init 16 = .ok (.aload_n 0, 1) := dk_42 (dk_at dksJ4_init_0 16 rfl rfl)
theorem dJ4_init_17 : decode cJ4_init 17 = .ok (.getstatic 20, 3) := dk_178 0 20 (dk_at dksJ4_init_0 17 rfl rfl)
theorem dJ4_init_20 : decode cJ4_init 20 = .ok (.putfield 24, 3) := dk_181 0 24 (dk_at dksJ4_init_0 20 rfl rfl)
theorem dJ4_init_23 : decode cJ4_init 23 = .ok (.aload_n 0, 1) := dk_42 (dk_at dksJ4_init_0 23 rfl rfl)
theorem dJ4_init_24 : decode cJ4_init 24 = .ok (.invokevirtual 27, 3) := dk_182 0 27 (dk_at dksJ4_init_1 0 rfl rfl)
theorem dJ4_init_27 : decode cJ4_init 27 = .ok (.pop, 1) := dk_87 (dk_at dksJ4_init_1 3 rfl rfl)
theorem dJ4_init_28 : decode cJ4_init 28 = .ok (.return_, 1) := dk_177 (dk_at dksJ4_init_1 4 rfl rfl)
abbrev cJ4_init_2 : ByteArray := prog_50_method_2_code
def yJ4_init_2 : MethodName := ⟨RJ4, "<init>", "(Ljava/lang/String;)V"⟩
def dkwJ4_init_2_1 : List UInt8 := [182, 0, 27, 87, 42, 43, 181, 0, 31, 177]
abbrev dktJ4_init_2_1 : List UInt8 := dkwJ4_init_2_1 ++ []
def dkwJ4_init_2_0 : List UInt8 := [42, 183, 0, 1, 42, 42, 181, 0, 7, 42, 178, 0, 13, 181, 0, 17, 42, 178, 0, 20, 181, 0, 24, 42]
abbrev dktJ4_init_2_0 : List UInt8 := dkwJ4_init_2_0 ++ dktJ4_init_2_1
theorem dksJ4_init_2_0 : cJ4_init_2.data.toList.drop 0 = dktJ4_init_2_0 := by decide +kernel
theorem dksJ4_init_2_1 : cJ4_init_2.data.toList.drop 24 = dktJ4_init_2_1 := dk_seg dksJ4_init_2_0 24 rfl rfl
theorem dJ4_init_2_0 : decode cJ4_init_2 0 = .ok (.aload_n 0, 1) := dk_42 (dk_at dksJ4_init_2_0 0 rfl rfl)
theorem dJ4_init_2_1 : decode cJ4_init_2 1 = .ok (.invokespecial 1, 3) := dk_183 0 1 (dk_at dksJ4_init_2_0 1 rfl rfl)
theorem dJ4_init_2_4 : decode cJ4_init_2 4 = .ok (.aload_n 0, 1) := dk_42 (dk_at dksJ4_init_2_0 4 rfl rfl)
theorem dJ4_init_2_5 : decode cJ4_init_2 5 = .ok (.aload_n 0, 1) := dk_42 (dk_at dksJ4_init_2_0 5 rfl rfl)
theorem dJ4_init_2_6 : decode cJ4_init_2 6 = .ok (.putfield 7, 3) := dk_181 0 7 (dk_at dksJ4_init_2_0 6 rfl rfl)
theorem dJ4_init_2_9 : decode cJ4_init_2 9 = .ok (.aload_n 0, 1) := dk_42 (dk_at dksJ4_init_2_0 9 rfl rfl)
theorem dJ4_init_2_10 : decode cJ4_init_2 10 = .ok (.getstatic 13, 3) := dk_178 0 13 (dk_at dksJ4_init_2_0 10 rfl rfl)
theorem dJ4_init_2_13 : decode cJ4_init_2 13 = .ok (.putfield 17, 3) := dk_181 0 17 (dk_at dksJ4_init_2_0 13 rfl rfl)
theorem dJ4_init_2_16 : decode cJ4_init_2 16 = .ok (.aload_n 0, 1) := dk_42 (dk_at dksJ4_init_2_0 16 rfl rfl)
theorem dJ4_init_2_17 : decode cJ4_init_2 17 = .ok (.getstatic 20, 3) := dk_178 0 20 (dk_at dksJ4_init_2_0 17 rfl rfl)
theorem dJ4_init_2_20 : decode cJ4_init_2 20 = .ok (.putfield 24, 3) := dk_181 0 24 (dk_at dksJ4_init_2_0 20 rfl rfl)
theorem dJ4_init_2_23 : decode cJ4_init_2 23 = .ok (.aload_n 0, 1) := dk_42 (dk_at dksJ4_init_2_0 23 rfl rfl)
theorem dJ4_init_2_24 : decode cJ4_init_2 24 = .ok (.invokevirtual 27, 3) := dk_182 0 27 (dk_at dksJ4_init_2_1 0 rfl rfl)
theorem dJ4_init_2_27 : decode cJ4_init_2 27 = .ok (.pop, 1) := dk_87 (dk_at dksJ4_init_2_1 3 rfl rfl)
theorem dJ4_init_2_28 : decode cJ4_init_2 28 = .ok (.aload_n 0, 1) := dk_42 (dk_at dksJ4_init_2_1 4 rfl rfl)
theorem dJ4_init_2_29 : decode cJ4_init_2 29 = .ok (.aload_n 1, 1) := dk_43 (dk_at dksJ4_init_2_1 5 rfl rfl)
theorem dJ4_init_2_30 : decode cJ4_init_2 30 = .ok (.putfield 31, 3) := dk_181 0 31 (dk_at dksJ4_init_2_1 6 rfl rfl)
theorem dJ4_init_2_33 : decode cJ4_init_2 33 = .ok (.return_, 1) := dk_177 (dk_at dksJ4_init_2_1 9 rfl rfl)
abbrev cJ4_init_3 : ByteArray := prog_50_method_5_code
def yJ4_init_3 : MethodName := ⟨RJ4, "<init>", "(Ljava/lang/String;Ljava/lang/Throwable;ZZ)V"⟩
def dkwJ4_init_3_2 : List UInt8 := [44, 181, 0, 7, 29, 154, 0, 8, 42, 1, 181, 0, 24, 177]
abbrev dktJ4_init_3_2 : List UInt8 := dkwJ4_init_3_2 ++ []
def dkwJ4_init_3_1 : List UInt8 := [21, 4, 153, 0, 11, 42, 182, 0, 27, 87, 167, 0, 8, 42, 1, 181, 0, 17, 42, 43, 181, 0, 31, 42]
abbrev dktJ4_init_3_1 : List UInt8 := dkwJ4_init_3_1 ++ dktJ4_init_3_2
def dkwJ4_init_3_0 : List UInt8 := [42, 183, 0, 1, 42, 42, 181, 0, 7, 42, 178, 0, 13, 181, 0, 17, 42, 178, 0, 20, 181, 0, 24]
abbrev dktJ4_init_3_0 : List UInt8 := dkwJ4_init_3_0 ++ dktJ4_init_3_1
theorem dksJ4_init_3_0 : cJ4_init_3.data.toList.drop 0 = dktJ4_init_3_0 := by decide +kernel
theorem dksJ4_init_3_1 : cJ4_init_3.data.toList.drop 23 = dktJ4_init_3_1 := dk_seg dksJ4_init_3_0 23 rfl rfl
theorem dksJ4_init_3_2 : cJ4_init_3.data.toList.drop 47 = dktJ4_init_3_2 := dk_seg dksJ4_init_3_1 24 rfl rfl
theorem dJ4_init_3_0 : decode cJ4_init_3 0 = .ok (.aload_n 0, 1) := dk_42 (dk_at dksJ4_init_3_0 0 rfl rfl)
theorem dJ4_init_3_1 : decode cJ4_init_3 1 = .ok (.invokespecial 1, 3) := dk_183 0 1 (dk_at dksJ4_init_3_0 1 rfl rfl)
theorem dJ4_init_3_4 : decode cJ4_init_3 4 = .ok (.aload_n 0, 1) := dk_42 (dk_at dksJ4_init_3_0 4 rfl rfl)
theorem dJ4_init_3_5 : decode cJ4_init_3 5 = .ok (.aload_n 0, 1) := dk_42 (dk_at dksJ4_init_3_0 5 rfl rfl)
theorem dJ4_init_3_6 : decode cJ4_init_3 6 = .ok (.putfield 7, 3) := dk_181 0 7 (dk_at dksJ4_init_3_0 6 rfl rfl)
theorem dJ4_init_3_9 : decode cJ4_init_3 9 = .ok (.aload_n 0, 1) := dk_42 (dk_at dksJ4_init_3_0 9 rfl rfl)
theorem dJ4_init_3_10 : decode cJ4_init_3 10 = .ok (.getstatic 13, 3) := dk_178 0 13 (dk_at dksJ4_init_3_0 10 rfl rfl)
theorem dJ4_init_3_13 : decode cJ4_init_3 13 = .ok (.putfield 17, 3) := dk_181 0 17 (dk_at dksJ4_init_3_0 13 rfl rfl)
theorem dJ4_init_3_16 : decode cJ4_init_3 16 = .ok (.aload_n 0, 1) := dk_42 (dk_at dksJ4_init_3_0 16 rfl rfl)
theorem dJ4_init_3_17 : decode cJ4_init_3 17 = .ok (.getstatic 20, 3) := dk_178 0 20 (dk_at dksJ4_init_3_0 17 rfl rfl)
theorem dJ4_init_3_20 : decode cJ4_init_3 20 = .ok (.putfield 24, 3) := dk_181 0 24 (dk_at dksJ4_init_3_0 20 rfl rfl)
theorem dJ4_init_3_23 : decode cJ4_init_3 23 = .ok (.iload 4, 2) := dk_21 4 (dk_at dksJ4_init_3_1 0 rfl rfl)
theorem dJ4_init_3_25 : decode cJ4_init_3 25 = .ok (.ifCond .eq 11, 3) := dk_153 0 11 (dk_at dksJ4_init_3_1 2 rfl rfl)
theorem dJ4_init_3_28 : decode cJ4_init_3 28 = .ok (.aload_n 0, 1) := dk_42 (dk_at dksJ4_init_3_1 5 rfl rfl)
theorem dJ4_init_3_29 : decode cJ4_init_3 29 = .ok (.invokevirtual 27, 3) := dk_182 0 27 (dk_at dksJ4_init_3_1 6 rfl rfl)
theorem dJ4_init_3_32 : decode cJ4_init_3 32 = .ok (.pop, 1) := dk_87 (dk_at dksJ4_init_3_1 9 rfl rfl)
theorem dJ4_init_3_33 : decode cJ4_init_3 33 = .ok (.goto 8, 3) := dk_167 0 8 (dk_at dksJ4_init_3_1 10 rfl rfl)
theorem dJ4_init_3_36 : decode cJ4_init_3 36 = .ok (.aload_n 0, 1) := dk_42 (dk_at dksJ4_init_3_1 13 rfl rfl)
theorem dJ4_init_3_37 : decode cJ4_init_3 37 = .ok (.aconst_null, 1) := dk_1 (dk_at dksJ4_init_3_1 14 rfl rfl)
theorem dJ4_init_3_38 : decode cJ4_init_3 38 = .ok (.putfield 17, 3) := dk_181 0 17 (dk_at dksJ4_init_3_1 15 rfl rfl)
theorem dJ4_init_3_41 : decode cJ4_init_3 41 = .ok (.aload_n 0, 1) := dk_42 (dk_at dksJ4_init_3_1 18 rfl rfl)
theorem dJ4_init_3_42 : decode cJ4_init_3 42 = .ok (.aload_n 1, 1) := dk_43 (dk_at dksJ4_init_3_1 19 rfl rfl)
theorem dJ4_init_3_43 : decode cJ4_init_3 43 = .ok (.putfield 31, 3) := dk_181 0 31 (dk_at dksJ4_init_3_1 20 rfl rfl)
theorem dJ4_init_3_46 : decode cJ4_init_3 46 = .ok (.aload_n 0, 1) := dk_42 (dk_at dksJ4_init_3_1 23 rfl rfl)
theorem dJ4_init_3_47 : decode cJ4_init_3 47 = .ok (.aload_n 2, 1) := dk_44 (dk_at dksJ4_init_3_2 0 rfl rfl)
theorem dJ4_init_3_48 : decode cJ4_init_3 48 = .ok (.putfield 7, 3) := dk_181 0 7 (dk_at dksJ4_init_3_2 1 rfl rfl)
theorem dJ4_init_3_51 : decode cJ4_init_3 51 = .ok (.iload_n 3, 1) := dk_29 (dk_at dksJ4_init_3_2 4 rfl rfl)
theorem dJ4_init_3_52 : decode cJ4_init_3 52 = .ok (.ifCond .ne 8, 3) := dk_154 0 8 (dk_at dksJ4_init_3_2 5 rfl rfl)
theorem dJ4_init_3_55 : decode cJ4_init_3 55 = .ok (.aload_n 0, 1) := dk_42 (dk_at dksJ4_init_3_2 8 rfl rfl)
theorem dJ4_init_3_56 : decode cJ4_init_3 56 = .ok (.aconst_null, 1) := dk_1 (dk_at dksJ4_init_3_2 9 rfl rfl)
theorem dJ4_init_3_57 : decode cJ4_init_3 57 = .ok (.putfield 24, 3) := dk_181 0 24 (dk_at dksJ4_init_3_2 10 rfl rfl)
theorem dJ4_init_3_60 : decode cJ4_init_3 60 = .ok (.return_, 1) := dk_177 (dk_at dksJ4_init_3_2 13 rfl rfl)
theorem q126 : (Jvm.Cond.initialized "java/lang/Throwable") ∈ lw_all := lw_g (lw_at lw_m1 7 rfl) rfl
theorem q229 : (Jvm.Cond.declares ({ cls := "java/lang/Throwable", name := "<init>", desc := "()V" } : Jvm.MethodName)) ∈ lw_tbl := lw_at lw_m1 110 rfl
theorem q230 : (Jvm.Cond.declares ({ cls := "java/lang/Throwable", name := "<init>", desc := "(Ljava/lang/String;)V" } : Jvm.MethodName)) ∈ lw_tbl := lw_at lw_m1 111 rfl
theorem q234 : (Jvm.Cond.lays "java/lang/Throwable" "java/lang/Throwable" "cause" "Ljava/lang/Throwable;") ∈ lw_all := lw_g (lw_at lw_m1 115 rfl) rfl
theorem q236 : (Jvm.Cond.lays "java/lang/Throwable" "java/lang/Throwable" "stackTrace" "[Ljava/lang/StackTraceElement;") ∈ lw_all := lw_g (lw_at lw_m1 117 rfl) rfl
theorem q238 : (Jvm.Cond.lays "java/lang/Throwable" "java/lang/Throwable" "suppressedExceptions" "Ljava/util/List;") ∈ lw_all := lw_g (lw_at lw_m1 119 rfl) rfl
theorem q240 : (Jvm.Cond.lays "java/lang/Throwable" "java/lang/Throwable" "detailMessage" "Ljava/lang/String;") ∈ lw_all := lw_g (lw_at lw_m1 121 rfl) rfl
theorem q242 : (Jvm.Cond.lays "java/lang/Throwable" "java/lang/Throwable" "backtrace" "Ljava/lang/Object;") ∈ lw_all := lw_g (lw_at lw_m1 123 rfl) rfl
theorem q243 : (Jvm.Cond.fieldLink "java/lang/Throwable" (198 : Nat) "java/lang/Throwable" "backtrace" "Ljava/lang/Object;") ∈ lw_all := lw_g (lw_at lw_m1 124 rfl) rfl
theorem q244 : (Jvm.Cond.superclass "java/lang/Throwable" "java/lang/Object") ∈ lw_all := lw_g (lw_at lw_m1 125 rfl) rfl
theorem q245 : (Jvm.Cond.instanceMethod ({ cls := "java/lang/Throwable", name := "<init>", desc := "()V" } : Jvm.MethodName)) ∈ lw_all := lw_g (lw_at lw_m1 126 rfl) rfl
theorem q246 : (Jvm.Cond.code ({ cls := "java/lang/Throwable", name := "<init>", desc := "()V" } : Jvm.MethodName) prog_50_method_1_code (1 : Nat) (Option.none : Option Jvm.ClassFile.FieldType)) ∈ lw_all := lw_g (lw_at lw_m1 127 rfl) rfl
theorem q247 : (Jvm.Cond.methodLink "java/lang/Throwable" (1 : Nat) ({ cls := "java/lang/Object", name := "<init>", desc := "()V" } : Jvm.MethodName)) ∈ lw_all := lw_g (lw_at lw_m1 128 rfl) rfl
theorem q248 : (Jvm.Cond.fieldLink "java/lang/Throwable" (13 : Nat) "java/lang/Throwable" "UNASSIGNED_STACK" "[Ljava/lang/StackTraceElement;") ∈ lw_all := lw_g (lw_at lw_m1 129 rfl) rfl
theorem q249 : (Jvm.Cond.laysStatic "java/lang/Throwable" "UNASSIGNED_STACK" "[Ljava/lang/StackTraceElement;") ∈ lw_tbl := lw_at lw_m1 130 rfl
theorem q250 : (Jvm.Cond.fieldLink "java/lang/Throwable" (20 : Nat) "java/lang/Throwable" "SUPPRESSED_SENTINEL" "Ljava/util/List;") ∈ lw_all := lw_g (lw_at lw_m1 131 rfl) rfl
theorem q251 : (Jvm.Cond.laysStatic "java/lang/Throwable" "SUPPRESSED_SENTINEL" "Ljava/util/List;") ∈ lw_tbl := lw_at lw_m1 132 rfl
theorem q252 : (Jvm.Cond.methodLink "java/lang/Throwable" (27 : Nat) ({ cls := "java/lang/Throwable", name := "fillInStackTrace", desc := "()Ljava/lang/Throwable;" } : Jvm.MethodName)) ∈ lw_all := lw_g (lw_at lw_m1 133 rfl) rfl
theorem q253 : (Jvm.Cond.instanceMethod ({ cls := "java/lang/Throwable", name := "fillInStackTrace", desc := "()Ljava/lang/Throwable;" } : Jvm.MethodName)) ∈ lw_all := lw_g (lw_at lw_m1 134 rfl) rfl
theorem q254 : (Jvm.Cond.sameMethod "java/lang/Throwable" "java/lang/Throwable" "fillInStackTrace" "()Ljava/lang/Throwable;") ∈ lw_all := lw_g (lw_at lw_m1 135 rfl) rfl
theorem q257 : (Jvm.Cond.codeSync ({ cls := "java/lang/Throwable", name := "fillInStackTrace", desc := "()Ljava/lang/Throwable;" } : Jvm.MethodName) prog_50_method_18_code (1 : Nat) (Option.some (Jvm.ClassFile.FieldType.object "java/lang/Throwable"))) ∈ lw_all := lw_g (lw_at lw_m1 138 rfl) rfl
theorem q258 : (Jvm.Cond.methodLink "java/lang/Throwable" (202 : Nat) ({ cls := "java/lang/Throwable", name := "fillInStackTrace", desc := "(I)Ljava/lang/Throwable;" } : Jvm.MethodName)) ∈ lw_all := lw_g (lw_at lw_m1 139 rfl) rfl
theorem q259 : (Jvm.Cond.privateMethod ({ cls := "java/lang/Throwable", name := "fillInStackTrace", desc := "(I)Ljava/lang/Throwable;" } : Jvm.MethodName)) ∈ lw_tbl := lw_at lw_m1 140 rfl
theorem q260 : (Jvm.Cond.instanceMethod ({ cls := "java/lang/Throwable", name := "fillInStackTrace", desc := "(I)Ljava/lang/Throwable;" } : Jvm.MethodName)) ∈ lw_all := lw_g (lw_at lw_m1 141 rfl) rfl
theorem q261 : (Jvm.Cond.instantiable "java/lang/Throwable" (6 : Nat)) ∈ lw_all := lw_g (lw_at lw_m1 142 rfl) rfl
theorem q262 : (Jvm.Cond.native ({ cls := "java/lang/Throwable", name := "fillInStackTrace", desc := "(I)Ljava/lang/Throwable;" } : Jvm.MethodName)) ∈ lw_all := lw_g (lw_at lw_m1 143 rfl) rfl
theorem q493 : (Jvm.Cond.instanceMethod ({ cls := "java/lang/Throwable", name := "<init>", desc := "(Ljava/lang/String;)V" } : Jvm.MethodName)) ∈ lw_all := lw_g (lw_at lw_m2 134 rfl) rfl
theorem q494 : (Jvm.Cond.code ({ cls := "java/lang/Throwable", name := "<init>", desc := "(Ljava/lang/String;)V" } : Jvm.MethodName) prog_50_method_2_code (2 : Nat) (Option.none : Option Jvm.ClassFile.FieldType)) ∈ lw_all := lw_g (lw_at lw_m2 135 rfl) rfl
theorem q495 : (Jvm.Cond.fieldLink "java/lang/Throwable" (198 : Nat) "java/lang/Throwable" "backtrace" "Ljava/lang/Object;") ∈ lw_all := lw_g (lw_at lw_m2 136 rfl) rfl
theorem q496 : (Jvm.Cond.fieldLink "java/lang/Throwable" (31 : Nat) "java/lang/Throwable" "detailMessage" "Ljava/lang/String;") ∈ lw_all := lw_g (lw_at lw_m2 137 rfl) rfl
theorem q497 : (Jvm.Cond.fieldLink "java/lang/Throwable" (7 : Nat) "java/lang/Throwable" "cause" "Ljava/lang/Throwable;") ∈ lw_all := lw_g (lw_at lw_m2 138 rfl) rfl
theorem q498 : (Jvm.Cond.fieldLink "java/lang/Throwable" (17 : Nat) "java/lang/Throwable" "stackTrace" "[Ljava/lang/StackTraceElement;") ∈ lw_all := lw_g (lw_at lw_m2 139 rfl) rfl
theorem q499 : (Jvm.Cond.fieldLink "java/lang/Throwable" (24 : Nat) "java/lang/Throwable" "suppressedExceptions" "Ljava/util/List;") ∈ lw_all := lw_g (lw_at lw_m2 140 rfl) rfl
theorem q500 : (Jvm.Cond.soleField "java/lang/Throwable" "backtrace") ∈ lw_all := lw_g (lw_at lw_m2 141 rfl) rfl
theorem q501 : (Jvm.Cond.soleField "java/lang/Throwable" "detailMessage") ∈ lw_all := lw_g (lw_at lw_m2 142 rfl) rfl
theorem q502 : (Jvm.Cond.soleField "java/lang/Throwable" "cause") ∈ lw_all := lw_g (lw_at lw_m2 143 rfl) rfl
theorem q503 : (Jvm.Cond.soleField "java/lang/Throwable" "stackTrace") ∈ lw_all := lw_g (lw_at lw_m2 144 rfl) rfl
theorem q505 : (Jvm.Cond.soleField "java/lang/Throwable" "depth") ∈ lw_all := lw_g (lw_at lw_m2 146 rfl) rfl
theorem q506 : (Jvm.Cond.soleField "java/lang/Throwable" "suppressedExceptions") ∈ lw_all := lw_g (lw_at lw_m2 147 rfl) rfl
theorem q2148 : (Jvm.Cond.instanceMethod ({ cls := "java/lang/Throwable", name := "<init>", desc := "(Ljava/lang/String;Ljava/lang/Throwable;ZZ)V" } : Jvm.MethodName)) ∈ lw_all := lw_g (lw_at lw_m9 109 rfl) rfl
theorem q2149 : (Jvm.Cond.code ({ cls := "java/lang/Throwable", name := "<init>", desc := "(Ljava/lang/String;Ljava/lang/Throwable;ZZ)V" } : Jvm.MethodName) prog_50_method_5_code (5 : Nat) (Option.none : Option Jvm.ClassFile.FieldType)) ∈ lw_all := lw_g (lw_at lw_m9 110 rfl) rfl
theorem q3374 : (Jvm.Cond.sameMethod "java/lang/Throwable" "java/lang/Throwable" "fillInStackTrace" "(I)Ljava/lang/Throwable;") ∈ lw_all := lw_g (lw_at lw_m14 135 rfl) rfl
theorem q3468 : (Jvm.Cond.castable "java/lang/Throwable" "java/lang/Object") ∈ lw_tbl := lw_at lw_m14 229 rfl
theorem in_J4 : ∀ w ∈ wsJ40, w ∈ lw_all := lw_in wsJ40 [234, 236, 238, 240, 242] (by decide +kernel) (by decide +kernel)
/-! java/lang/Exception -/
set_option maxRecDepth 100000
def RJ5 : String := "java/lang/Exception"
abbrev cJ5_init : ByteArray := prog_36_method_2_code
def yJ5_init : MethodName := ⟨RJ5, "<init>", "(Ljava/lang/String;)V"⟩
def dkwJ5_init_0 : List UInt8 := [42, 43, 183, 0, 7, 177]
abbrev dktJ5_init_0 : List UInt8 := dkwJ5_init_0 ++ []
theorem dksJ5_init_0 : cJ5_init.data.toList.drop 0 = dktJ5_init_0 := by decide +kernel
theorem dJ5_init_0 : decode cJ5_init 0 = .ok (.aload_n 0, 1) := dk_42 (dk_at dksJ5_init_0 0 rfl rfl)
theorem dJ5_init_1 : decode cJ5_init 1 = .ok (.aload_n 1, 1) := dk_43 (dk_at dksJ5_init_0 1 rfl rfl)
theorem dJ5_init_2 : decode cJ5_init 2 = .ok (.invokespecial 7, 3) := dk_183 0 7 (dk_at dksJ5_init_0 2 rfl rfl)
theorem dJ5_init_5 : decode cJ5_init 5 = .ok (.return_, 1) := dk_177 (dk_at dksJ5_init_0 5 rfl rfl)
abbrev cJ5_init_2 : ByteArray := prog_36_method_1_code
def yJ5_init_2 : MethodName := ⟨RJ5, "<init>", "()V"⟩
theorem dJ5_init_2_0 : decode cJ5_init_2 0 = .ok (.aload_n 0, 1) := by decide +kernel
theorem dJ5_init_2_1 : decode cJ5_init_2 1 = .ok (.invokespecial 1, 3) := by decide +kernel
theorem dJ5_init_2_4 : decode cJ5_init_2 4 = .ok (.return_, 1) := by decide +kernel
abbrev cJ5_init_3 : ByteArray := prog_36_method_5_code
def yJ5_init_3 : MethodName := ⟨RJ5, "<init>", "(Ljava/lang/String;Ljava/lang/Throwable;ZZ)V"⟩
def dkwJ5_init_3_0 : List UInt8 := [42, 43, 44, 29, 21, 4, 183, 0, 16, 177]
abbrev dktJ5_init_3_0 : List UInt8 := dkwJ5_init_3_0 ++ []
theorem dksJ5_init_3_0 : cJ5_init_3.data.toList.drop 0 = dktJ5_init_3_0 := by decide +kernel
theorem dJ5_init_3_0 : decode cJ5_init_3 0 = .ok (.aload_n 0, 1) := dk_42 (dk_at dksJ5_init_3_0 0 rfl rfl)
theorem dJ5_init_3_1 : decode cJ5_init_3 1 = .ok (.aload_n 1, 1) := dk_43 (dk_at dksJ5_init_3_0 1 rfl rfl)
theorem dJ5_init_3_2 : decode cJ5_init_3 2 = .ok (.aload_n 2, 1) := dk_44 (dk_at dksJ5_init_3_0 2 rfl rfl)
theorem dJ5_init_3_3 : decode cJ5_init_3 3 = .ok (.iload_n 3, 1) := dk_29 (dk_at dksJ5_init_3_0 3 rfl rfl)
theorem dJ5_init_3_4 : decode cJ5_init_3 4 = .ok (.iload 4, 2) := dk_21 4 (dk_at dksJ5_init_3_0 4 rfl rfl)
theorem dJ5_init_3_6 : decode cJ5_init_3 6 = .ok (.invokespecial 16, 3) := dk_183 0 16 (dk_at dksJ5_init_3_0 6 rfl rfl)
theorem dJ5_init_3_9 : decode cJ5_init_3 9 = .ok (.return_, 1) := dk_177 (dk_at dksJ5_init_3_0 9 rfl rfl)
theorem q127 : (Jvm.Cond.initialized "java/lang/Exception") ∈ lw_all := lw_g (lw_at lw_m1 8 rfl) rfl
theorem q227 : (Jvm.Cond.declares ({ cls := "java/lang/Exception", name := "<init>", desc := "()V" } : Jvm.MethodName)) ∈ lw_tbl := lw_at lw_m1 108 rfl
theorem q228 : (Jvm.Cond.declares ({ cls := "java/lang/Exception", name := "<init>", desc := "(Ljava/lang/String;)V" } : Jvm.MethodName)) ∈ lw_tbl := lw_at lw_m1 109 rfl
theorem q490 : (Jvm.Cond.instanceMethod ({ cls := "java/lang/Exception", name := "<init>", desc := "(Ljava/lang/String;)V" } : Jvm.MethodName)) ∈ lw_all := lw_g (lw_at lw_m2 131 rfl) rfl
theorem q491 : (Jvm.Cond.code ({ cls := "java/lang/Exception", name := "<init>", desc := "(Ljava/lang/String;)V" } : Jvm.MethodName) prog_36_method_2_code (2 : Nat) (Option.none : Option Jvm.ClassFile.FieldType)) ∈ lw_all := lw_g (lw_at lw_m2 132 rfl) rfl
theorem q492 : (Jvm.Cond.methodLink "java/lang/Exception" (7 : Nat) ({ cls := "java/lang/Throwable", name := "<init>", desc := "(Ljava/lang/String;)V" } : Jvm.MethodName)) ∈ lw_all := lw_g (lw_at lw_m2 133 rfl) rfl
theorem q1380 : (Jvm.Cond.instanceMethod ({ cls := "java/lang/Exception", name := "<init>", desc := "()V" } : Jvm.MethodName)) ∈ lw_all := lw_g (lw_at lw_m6 61 rfl) rfl
theorem q1381 : (Jvm.Cond.code ({ cls := "java/lang/Exception", name := "<init>", desc := "()V" } : Jvm.MethodName) prog_36_method_1_code (1 : Nat) (Option.none : Option Jvm.ClassFile.FieldType)) ∈ lw_all := lw_g (lw_at lw_m6 62 rfl) rfl
theorem q1382 : (Jvm.Cond.methodLink "java/lang/Exception" (1 : Nat) ({ cls := "java/lang/Throwable", name := "<init>", desc := "()V" } : Jvm.MethodName)) ∈ lw_all := lw_g (lw_at lw_m6 63 rfl) rfl
theorem q2145 : (Jvm.Cond.instanceMethod ({ cls := "java/lang/Exception", name := "<init>", desc := "(Ljava/lang/String;Ljava/lang/Throwable;ZZ)V" } : Jvm.MethodName)) ∈ lw_all := lw_g (lw_at lw_m9 106 rfl) rfl
theorem q2146 : (Jvm.Cond.code ({ cls := "java/lang/Exception", name := "<init>", desc := "(Ljava/lang/String;Ljava/lang/Throwable;ZZ)V" } : Jvm.MethodName) prog_36_method_5_code (5 : Nat) (Option.none : Option Jvm.ClassFile.FieldType)) ∈ lw_all := lw_g (lw_at lw_m9 107 rfl) rfl
theorem q2147 : (Jvm.Cond.methodLink "java/lang/Exception" (16 : Nat) ({ cls := "java/lang/Throwable", name := "<init>", desc := "(Ljava/lang/String;Ljava/lang/Throwable;ZZ)V" } : Jvm.MethodName)) ∈ lw_all := lw_g (lw_at lw_m9 108 rfl) rfl
/-! java/lang/RuntimeException -/
set_option maxRecDepth 100000
def RJ6 : String := "java/lang/RuntimeException"
abbrev cJ6_init : ByteArray := prog_43_method_2_code
def yJ6_init : MethodName := ⟨RJ6, "<init>", "(Ljava/lang/String;)V"⟩
def dkwJ6_init_0 : List UInt8 := [42, 43, 183, 0, 7, 177]
abbrev dktJ6_init_0 : List UInt8 := dkwJ6_init_0 ++ []
theorem dksJ6_init_0 : cJ6_init.data.toList.drop 0 = dktJ6_init_0 := by decide +kernel
theorem dJ6_init_0 : decode cJ6_init 0 = .ok (.aload_n 0, 1) := dk_42 (dk_at dksJ6_init_0 0 rfl rfl)
theorem dJ6_init_1 : decode cJ6_init 1 = .ok (.aload_n 1, 1) := dk_43 (dk_at dksJ6_init_0 1 rfl rfl)
theorem dJ6_init_2 : decode cJ6_init 2 = .ok (.invokespecial 7, 3) := dk_183 0 7 (dk_at dksJ6_init_0 2 rfl rfl)
theorem dJ6_init_5 : decode cJ6_init 5 = .ok (.return_, 1) := dk_177 (dk_at dksJ6_init_0 5 rfl rfl)
abbrev cJ6_init_2 : ByteArray := prog_43_method_1_code
def yJ6_init_2 : MethodName := ⟨RJ6, "<init>", "()V"⟩
theorem dJ6_init_2_0 : decode cJ6_init_2 0 = .ok (.aload_n 0, 1) := by decide +kernel
theorem dJ6_init_2_1 : decode cJ6_init_2 1 = .ok (.invokespecial 1, 3) := by decide +kernel
theorem dJ6_init_2_4 : decode cJ6_init_2 4 = .ok (.return_, 1) := by decide +kernel
theorem q128 : (Jvm.Cond.initialized "java/lang/RuntimeException") ∈ lw_all := lw_g (lw_at lw_m1 9 rfl) rfl
theorem q225 : (Jvm.Cond.declares ({ cls := "java/lang/RuntimeException", name := "<init>", desc := "()V" } : Jvm.MethodName)) ∈ lw_tbl := lw_at lw_m1 106 rfl
theorem q226 : (Jvm.Cond.declares ({ cls := "java/lang/RuntimeException", name := "<init>", desc := "(Ljava/lang/String;)V" } : Jvm.MethodName)) ∈ lw_tbl := lw_at lw_m1 107 rfl
theorem q487 : (Jvm.Cond.instanceMethod ({ cls := "java/lang/RuntimeException", name := "<init>", desc := "(Ljava/lang/String;)V" } : Jvm.MethodName)) ∈ lw_all := lw_g (lw_at lw_m2 128 rfl) rfl
theorem q488 : (Jvm.Cond.code ({ cls := "java/lang/RuntimeException", name := "<init>", desc := "(Ljava/lang/String;)V" } : Jvm.MethodName) prog_43_method_2_code (2 : Nat) (Option.none : Option Jvm.ClassFile.FieldType)) ∈ lw_all := lw_g (lw_at lw_m2 129 rfl) rfl
theorem q489 : (Jvm.Cond.methodLink "java/lang/RuntimeException" (7 : Nat) ({ cls := "java/lang/Exception", name := "<init>", desc := "(Ljava/lang/String;)V" } : Jvm.MethodName)) ∈ lw_all := lw_g (lw_at lw_m2 130 rfl) rfl
theorem q1377 : (Jvm.Cond.instanceMethod ({ cls := "java/lang/RuntimeException", name := "<init>", desc := "()V" } : Jvm.MethodName)) ∈ lw_all := lw_g (lw_at lw_m6 58 rfl) rfl
theorem q1378 : (Jvm.Cond.code ({ cls := "java/lang/RuntimeException", name := "<init>", desc := "()V" } : Jvm.MethodName) prog_43_method_1_code (1 : Nat) (Option.none : Option Jvm.ClassFile.FieldType)) ∈ lw_all := lw_g (lw_at lw_m6 59 rfl) rfl
theorem q1379 : (Jvm.Cond.methodLink "java/lang/RuntimeException" (1 : Nat) ({ cls := "java/lang/Exception", name := "<init>", desc := "()V" } : Jvm.MethodName)) ∈ lw_all := lw_g (lw_at lw_m6 60 rfl) rfl
/-! java/lang/IllegalArgumentException -/
set_option maxRecDepth 100000
def RJ7 : String := "java/lang/IllegalArgumentException"
def TJ7 : u_T := fun k => match k with
  | 0 => ("java/lang/Throwable", "cause", "Ljava/lang/Throwable;", false)
  | 1 => ("java/lang/Throwable", "stackTrace", "[Ljava/lang/StackTraceElement;", false)
  | 2 => ("java/lang/Throwable", "suppressedExceptions", "Ljava/util/List;", false)
  | 3 => ("java/lang/Throwable", "detailMessage", "Ljava/lang/String;", false)
  | 4 => ("java/lang/Throwable", "backtrace", "Ljava/lang/Object;", false)
  | _ => ("java/lang/Throwable", "depth", "I", false)
def tyJ7 : Nat → FieldType := fun k => match k with
  | 0 => .object "java/lang/Throwable"
  | 1 => .array (.object "java/lang/StackTraceElement")
  | 2 => .object "java/util/List"
  | 3 => .object "java/lang/String"
  | 4 => .object "java/lang/Object"
  | _ => .int
abbrev wsJ70 : List Cond := u_ws RJ7 TJ7 6
theorem nmJ7 : ∀ a, a < 6 → ∀ b, b < 6 → a ≠ b → (TJ7 a).2.1 ≠ (TJ7 b).2.1 := by decide +kernel
theorem tyJ7_ok : ∀ k, k < 6 → parseFieldDescriptor (TJ7 k).2.2.1 = some (tyJ7 k) := by decide +kernel
abbrev cJ7_init : ByteArray := prog_37_method_2_code
def yJ7_init : MethodName := ⟨RJ7, "<init>", "(Ljava/lang/String;)V"⟩
def dkwJ7_init_0 : List UInt8 := [42, 43, 183, 0, 7, 177]
abbrev dktJ7_init_0 : List UInt8 := dkwJ7_init_0 ++ []
theorem dksJ7_init_0 : cJ7_init.data.toList.drop 0 = dktJ7_init_0 := by decide +kernel
theorem dJ7_init_0 : decode cJ7_init 0 = .ok (.aload_n 0, 1) := dk_42 (dk_at dksJ7_init_0 0 rfl rfl)
theorem dJ7_init_1 : decode cJ7_init 1 = .ok (.aload_n 1, 1) := dk_43 (dk_at dksJ7_init_0 1 rfl rfl)
theorem dJ7_init_2 : decode cJ7_init 2 = .ok (.invokespecial 7, 3) := dk_183 0 7 (dk_at dksJ7_init_0 2 rfl rfl)
theorem dJ7_init_5 : decode cJ7_init 5 = .ok (.return_, 1) := dk_177 (dk_at dksJ7_init_0 5 rfl rfl)
abbrev cJ7_init_2 : ByteArray := prog_37_method_1_code
def yJ7_init_2 : MethodName := ⟨RJ7, "<init>", "()V"⟩
theorem dJ7_init_2_0 : decode cJ7_init_2 0 = .ok (.aload_n 0, 1) := by decide +kernel
theorem dJ7_init_2_1 : decode cJ7_init_2 1 = .ok (.invokespecial 1, 3) := by decide +kernel
theorem dJ7_init_2_4 : decode cJ7_init_2 4 = .ok (.return_, 1) := by decide +kernel
theorem q129 : (Jvm.Cond.initialized "java/lang/IllegalArgumentException") ∈ lw_all := lw_g (lw_at lw_m1 10 rfl) rfl
theorem q223 : (Jvm.Cond.instantiable "java/lang/IllegalArgumentException" (6 : Nat)) ∈ lw_all := lw_g (lw_at lw_m1 104 rfl) rfl
theorem q224 : (Jvm.Cond.castable "java/lang/IllegalArgumentException" "java/lang/IllegalArgumentException") ∈ lw_tbl := lw_at lw_m1 105 rfl
theorem q231 : (Jvm.Cond.selects "java/lang/IllegalArgumentException" ({ cls := "java/lang/Throwable", name := "fillInStackTrace", desc := "(I)Ljava/lang/Throwable;" } : Jvm.MethodName) ({ cls := "java/lang/Throwable", name := "fillInStackTrace", desc := "(I)Ljava/lang/Throwable;" } : Jvm.MethodName)) ∈ lw_all := lw_g (lw_at lw_m1 112 rfl) rfl
theorem q232 : (Jvm.Cond.selects "java/lang/IllegalArgumentException" ({ cls := "java/lang/Throwable", name := "fillInStackTrace", desc := "()Ljava/lang/Throwable;" } : Jvm.MethodName) ({ cls := "java/lang/Throwable", name := "fillInStackTrace", desc := "()Ljava/lang/Throwable;" } : Jvm.MethodName)) ∈ lw_all := lw_g (lw_at lw_m1 113 rfl) rfl
theorem q233 : (Jvm.Cond.lays "java/lang/IllegalArgumentException" "java/lang/Throwable" "cause" "Ljava/lang/Throwable;") ∈ lw_all := lw_g (lw_at lw_m1 114 rfl) rfl
theorem q235 : (Jvm.Cond.lays "java/lang/IllegalArgumentException" "java/lang/Throwable" "stackTrace" "[Ljava/lang/StackTraceElement;") ∈ lw_all := lw_g (lw_at lw_m1 116 rfl) rfl
theorem q237 : (Jvm.Cond.lays "java/lang/IllegalArgumentException" "java/lang/Throwable" "suppressedExceptions" "Ljava/util/List;") ∈ lw_all := lw_g (lw_at lw_m1 118 rfl) rfl
theorem q239 : (Jvm.Cond.lays "java/lang/IllegalArgumentException" "java/lang/Throwable" "detailMessage" "Ljava/lang/String;") ∈ lw_all := lw_g (lw_at lw_m1 120 rfl) rfl
theorem q241 : (Jvm.Cond.lays "java/lang/IllegalArgumentException" "java/lang/Throwable" "backtrace" "Ljava/lang/Object;") ∈ lw_all := lw_g (lw_at lw_m1 122 rfl) rfl
theorem q484 : (Jvm.Cond.instanceMethod ({ cls := "java/lang/IllegalArgumentException", name := "<init>", desc := "(Ljava/lang/String;)V" } : Jvm.MethodName)) ∈ lw_all := lw_g (lw_at lw_m2 125 rfl) rfl
theorem q485 : (Jvm.Cond.code ({ cls := "java/lang/IllegalArgumentException", name := "<init>", desc := "(Ljava/lang/String;)V" } : Jvm.MethodName) prog_37_method_2_code (2 : Nat) (Option.none : Option Jvm.ClassFile.FieldType)) ∈ lw_all := lw_g (lw_at lw_m2 126 rfl) rfl
theorem q486 : (Jvm.Cond.methodLink "java/lang/IllegalArgumentException" (7 : Nat) ({ cls := "java/lang/RuntimeException", name := "<init>", desc := "(Ljava/lang/String;)V" } : Jvm.MethodName)) ∈ lw_all := lw_g (lw_at lw_m2 127 rfl) rfl
theorem q504 : (Jvm.Cond.lays "java/lang/IllegalArgumentException" "java/lang/Throwable" "depth" "I") ∈ lw_all := lw_g (lw_at lw_m2 145 rfl) rfl
theorem q507 : (Jvm.Cond.superclass "java/lang/IllegalArgumentException" "java/lang/RuntimeException") ∈ lw_all := lw_g (lw_at lw_m2 148 rfl) rfl
theorem q715 : (Jvm.Cond.selects "java/lang/IllegalArgumentException" ({ cls := "java/lang/Object", name := "getClass", desc := "()Ljava/lang/Class;" } : Jvm.MethodName) ({ cls := "java/lang/Object", name := "getClass", desc := "()Ljava/lang/Class;" } : Jvm.MethodName)) ∈ lw_all := lw_g (lw_at lw_m3 116 rfl) rfl
theorem q780 : (Jvm.Cond.selects "java/lang/IllegalArgumentException" ({ cls := "java/lang/Object", name := "hashCode", desc := "()I" } : Jvm.MethodName) ({ cls := "java/lang/Object", name := "hashCode", desc := "()I" } : Jvm.MethodName)) ∈ lw_all := lw_g (lw_at lw_m3 181 rfl) rfl
theorem q1184 : (Jvm.Cond.selects "java/lang/IllegalArgumentException" ({ cls := "java/lang/Object", name := "equals", desc := "(Ljava/lang/Object;)Z" } : Jvm.MethodName) ({ cls := "java/lang/Object", name := "equals", desc := "(Ljava/lang/Object;)Z" } : Jvm.MethodName)) ∈ lw_all := lw_g (lw_at lw_m5 105 rfl) rfl
theorem q2050 : (Jvm.Cond.instanceMethod ({ cls := "java/lang/IllegalArgumentException", name := "<init>", desc := "()V" } : Jvm.MethodName)) ∈ lw_all := lw_g (lw_at lw_m9 11 rfl) rfl
theorem q2051 : (Jvm.Cond.code ({ cls := "java/lang/IllegalArgumentException", name := "<init>", desc := "()V" } : Jvm.MethodName) prog_37_method_1_code (1 : Nat) (Option.none : Option Jvm.ClassFile.FieldType)) ∈ lw_all := lw_g (lw_at lw_m9 12 rfl) rfl
theorem q2052 : (Jvm.Cond.methodLink "java/lang/IllegalArgumentException" (1 : Nat) ({ cls := "java/lang/RuntimeException", name := "<init>", desc := "()V" } : Jvm.MethodName)) ∈ lw_all := lw_g (lw_at lw_m9 13 rfl) rfl
theorem q3437 : (Jvm.Cond.castable "java/lang/IllegalArgumentException" "java/lang/Object") ∈ lw_tbl := lw_at lw_m14 198 rfl
theorem in_J7 : ∀ w ∈ wsJ70, w ∈ lw_all := lw_in wsJ70 [233, 235, 237, 239, 241, 504] (by decide +kernel) (by decide +kernel)
/-! java/lang/AbstractStringBuilder -/
set_option maxRecDepth 100000
def RJ8 : String := "java/lang/AbstractStringBuilder"
abbrev cJ8_init : ByteArray := prog_30_method_2_code
def yJ8_init : MethodName := ⟨RJ8, "<init>", "(I)V"⟩
def dkwJ8_init_1 : List UInt8 := [167, 0, 16, 42, 27, 184, 0, 26, 181, 0, 15, 42, 4, 181, 0, 22, 177]
abbrev dktJ8_init_1 : List UInt8 := dkwJ8_init_1 ++ []
def dkwJ8_init_0 : List UInt8 := [42, 183, 0, 3, 178, 0, 18, 153, 0, 18, 42, 27, 188, 8, 181, 0, 15, 42, 3, 181, 0, 22]
abbrev dktJ8_init_0 : List UInt8 := dkwJ8_init_0 ++ dktJ8_init_1
theorem dksJ8_init_0 : cJ8_init.data.toList.drop 0 = dktJ8_init_0 := by decide +kernel
theorem dksJ8_init_1 : cJ8_init.data.toList.drop 22 = dktJ8_init_1 := dk_seg dksJ8_init_0 22 rfl rfl
theorem dJ8_init_0 : decode cJ8_init 0 = .ok (.aload_n 0, 1) := dk_42 (dk_at dksJ8_init_0 0 rfl rfl)
theorem dJ8_init_1 : decode cJ8_init 1 = .ok (.invokespecial 3, 3) := dk_183 0 3 (dk_at dksJ8_init_0 1 rfl rfl)
theorem dJ8_init_4 : decode cJ8_init 4 = .ok (.getstatic 18, 3) := dk_178 0 18 (dk_at dksJ8_init_0 4 rfl rfl)
theorem dJ8_init_7 : decode cJ8_init 7 = .ok (.ifCond .eq 18, 3) := dk_153 0 18 (dk_at dksJ8_init_0 7 rfl rfl)
theorem dJ8_init_10 : decode cJ8_init 10 = .ok (.aload_n 0, 1) := dk_42 (dk_at dksJ8_init_0 10 rfl rfl)
theorem dJ8_init_11 : decode cJ8_init 11 = .ok (.iload_n 1, 1) := dk_27 (dk_at dksJ8_init_0 11 rfl rfl)
theorem dJ8_init_12 : decode cJ8_init 12 = .ok (.newarray .byte, 2) := dk_188_8 (dk_at dksJ8_init_0 12 rfl rfl)
theorem dJ8_init_14 : decode cJ8_init 14 = .ok (.putfield 15, 3) := dk_181 0 15 (dk_at dksJ8_init_0 14 rfl rfl)
theorem dJ8_init_17 : decode cJ8_init 17 = .ok (.aload_n 0, 1) := dk_42 (dk_at dksJ8_init_0 17 rfl rfl)
theorem dJ8_init_18 : decode cJ8_init 18 = .ok (.iconst 0, 1) := dk_3 (dk_at dksJ8_init_0 18 rfl rfl)
theorem dJ8_init_19 : decode cJ8_init 19 = .ok (.putfield 22, 3) := dk_181 0 22 (dk_at dksJ8_init_0 19 rfl rfl)
theorem dJ8_init_22 : decode cJ8_init 22 = .ok (.goto 16, 3) := dk_167 0 16 (dk_at dksJ8_init_1 0 rfl rfl)
theorem dJ8_init_25 : decode cJ8_init 25 = .ok (.aload_n 0, 1) := dk_42 (dk_at dksJ8_init_1 3 rfl rfl)
theorem dJ8_init_26 : decode cJ8_init 26 = .ok (.iload_n 1, 1) := dk_27 (dk_at dksJ8_init_1 4 rfl rfl)
theorem dJ8_init_27 : decode cJ8_init 27 = .ok (.invokestatic 26, 3) := dk_184 0 26 (dk_at dksJ8_init_1 5 rfl rfl)
theorem dJ8_init_30 : decode cJ8_init 30 = .ok (.putfield 15, 3) := dk_181 0 15 (dk_at dksJ8_init_1 8 rfl rfl)
theorem dJ8_init_33 : decode cJ8_init 33 = .ok (.aload_n 0, 1) := dk_42 (dk_at dksJ8_init_1 11 rfl rfl)
theorem dJ8_init_34 : decode cJ8_init 34 = .ok (.iconst 1, 1) := dk_4 (dk_at dksJ8_init_1 12 rfl rfl)
theorem dJ8_init_35 : decode cJ8_init 35 = .ok (.putfield 22, 3) := dk_181 0 22 (dk_at dksJ8_init_1 13 rfl rfl)
theorem dJ8_init_38 : decode cJ8_init 38 = .ok (.return_, 1) := dk_177 (dk_at dksJ8_init_1 16 rfl rfl)
abbrev cJ8_append : ByteArray := prog_30_method_22_code
def yJ8_append : MethodName := ⟨RJ8, "append", "(Ljava/lang/String;)Ljava/lang/AbstractStringBuilder;"⟩
def dkwJ8_append_1 : List UInt8 := [42, 42, 180, 0, 79, 43, 182, 0, 208, 42, 89, 180, 0, 79, 28, 96, 181, 0, 79, 42, 176]
abbrev dktJ8_append_1 : List UInt8 := dkwJ8_append_1 ++ []
def dkwJ8_append_0 : List UInt8 := [43, 199, 0, 8, 42, 182, 0, 204, 176, 43, 182, 0, 32, 61, 42, 42, 180, 0, 79, 28, 96, 182, 0, 100]
abbrev dktJ8_append_0 : List UInt8 := dkwJ8_append_0 ++ dktJ8_append_1
theorem dksJ8_append_0 : cJ8_append.data.toList.drop 0 = dktJ8_append_0 := by decide +kernel
theorem dksJ8_append_1 : cJ8_append.data.toList.drop 24 = dktJ8_append_1 := dk_seg dksJ8_append_0 24 rfl rfl
theorem dJ8_append_0 : decode cJ8_append 0 = .ok (.aload_n 1, 1) := dk_43 (dk_at dksJ8_append_0 0 rfl rfl)
theorem dJ8_append_1 : decode cJ8_append 1 = .ok (.ifnonnull 8, 3) := dk_199 0 8 (dk_at dksJ8_append_0 1 rfl rfl)
theorem dJ8_append_4 : decode cJ8_append 4 = .ok (.aload_n 0, 1) := dk_42 (dk_at dksJ8_append_0 4 rfl rfl)
theorem dJ8_append_5 : decode cJ8_append 5 = .ok (.invokevirtual 204, 3) := dk_182 0 204 (dk_at dksJ8_append_0 5 rfl rfl)
theorem dJ8_append_8 : decode cJ8_append 8 = .ok (.areturn, 1) := dk_176 (dk_at dksJ8_append_0 8 rfl rfl)
theorem dJ8_append_9 : decode cJ8_append 9 = .ok (.aload_n 1, 1) := dk_43 (dk_at dksJ8_append_0 9 rfl rfl)
theorem dJ8_append_10 : decode cJ8_append 10 = .ok (.invokevirtual 32, 3) := dk_182 0 32 (dk_at dksJ8_append_0 10 rfl rfl)
theorem dJ8_append_13 : decode cJ8_append 13 = .ok (.istore_n 2, 1) := dk_61 (dk_at dksJ8_append_0 13 rfl rfl)
theorem dJ8_append_14 : decode cJ8_append 14 = .ok (.aload_n 0, 1) := dk_42 (dk_at dksJ8_append_0 14 rfl rfl)
theorem dJ8_append_15 : decode cJ8_append 15 = .ok (.aload_n 0, 1) := dk_42 (dk_at dksJ8_append_0 15 rfl rfl)
theorem dJ8_append_16 : decode cJ8_append 16 = .ok (.getfield 79, 3) := dk_180 0 79 (dk_at dksJ8_append_0 16 rfl rfl)
theorem dJ8_append_19 : decode cJ8_append 19 = .ok (.iload_n 2, 1) := dk_28 (dk_at dksJ8_append_0 19 rfl rfl)
theorem dJ8_append_20 : decode cJ8_append 20 = .ok (.iadd, 1) := dk_96 (dk_at dksJ8_append_0 20 rfl rfl)
theorem dJ8_append_21 : decode cJ8_append 21 = .ok (.invokevirtual 100, 3) := dk_182 0 100 (dk_at dksJ8_append_0 21 rfl rfl)
theorem dJ8_append_24 : decode cJ8_append 24 = .ok (.aload_n 0, 1) := dk_42 (dk_at dksJ8_append_1 0 rfl rfl)
theorem dJ8_append_25 : decode cJ8_append 25 = .ok (.aload_n 0, 1) := dk_42 (dk_at dksJ8_append_1 1 rfl rfl)
theorem dJ8_append_26 : decode cJ8_append 26 = .ok (.getfield 79, 3) := dk_180 0 79 (dk_at dksJ8_append_1 2 rfl rfl)
theorem dJ8_append_29 : decode cJ8_append 29 = .ok (.aload_n 1, 1) := dk_43 (dk_at dksJ8_append_1 5 rfl rfl)
theorem dJ8_append_30 : decode cJ8_append 30 = .ok (.invokevirtual 208, 3) := dk_182 0 208 (dk_at dksJ8_append_1 6 rfl rfl)
theorem dJ8_append_33 : decode cJ8_append 33 = .ok (.aload_n 0, 1) := dk_42 (dk_at dksJ8_append_1 9 rfl rfl)
theorem dJ8_append_34 : decode cJ8_append 34 = .ok (.dup, 1) := dk_89 (dk_at dksJ8_append_1 10 rfl rfl)
theorem dJ8_append_35 : decode cJ8_append 35 = .ok (.getfield 79, 3) := dk_180 0 79 (dk_at dksJ8_append_1 11 rfl rfl)
theorem dJ8_append_38 : decode cJ8_append 38 = .ok (.iload_n 2, 1) := dk_28 (dk_at dksJ8_append_1 14 rfl rfl)
theorem dJ8_append_39 : decode cJ8_append 39 = .ok (.iadd, 1) := dk_96 (dk_at dksJ8_append_1 15 rfl rfl)
theorem dJ8_append_40 : decode cJ8_append 40 = .ok (.putfield 79, 3) := dk_181 0 79 (dk_at dksJ8_append_1 16 rfl rfl)
theorem dJ8_append_43 : decode cJ8_append 43 = .ok (.aload_n 0, 1) := dk_42 (dk_at dksJ8_append_1 19 rfl rfl)
theorem dJ8_append_44 : decode cJ8_append 44 = .ok (.areturn, 1) := dk_176 (dk_at dksJ8_append_1 20 rfl rfl)
abbrev cJ8_appendNull : ByteArray := prog_30_method_26_code
def yJ8_appendNull : MethodName := ⟨RJ8, "appendNull", "()Ljava/lang/AbstractStringBuilder;"⟩
def dkwJ8_appendNull_3 : List UInt8 := [184, 0, 226, 60, 42, 27, 181, 0, 79, 42, 176]
abbrev dktJ8_appendNull_3 : List UInt8 := dkwJ8_appendNull_3 ++ []
def dkwJ8_appendNull_2 : List UInt8 := [16, 108, 84, 44, 27, 132, 1, 1, 16, 108, 84, 167, 0, 17, 44, 27, 16, 110, 16, 117, 16, 108, 16, 108]
abbrev dktJ8_appendNull_2 : List UInt8 := dkwJ8_appendNull_2 ++ dktJ8_appendNull_3
def dkwJ8_appendNull_1 : List UInt8 := [153, 0, 38, 44, 27, 132, 1, 1, 16, 110, 84, 44, 27, 132, 1, 1, 16, 117, 84, 44, 27, 132, 1, 1]
abbrev dktJ8_appendNull_1 : List UInt8 := dkwJ8_appendNull_1 ++ dktJ8_appendNull_2
def dkwJ8_appendNull_0 : List UInt8 := [42, 42, 180, 0, 79, 7, 96, 182, 0, 100, 42, 180, 0, 79, 60, 42, 180, 0, 15, 77, 42, 182, 0, 83]
abbrev dktJ8_appendNull_0 : List UInt8 := dkwJ8_appendNull_0 ++ dktJ8_appendNull_1
theorem dksJ8_appendNull_0 : cJ8_appendNull.data.toList.drop 0 = dktJ8_appendNull_0 := by decide +kernel
theorem dksJ8_appendNull_1 : cJ8_appendNull.data.toList.drop 24 = dktJ8_appendNull_1 := dk_seg dksJ8_appendNull_0 24 rfl rfl
theorem dksJ8_appendNull_2 : cJ8_appendNull.data.toList.drop 48 = dktJ8_appendNull_2 := dk_seg dksJ8_appendNull_1 24 rfl rfl
theorem dksJ8_appendNull_3 : cJ8_appendNull.data.toList.drop 72 = dktJ8_appendNull_3 := dk_seg dksJ8_appendNull_2 24 rfl rfl
theorem dJ8_appendNull_0 : decode cJ8_appendNull 0 = .ok (.aload_n 0, 1) := dk_42 (dk_at dksJ8_appendNull_0 0 rfl rfl)
theorem dJ8_appendNull_1 : decode cJ8_appendNull 1 = .ok (.aload_n 0, 1) := dk_42 (dk_at dksJ8_appendNull_0 1 rfl rfl)
theorem dJ8_appendNull_2 : decode cJ8_appendNull 2 = .ok (.getfield 79, 3) := dk_180 0 79 (dk_at dksJ8_appendNull_0 2 rfl rfl)
theorem dJ8_appendNull_5 : decode cJ8_appendNull 5 = .ok (.iconst 4, 1) := dk_7 (dk_at dksJ8_appendNull_0 5 rfl rfl)
theorem dJ8_appendNull_6 : decode cJ8_appendNull 6 = .ok (.iadd, 1) := dk_96 (dk_at dksJ8_appendNull_0 6 rfl rfl)
theorem dJ8_appendNull_7 : decode cJ8_appendNull 7 = .ok (.invokevirtual 100, 3) := dk_182 0 100 (dk_at dksJ8_appendNull_0 7 rfl rfl)
theorem dJ8_appendNull_10 : decode cJ8_appendNull 10 = .ok (.aload_n 0, 1) := dk_42 (dk_at dksJ8_appendNull_0 10 rfl rfl)
theorem dJ8_appendNull_11 : decode cJ8_appendNull 11 = .ok (.getfield 79, 3) := dk_180 0 79 (dk_at dksJ8_appendNull_0 11 rfl rfl)
theorem dJ8_appendNull_14 : decode cJ8_appendNull 14 = .ok (.istore_n 1, 1) := dk_60 (dk_at dksJ8_appendNull_0 14 rfl rfl)
theorem dJ8_appendNull_15 : decode cJ8_appendNull 15 = .ok (.aload_n 0, 1) := dk_42 (dk_at dksJ8_appendNull_0 15 rfl rfl)
theorem dJ8_appendNull_16 : decode cJ8_appendNull 16 = .ok (.getfield 15, 3) := dk_180 0 15 (dk_at dksJ8_appendNull_0 16 rfl rfl)
theorem dJ8_appendNull_19 : decode cJ8_appendNull 19 = .ok (.astore_n 2, 1) := dk_77 (dk_at dksJ8_appendNull_0 19 rfl rfl)
theorem dJ8_appendNull_20 : decode cJ8_appendNull 20 = .ok (.aload_n 0, 1) := dk_42 (dk_at dksJ8_appendNull_0 20 rfl rfl)
theorem dJ8_appendNull_21 : decode cJ8_appendNull 21 = .ok (.invokevirtual 83, 3) := dk_182 0 83 (dk_at dksJ8_appendNull_0 21 rfl rfl)
theorem dJ8_appendNull_24 : decode cJ8_appendNull 24 = .ok (.ifCond .eq 38, 3) := dk_153 0 38 (dk_at dksJ8_appendNull_1 0 rfl rfl)
theorem dJ8_appendNull_27 : decode cJ8_appendNull 27 = .ok (.aload_n 2, 1) := dk_44 (dk_at dksJ8_appendNull_1 3 rfl rfl)
theorem dJ8_appendNull_28 : decode cJ8_appendNull 28 = .ok (.iload_n 1, 1) := dk_27 (dk_at dksJ8_appendNull_1 4 rfl rfl)
theorem dJ8_appendNull_29 : decode cJ8_appendNull 29 = .ok (.iinc 1 1, 3) := dk_132 1 1 (dk_at dksJ8_appendNull_1 5 rfl rfl)
theorem dJ8_appendNull_32 : decode cJ8_appendNull 32 = .ok (.bipush 110, 2) := dk_16 110 (dk_at dksJ8_appendNull_1 8 rfl rfl)
theorem dJ8_appendNull_34 : decode cJ8_appendNull 34 = .ok (.bastore, 1) := dk_84 (dk_at dksJ8_appendNull_1 10 rfl rfl)
theorem dJ8_appendNull_35 : decode cJ8_appendNull 35 = .ok (.aload_n 2, 1) := dk_44 (dk_at dksJ8_appendNull_1 11 rfl rfl)
theorem dJ8_appendNull_36 : decode cJ8_appendNull 36 = .ok (.iload_n 1, 1) := dk_27 (dk_at dksJ8_appendNull_1 12 rfl rfl)
theorem dJ8_appendNull_37 : decode cJ8_appendNull 37 = .ok (.iinc 1 1, 3) := dk_132 1 1 (dk_at dksJ8_appendNull_1 13 rfl rfl)
theorem dJ8_appendNull_40 : decode cJ8_appendNull 40 = .ok (.bipush 117, 2) := dk_16 117 (dk_at dksJ8_appendNull_1 16 rfl rfl)
theorem dJ8_appendNull_42 : decode cJ8_appendNull 42 = .ok (.bastore, 1) := dk_84 (dk_at dksJ8_appendNull_1 18 rfl rfl)
theorem dJ8_appendNull_43 : decode cJ8_appendNull 43 = .ok (.aload_n 2, 1) := dk_44 (dk_at dksJ8_appendNull_1 19 rfl rfl)
theorem dJ8_appendNull_44 : decode cJ8_appendNull 44 = .ok (.iload_n 1, 1) := dk_27 (dk_at dksJ8_appendNull_1 20 rfl rfl)
theorem dJ8_appendNull_45 : decode cJ8_appendNull 45 = .ok (.iinc 1 1, 3) := dk_132 1 1 (dk_at dksJ8_appendNull_1 21 rfl rfl)
theorem dJ8_appendNull_48 : decode cJ8_appendNull 48 = .ok (.bipush 108, 2) := dk_16 108 (dk_at dksJ8_appendNull_2 0 rfl rfl)
theorem dJ8_appendNull_50 : decode cJ8_appendNull 50 = .ok (.bastore, 1) := dk_84 (dk_at dksJ8_appendNull_2 2 rfl rfl)
theorem dJ8_appendNull_51 : decode cJ8_appendNull 51 = .ok (.aload_n 2, 1) := dk_44 (dk_at dksJ8_appendNull_2 3 rfl rfl)
theorem dJ8_appendNull_52 : decode cJ8_appendNull 52 = .ok (.iload_n 1, 1) := dk_27 (dk_at dksJ8_appendNull_2 4 rfl rfl)
theorem dJ8_appendNull_53 : decode cJ8_appendNull 53 = .ok (.iinc 1 1, 3) := dk_132 1 1 (dk_at dksJ8_appendNull_2 5 rfl rfl)
theorem dJ8_appendNull_56 : decode cJ8_appendNull 56 = .ok (.bipush 108, 2) := dk_16 108 (dk_at dksJ8_appendNull_2 8 rfl rfl)
theorem dJ8_appendNull_58 : decode cJ8_appendNull 58 = .ok (.bastore, 1) := dk_84 (dk_at dksJ8_appendNull_2 10 rfl rfl)
theorem dJ8_appendNull_59 : decode cJ8_appendNull 59 = .ok (.goto 17, 3) := dk_167 0 17 (dk_at dksJ8_appendNull_2 11 rfl rfl)
theorem dJ8_appendNull_62 : decode cJ8_appendNull 62 = .ok (.aload_n 2, 1) := dk_44 (dk_at dksJ8_appendNull_2 14 rfl rfl)
theorem dJ8_appendNull_63 : decode cJ8_appendNull 63 = .ok (.iload_n 1, 1) := dk_27 (dk_at dksJ8_appendNull_2 15 rfl rfl)
theorem dJ8_appendNull_64 : decode cJ8_appendNull 64 = .ok (.bipush 110, 2) := dk_16 110 (dk_at dksJ8_appendNull_2 16 rfl rfl)
theorem dJ8_appendNull_66 : decode cJ8_appendNull 66 = .ok (.bipush 117, 2) := dk_16 117 (dk_at dksJ8_appendNull_2 18 rfl rfl)
theorem dJ8_appendNull_68 : decode cJ8_appendNull 68 = .ok (.bipush 108, 2) := dk_16 108 (dk_at dksJ8_appendNull_2 20 rfl rfl)
theorem dJ8_appendNull_70 : decode cJ8_appendNull 70 = .ok (.bipush 108, 2) := dk_16 108 (dk_at dksJ8_appendNull_2 22 rfl rfl)
theorem dJ8_appendNull_72 : decode cJ8_appendNull 72 = .ok (.invokestatic 226, 3) := dk_184 0 226 (dk_at dksJ8_appendNull_3 0 rfl rfl)
theorem dJ8_appendNull_75 : decode cJ8_appendNull 75 = .ok (.istore_n 1, 1) := dk_60 (dk_at dksJ8_appendNull_3 3 rfl rfl)
theorem dJ8_appendNull_76 : decode cJ8_appendNull 76 = .ok (.aload_n 0, 1) := dk_42 (dk_at dksJ8_appendNull_3 4 rfl rfl)
theorem dJ8_appendNull_77 : decode cJ8_appendNull 77 = .ok (.iload_n 1, 1) := dk_27 (dk_at dksJ8_appendNull_3 5 rfl rfl)
theorem dJ8_appendNull_78 : decode cJ8_appendNull 78 = .ok (.putfield 79, 3) := dk_181 0 79 (dk_at dksJ8_appendNull_3 6 rfl rfl)
theorem dJ8_appendNull_81 : decode cJ8_appendNull 81 = .ok (.aload_n 0, 1) := dk_42 (dk_at dksJ8_appendNull_3 9 rfl rfl)
theorem dJ8_appendNull_82 : decode cJ8_appendNull 82 = .ok (.areturn, 1) := dk_176 (dk_at dksJ8_appendNull_3 10 rfl rfl)
abbrev cJ8_ensureCapacityInternal : ByteArray := prog_30_method_9_code
def yJ8_ensureCapacityInternal : MethodName := ⟨RJ8, "ensureCapacityInternal", "(I)V"⟩
def dkwJ8_ensureCapacityInternal_1 : List UInt8 := [182, 0, 104, 42, 180, 0, 22, 120, 184, 0, 108, 181, 0, 15, 177]
abbrev dktJ8_ensureCapacityInternal_1 : List UInt8 := dkwJ8_ensureCapacityInternal_1 ++ []
def dkwJ8_ensureCapacityInternal_0 : List UInt8 := [42, 180, 0, 15, 190, 42, 180, 0, 22, 122, 61, 27, 28, 100, 158, 0, 24, 42, 42, 180, 0, 15, 42, 27]
abbrev dktJ8_ensureCapacityInternal_0 : List UInt8 := dkwJ8_ensureCapacityInternal_0 ++ dktJ8_ensureCapacityInternal_1
theorem dksJ8_ensureCapacityInternal_0 : cJ8_ensureCapacityInternal.data.toList.drop 0 = dktJ8_ensureCapacityInternal_0 := by decide +kernel
theorem dksJ8_ensureCapacityInternal_1 : cJ8_ensureCapacityInternal.data.toList.drop 24 = dktJ8_ensureCapacityInternal_1 := dk_seg dksJ8_ensureCapacityInternal_0 24 rfl rfl
theorem dJ8_ensureCapacityInternal_0 : decode cJ8_ensureCapacityInternal 0 = .ok (.aload_n 0, 1) := dk_42 (dk_at dksJ8_ensureCapacityInternal_0 0 rfl rfl)
theorem dJ8_ensureCapacityInternal_1 : decode cJ8_ensureCapacityInternal 1 = .ok (.getfield 15, 3) := dk_180 0 15 (dk_at dksJ8_ensureCapacityInternal_0 1 rfl rfl)
theorem dJ8_ensureCapacityInternal_4 : decode cJ8_ensureCapacityInternal 4 = .ok (.arraylength, 1) := dk_190 (dk_at dksJ8_ensureCapacityInternal_0 4 rfl rfl)
theorem dJ8_ensureCapacityInternal_5 : decode cJ8_ensureCapacityInternal 5 = .ok (.aload_n 0, 1) := dk_42 (dk_at dksJ8_ensureCapacityInternal_0 5 rfl rfl)
theorem dJ8_ensureCapacityInternal_6 : decode cJ8_ensureCapacityInternal 6 = .ok (.getfield 22, 3) := dk_180 0 22 (dk_at dksJ8_ensureCapacityInternal_0 6 rfl rfl)
theorem dJ8_ensureCapacityInternal_9 : decode cJ8_ensureCapacityInternal 9 = .ok (.ishr, 1) := dk_122 (dk_at dksJ8_ensureCapacityInternal_0 9 rfl rfl)
theorem dJ8_ensureCapacityInternal_10 : decode cJ8_ensureCapacityInternal 10 = .ok (.istore_n 2, 1) := dk_61 (dk_at dksJ8_ensureCapacityInternal_0 10 rfl rfl)
theorem dJ8_ensureCapacityInternal_11 : decode cJ8_ensureCapacityInternal 11 = .ok (.iload_n 1, 1) := dk_27 (dk_at dksJ8_ensureCapacityInternal_0 11 rfl rfl)
theorem dJ8_ensureCapacityInternal_12 : decode cJ8_ensureCapacityInternal 12 = .ok (.iload_n 2, 1) := dk_28 (dk_at dksJ8_ensureCapacityInternal_0 12 rfl rfl)
theorem dJ8_ensureCapacityInternal_13 : decode cJ8_ensureCapacityInternal 13 = .ok (.isub, 1) := dk_100 (dk_at dksJ8_ensureCapacityInternal_0 13 rfl rfl)
theorem dJ8_ensureCapacityInternal_14 : decode cJ8_ensureCapacityInternal 14 = .ok (.ifCond .le 24, 3) := dk_158 0 24 (dk_at dksJ8_ensureCapacityInternal_0 14 rfl rfl)
theorem dJ8_ensureCapacityInternal_17 : decode cJ8_ensureCapacityInternal 17 = .ok (.aload_n 0, 1) := dk_42 (dk_at dksJ8_ensureCapacityInternal_0 17 rfl rfl)
theorem dJ8_ensureCapacityInternal_18 : decode cJ8_ensureCapacityInternal 18 = .ok (.aload_n 0, 1) := dk_42 (dk_at dksJ8_ensureCapacityInternal_0 18 rfl rfl)
theorem dJ8_ensureCapacityInternal_19 : decode cJ8_ensureCapacityInternal 19 = .ok (.getfield 15, 3) := dk_180 0 15 (dk_at dksJ8_ensureCapacityInternal_0 19 rfl rfl)
theorem dJ8_ensureCapacityInternal_22 : decode cJ8_ensureCapacityInternal 22 = .ok (.aload_n 0, 1) := dk_42 (dk_at dksJ8_ensureCapacityInternal_0 22 rfl rfl)
theorem dJ8_ensureCapacityInternal_23 : decode cJ8_ensureCapacityInternal 23 = .ok (.iload_n 1, 1) := dk_27 (dk_at dksJ8_ensureCapacityInternal_0 23 rfl rfl)
theorem dJ8_ensureCapacityInternal_24 : decode cJ8_ensureCapacityInternal 24 = .ok (.invokevirtual 104, 3) := dk_182 0 104 (dk_at dksJ8_ensureCapacityInternal_1 0 rfl rfl)
theorem dJ8_ensureCapacityInternal_27 : decode cJ8_ensureCapacityInternal 27 = .ok (.aload_n 0, 1) := dk_42 (dk_at dksJ8_ensureCapacityInternal_1 3 rfl rfl)
theorem dJ8_ensureCapacityInternal_28 : decode cJ8_ensureCapacityInternal 28 = .ok (.getfield 22, 3) := dk_180 0 22 (dk_at dksJ8_ensureCapacityInternal_1 4 rfl rfl)
theorem dJ8_ensureCapacityInternal_31 : decode cJ8_ensureCapacityInternal 31 = .ok (.ishl, 1) := dk_120 (dk_at dksJ8_ensureCapacityInternal_1 7 rfl rfl)
theorem dJ8_ensureCapacityInternal_32 : decode cJ8_ensureCapacityInternal 32 = .ok (.invokestatic 108, 3) := dk_184 0 108 (dk_at dksJ8_ensureCapacityInternal_1 8 rfl rfl)
theorem dJ8_ensureCapacityInternal_35 : decode cJ8_ensureCapacityInternal 35 = .ok (.putfield 15, 3) := dk_181 0 15 (dk_at dksJ8_ensureCapacityInternal_1 11 rfl rfl)
theorem dJ8_ensureCapacityInternal_38 : decode cJ8_ensureCapacityInternal 38 = .ok (.return_, 1) := dk_177 (dk_at dksJ8_ensureCapacityInternal_1 14 rfl rfl)
abbrev cJ8_newCapacity : ByteArray := prog_30_method_10_code
def yJ8_newCapacity : MethodName := ⟨RJ8, "newCapacity", "(I)I"⟩
def dkwJ8_newCapacity_2 : List UInt8 := [183, 0, 124, 191, 21, 5, 42, 180, 0, 22, 122, 172]
abbrev dktJ8_newCapacity_2 : List UInt8 := dkwJ8_newCapacity_2 ++ []
def dkwJ8_newCapacity_1 : List UInt8 := [180, 0, 22, 120, 96, 184, 0, 114, 54, 5, 21, 5, 18, 39, 160, 0, 13, 187, 0, 120, 89, 18, 122]
abbrev dktJ8_newCapacity_1 : List UInt8 := dkwJ8_newCapacity_1 ++ dktJ8_newCapacity_2
def dkwJ8_newCapacity_0 : List UInt8 := [42, 180, 0, 15, 190, 61, 27, 42, 180, 0, 22, 120, 62, 29, 28, 100, 54, 4, 28, 21, 4, 28, 5, 42]
abbrev dktJ8_newCapacity_0 : List UInt8 := dkwJ8_newCapacity_0 ++ dktJ8_newCapacity_1
theorem dksJ8_newCapacity_0 : cJ8_newCapacity.data.toList.drop 0 = dktJ8_newCapacity_0 := by decide +kernel
theorem dksJ8_newCapacity_1 : cJ8_newCapacity.data.toList.drop 24 = dktJ8_newCapacity_1 := dk_seg dksJ8_newCapacity_0 24 rfl rfl
theorem dksJ8_newCapacity_2 : cJ8_newCapacity.data.toList.drop 47 = dktJ8_newCapacity_2 := dk_seg dksJ8_newCapacity_1 23 rfl rfl
theorem dJ8_newCapacity_0 : decode cJ8_newCapacity 0 = .ok (.aload_n 0, 1) := dk_42 (dk_at dksJ8_newCapacity_0 0 rfl rfl)
theorem dJ8_newCapacity_1 : decode cJ8_newCapacity 1 = .ok (.getfield 15, 3) := dk_180 0 15 (dk_at dksJ8_newCapacity_0 1 rfl rfl)
theorem dJ8_newCapacity_4 : decode cJ8_newCapacity 4 = .ok (.arraylength, 1) := dk_190 (dk_at dksJ8_newCapacity_0 4 rfl rfl)
theorem dJ8_newCapacity_5 : decode cJ8_newCapacity 5 = .ok (.istore_n 2, 1) := dk_61 (dk_at dksJ8_newCapacity_0 5 rfl rfl)
theorem dJ8_newCapacity_6 : decode cJ8_newCapacity 6 = .ok (.iload_n 1, 1) := dk_27 (dk_at dksJ8_newCapacity_0 6 rfl rfl)
theorem dJ8_newCapacity_7 : decode cJ8_newCapacity 7 = .ok (.aload_n 0, 1) := dk_42 (dk_at dksJ8_newCapacity_0 7 rfl rfl)
theorem dJ8_newCapacity_8 : decode cJ8_newCapacity 8 = .ok (.getfield 22, 3) := dk_180 0 22 (dk_at dksJ8_newCapacity_0 8 rfl rfl)
theorem dJ8_newCapacity_11 : decode cJ8_newCapacity 11 = .ok (.ishl, 1) := dk_120 (dk_at dksJ8_newCapacity_0 11 rfl rfl)
theorem dJ8_newCapacity_12 : decode cJ8_newCapacity 12 = .ok (.istore_n 3, 1) := dk_62 (dk_at dksJ8_newCapacity_0 12 rfl rfl)
theorem dJ8_newCapacity_13 : decode cJ8_newCapacity 13 = .ok (.iload_n 3, 1) := dk_29 (dk_at dksJ8_newCapacity_0 13 rfl rfl)
theorem dJ8_newCapacity_14 : decode cJ8_newCapacity 14 = .ok (.iload_n 2, 1) := dk_28 (dk_at dksJ8_newCapacity_0 14 rfl rfl)
theorem dJ8_newCapacity_15 : decode cJ8_newCapacity 15 = .ok (.isub, 1) := dk_100 (dk_at dksJ8_newCapacity_0 15 rfl rfl)
theorem dJ8_newCapacity_16 : decode cJ8_newCapacity 16 = .ok (.istore 4, 2) := dk_54 4 (dk_at dksJ8_newCapacity_0 16 rfl rfl)
theorem dJ8_newCapacity_18 : decode cJ8_newCapacity 18 = .ok (.iload_n 2, 1) := dk_28 (dk_at dksJ8_newCapacity_0 18 rfl rfl)
theorem dJ8_newCapacity_19 : decode cJ8_newCapacity 19 = .ok (.iload 4, 2) := dk_21 4 (dk_at dksJ8_newCapacity_0 19 rfl rfl)
theorem dJ8_newCapacity_21 : decode cJ8_newCapacity 21 = .ok (.iload_n 2, 1) := dk_28 (dk_at dksJ8_newCapacity_0 21 rfl rfl)
theorem dJ8_newCapacity_22 : decode cJ8_newCapacity 22 = .ok (.iconst 2, 1) := dk_5 (dk_at dksJ8_newCapacity_0 22 rfl rfl)
theorem dJ8_newCapacity_23 : decode cJ8_newCapacity 23 = .ok (.aload_n 0, 1) := dk_42 (dk_at dksJ8_newCapacity_0 23 rfl rfl)
theorem dJ8_newCapacity_24 : decode cJ8_newCapacity 24 = .ok (.getfield 22, 3) := dk_180 0 22 (dk_at dksJ8_newCapacity_1 0 rfl rfl)
theorem dJ8_newCapacity_27 : decode cJ8_newCapacity 27 = .ok (.ishl, 1) := dk_120 (dk_at dksJ8_newCapacity_1 3 rfl rfl)
theorem dJ8_newCapacity_28 : decode cJ8_newCapacity 28 = .ok (.iadd, 1) := dk_96 (dk_at dksJ8_newCapacity_1 4 rfl rfl)
theorem dJ8_newCapacity_29 : decode cJ8_newCapacity 29 = .ok (.invokestatic 114, 3) := dk_184 0 114 (dk_at dksJ8_newCapacity_1 5 rfl rfl)
theorem dJ8_newCapacity_32 : decode cJ8_newCapacity 32 = .ok (.istore 5, 2) := dk_54 5 (dk_at dksJ8_newCapacity_1 8 rfl rfl)
theorem dJ8_newCapacity_34 : decode cJ8_newCapacity 34 = .ok (.iload 5, 2) := dk_21 5 (dk_at dksJ8_newCapacity_1 10 rfl rfl)
theorem dJ8_newCapacity_36 : decode cJ8_newCapacity 36 = .ok (.ldc 39, 2) := dk_18 39 (dk_at dksJ8_newCapacity_1 12 rfl rfl)
theorem dJ8_newCapacity_38 : decode cJ8_newCapacity 38 = .ok (.if_icmp .ne 13, 3) := dk_160 0 13 (dk_at dksJ8_newCapacity_1 14 rfl rfl)
theorem dJ8_newCapacity_41 : decode cJ8_newCapacity 41 = .ok (.new 120, 3) := dk_187 0 120 (dk_at dksJ8_newCapacity_1 17 rfl rfl)
theorem dJ8_newCapacity_44 : decode cJ8_newCapacity 44 = .ok (.dup, 1) := dk_89 (dk_at dksJ8_newCapacity_1 20 rfl rfl)
theorem dJ8_newCapacity_45 : decode cJ8_newCapacity 45 = .ok (.ldc 122, 2) := dk_18 122 (dk_at dksJ8_newCapacity_1 21 rfl rfl)
theorem dJ8_newCapacity_47 : decode cJ8_newCapacity 47 = .ok (.invokespecial 124, 3) := dk_183 0 124 (dk_at dksJ8_newCapacity_2 0 rfl rfl)
theorem dJ8_newCapacity_50 : decode cJ8_newCapacity 50 = .ok (.athrow, 1) := dk_191 (dk_at dksJ8_newCapacity_2 3 rfl rfl)
theorem dJ8_newCapacity_51 : decode cJ8_newCapacity 51 = .ok (.iload 5, 2) := dk_21 5 (dk_at dksJ8_newCapacity_2 4 rfl rfl)
theorem dJ8_newCapacity_53 : decode cJ8_newCapacity 53 = .ok (.aload_n 0, 1) := dk_42 (dk_at dksJ8_newCapacity_2 6 rfl rfl)
theorem dJ8_newCapacity_54 : decode cJ8_newCapacity 54 = .ok (.getfield 22, 3) := dk_180 0 22 (dk_at dksJ8_newCapacity_2 7 rfl rfl)
theorem dJ8_newCapacity_57 : decode cJ8_newCapacity 57 = .ok (.ishr, 1) := dk_122 (dk_at dksJ8_newCapacity_2 10 rfl rfl)
theorem dJ8_newCapacity_58 : decode cJ8_newCapacity 58 = .ok (.ireturn, 1) := dk_172 (dk_at dksJ8_newCapacity_2 11 rfl rfl)
abbrev cJ8_isLatin1 : ByteArray := prog_30_method_68_code
def yJ8_isLatin1 : MethodName := ⟨RJ8, "isLatin1", "()Z"⟩
def dkwJ8_isLatin1_0 : List UInt8 := [178, 0, 18, 153, 0, 14, 42, 180, 0, 22, 154, 0, 7, 4, 167, 0, 4, 3, 172]
abbrev dktJ8_isLatin1_0 : List UInt8 := dkwJ8_isLatin1_0 ++ []
theorem dksJ8_isLatin1_0 : cJ8_isLatin1.data.toList.drop 0 = dktJ8_isLatin1_0 := by decide +kernel
theorem dJ8_isLatin1_0 : decode cJ8_isLatin1 0 = .ok (.getstatic 18, 3) := dk_178 0 18 (dk_at dksJ8_isLatin1_0 0 rfl rfl)
theorem dJ8_isLatin1_3 : decode cJ8_isLatin1 3 = .ok (.ifCond .eq 14, 3) := dk_153 0 14 (dk_at dksJ8_isLatin1_0 3 rfl rfl)
theorem dJ8_isLatin1_6 : decode cJ8_isLatin1 6 = .ok (.aload_n 0, 1) := dk_42 (dk_at dksJ8_isLatin1_0 6 rfl rfl)
theorem dJ8_isLatin1_7 : decode cJ8_isLatin1 7 = .ok (.getfield 22, 3) := dk_180 0 22 (dk_at dksJ8_isLatin1_0 7 rfl rfl)
theorem dJ8_isLatin1_10 : decode cJ8_isLatin1 10 = .ok (.ifCond .ne 7, 3) := dk_154 0 7 (dk_at dksJ8_isLatin1_0 10 rfl rfl)
theorem dJ8_isLatin1_13 : decode cJ8_isLatin1 13 = .ok (.iconst 1, 1) := dk_4 (dk_at dksJ8_isLatin1_0 13 rfl rfl)
theorem dJ8_isLatin1_14 : decode cJ8_isLatin1 14 = .ok (.goto 4, 3) := dk_167 0 4 (dk_at dksJ8_isLatin1_0 14 rfl rfl)
theorem dJ8_isLatin1_17 : decode cJ8_isLatin1 17 = .ok (.iconst 0, 1) := dk_3 (dk_at dksJ8_isLatin1_0 17 rfl rfl)
theorem dJ8_isLatin1_18 : decode cJ8_isLatin1 18 = .ok (.ireturn, 1) := dk_172 (dk_at dksJ8_isLatin1_0 18 rfl rfl)
abbrev cJ8_putStringAt : ByteArray := prog_30_method_73_code
def yJ8_putStringAt : MethodName := ⟨RJ8, "putStringAt", "(ILjava/lang/String;)V"⟩
def dkwJ8_putStringAt_0 : List UInt8 := [42, 44, 182, 1, 141, 44, 42, 180, 0, 15, 27, 42, 180, 0, 22, 182, 1, 143, 177]
abbrev dktJ8_putStringAt_0 : List UInt8 := dkwJ8_putStringAt_0 ++ []
theorem dksJ8_putStringAt_0 : cJ8_putStringAt.data.toList.drop 0 = dktJ8_putStringAt_0 := by decide +kernel
theorem dJ8_putStringAt_0 : decode cJ8_putStringAt 0 = .ok (.aload_n 0, 1) := dk_42 (dk_at dksJ8_putStringAt_0 0 rfl rfl)
theorem dJ8_putStringAt_1 : decode cJ8_putStringAt 1 = .ok (.aload_n 2, 1) := dk_44 (dk_at dksJ8_putStringAt_0 1 rfl rfl)
theorem dJ8_putStringAt_2 : decode cJ8_putStringAt 2 = .ok (.invokevirtual 397, 3) := dk_182 1 141 (dk_at dksJ8_putStringAt_0 2 rfl rfl)
theorem dJ8_putStringAt_5 : decode cJ8_putStringAt 5 = .ok (.aload_n 2, 1) := dk_44 (dk_at dksJ8_putStringAt_0 5 rfl rfl)
theorem dJ8_putStringAt_6 : decode cJ8_putStringAt 6 = .ok (.aload_n 0, 1) := dk_42 (dk_at dksJ8_putStringAt_0 6 rfl rfl)
theorem dJ8_putStringAt_7 : decode cJ8_putStringAt 7 = .ok (.getfield 15, 3) := dk_180 0 15 (dk_at dksJ8_putStringAt_0 7 rfl rfl)
theorem dJ8_putStringAt_10 : decode cJ8_putStringAt 10 = .ok (.iload_n 1, 1) := dk_27 (dk_at dksJ8_putStringAt_0 10 rfl rfl)
theorem dJ8_putStringAt_11 : decode cJ8_putStringAt 11 = .ok (.aload_n 0, 1) := dk_42 (dk_at dksJ8_putStringAt_0 11 rfl rfl)
theorem dJ8_putStringAt_12 : decode cJ8_putStringAt 12 = .ok (.getfield 22, 3) := dk_180 0 22 (dk_at dksJ8_putStringAt_0 12 rfl rfl)
theorem dJ8_putStringAt_15 : decode cJ8_putStringAt 15 = .ok (.invokevirtual 399, 3) := dk_182 1 143 (dk_at dksJ8_putStringAt_0 15 rfl rfl)
theorem dJ8_putStringAt_18 : decode cJ8_putStringAt 18 = .ok (.return_, 1) := dk_177 (dk_at dksJ8_putStringAt_0 18 rfl rfl)
abbrev cJ8_inflateIfNeededFor : ByteArray := prog_30_method_71_code
def yJ8_inflateIfNeededFor : MethodName := ⟨RJ8, "inflateIfNeededFor", "(Ljava/lang/String;)V"⟩
def dkwJ8_inflateIfNeededFor_0 : List UInt8 := [178, 0, 18, 153, 0, 18, 42, 180, 0, 22, 43, 182, 0, 40, 159, 0, 7, 42, 182, 0, 195, 177]
abbrev dktJ8_inflateIfNeededFor_0 : List UInt8 := dkwJ8_inflateIfNeededFor_0 ++ []
theorem dksJ8_inflateIfNeededFor_0 : cJ8_inflateIfNeededFor.data.toList.drop 0 = dktJ8_inflateIfNeededFor_0 := by decide +kernel
theorem dJ8_inflateIfNeededFor_0 : decode cJ8_inflateIfNeededFor 0 = .ok (.getstatic 18, 3) := dk_178 0 18 (dk_at dksJ8_inflateIfNeededFor_0 0 rfl rfl)
theorem dJ8_inflateIfNeededFor_3 : decode cJ8_inflateIfNeededFor 3 = .ok (.ifCond .eq 18, 3) := dk_153 0 18 (dk_at dksJ8_inflateIfNeededFor_0 3 rfl rfl)
theorem dJ8_inflateIfNeededFor_6 : decode cJ8_inflateIfNeededFor 6 = .ok (.aload_n 0, 1) := dk_42 (dk_at dksJ8_inflateIfNeededFor_0 6 rfl rfl)
theorem dJ8_inflateIfNeededFor_7 : decode cJ8_inflateIfNeededFor 7 = .ok (.getfield 22, 3) := dk_180 0 22 (dk_at dksJ8_inflateIfNeededFor_0 7 rfl rfl)
theorem dJ8_inflateIfNeededFor_10 : decode cJ8_inflateIfNeededFor 10 = .ok (.aload_n 1, 1) := dk_43 (dk_at dksJ8_inflateIfNeededFor_0 10 rfl rfl)
theorem dJ8_inflateIfNeededFor_11 : decode cJ8_inflateIfNeededFor 11 = .ok (.invokevirtual 40, 3) := dk_182 0 40 (dk_at dksJ8_inflateIfNeededFor_0 11 rfl rfl)
theorem dJ8_inflateIfNeededFor_14 : decode cJ8_inflateIfNeededFor 14 = .ok (.if_icmp .eq 7, 3) := dk_159 0 7 (dk_at dksJ8_inflateIfNeededFor_0 14 rfl rfl)
theorem dJ8_inflateIfNeededFor_17 : decode cJ8_inflateIfNeededFor 17 = .ok (.aload_n 0, 1) := dk_42 (dk_at dksJ8_inflateIfNeededFor_0 17 rfl rfl)
theorem dJ8_inflateIfNeededFor_18 : decode cJ8_inflateIfNeededFor 18 = .ok (.invokevirtual 195, 3) := dk_182 0 195 (dk_at dksJ8_inflateIfNeededFor_0 18 rfl rfl)
theorem dJ8_inflateIfNeededFor_21 : decode cJ8_inflateIfNeededFor 21 = .ok (.return_, 1) := dk_177 (dk_at dksJ8_inflateIfNeededFor_0 21 rfl rfl)
abbrev cJ8_inflate : ByteArray := prog_30_method_11_code
def yJ8_inflate : MethodName := ⟨RJ8, "inflate", "()V"⟩
def dkwJ8_inflate_1 : List UInt8 := [42, 180, 0, 79, 184, 0, 125, 42, 43, 181, 0, 15, 42, 4, 181, 0, 22, 177]
abbrev dktJ8_inflate_1 : List UInt8 := dkwJ8_inflate_1 ++ []
def dkwJ8_inflate_0 : List UInt8 := [42, 182, 0, 83, 154, 0, 4, 177, 42, 180, 0, 15, 190, 184, 0, 26, 76, 42, 180, 0, 15, 3, 43, 3]
abbrev dktJ8_inflate_0 : List UInt8 := dkwJ8_inflate_0 ++ dktJ8_inflate_1
theorem dksJ8_inflate_0 : cJ8_inflate.data.toList.drop 0 = dktJ8_inflate_0 := by decide +kernel
theorem dksJ8_inflate_1 : cJ8_inflate.data.toList.drop 24 = dktJ8_inflate_1 := dk_seg dksJ8_inflate_0 24 rfl rfl
theorem dJ8_inflate_0 : decode cJ8_inflate 0 = .ok (.aload_n 0, 1) := dk_42 (dk_at dksJ8_inflate_0 0 rfl rfl)
theorem dJ8_inflate_1 : decode cJ8_inflate 1 = .ok (.invokevirtual 83, 3) := dk_182 0 83 (dk_at dksJ8_inflate_0 1 rfl rfl)
theorem dJ8_inflate_4 : decode cJ8_inflate 4 = .ok (.ifCond .ne 4, 3) := dk_154 0 4 (dk_at dksJ8_inflate_0 4 rfl rfl)
theorem dJ8_inflate_7 : decode cJ8_inflate 7 = .ok (.return_, 1) := dk_177 (dk_at dksJ8_inflate_0 7 rfl rfl)
theorem dJ8_inflate_8 : decode cJ8_inflate 8 = .ok (.aload_n 0, 1) := dk_42 (dk_at dksJ8_inflate_0 8 rfl rfl)
theorem dJ8_inflate_9 : decode cJ8_inflate 9 = .ok (.getfield 15, 3) := dk_180 0 15 (dk_at dksJ8_inflate_0 9 rfl rfl)
theorem dJ8_inflate_12 : decode cJ8_inflate 12 = .ok (.arraylength, 1) := dk_190 (dk_at dksJ8_inflate_0 12 rfl rfl)
theorem dJ8_inflate_13 : decode cJ8_inflate 13 = .ok (.invokestatic 26, 3) := dk_184 0 26 (dk_at dksJ8_inflate_0 13 rfl rfl)
theorem dJ8_inflate_16 : decode cJ8_inflate 16 = .ok (.astore_n 1, 1) := dk_76 (dk_at dksJ8_inflate_0 16 rfl rfl)
theorem dJ8_inflate_17 : decode cJ8_inflate 17 = .ok (.aload_n 0, 1) := dk_42 (dk_at dksJ8_inflate_0 17 rfl rfl)
theorem dJ8_inflate_18 : decode cJ8_inflate 18 = .ok (.getfield 15, 3) := dk_180 0 15 (dk_at dksJ8_inflate_0 18 rfl rfl)
theorem dJ8_inflate_21 : decode cJ8_inflate 21 = .ok (.iconst 0, 1) := dk_3 (dk_at dksJ8_inflate_0 21 rfl rfl)
theorem dJ8_inflate_22 : decode cJ8_inflate 22 = .ok (.aload_n 1, 1) := dk_43 (dk_at dksJ8_inflate_0 22 rfl rfl)
theorem dJ8_inflate_23 : decode cJ8_inflate 23 = .ok (.iconst 0, 1) := dk_3 (dk_at dksJ8_inflate_0 23 rfl rfl)
theorem dJ8_inflate_24 : decode cJ8_inflate 24 = .ok (.aload_n 0, 1) := dk_42 (dk_at dksJ8_inflate_1 0 rfl rfl)
theorem dJ8_inflate_25 : decode cJ8_inflate 25 = .ok (.getfield 79, 3) := dk_180 0 79 (dk_at dksJ8_inflate_1 1 rfl rfl)
theorem dJ8_inflate_28 : decode cJ8_inflate 28 = .ok (.invokestatic 125, 3) := dk_184 0 125 (dk_at dksJ8_inflate_1 4 rfl rfl)
theorem dJ8_inflate_31 : decode cJ8_inflate 31 = .ok (.aload_n 0, 1) := dk_42 (dk_at dksJ8_inflate_1 7 rfl rfl)
theorem dJ8_inflate_32 : decode cJ8_inflate 32 = .ok (.aload_n 1, 1) := dk_43 (dk_at dksJ8_inflate_1 8 rfl rfl)
theorem dJ8_inflate_33 : decode cJ8_inflate 33 = .ok (.putfield 15, 3) := dk_181 0 15 (dk_at dksJ8_inflate_1 9 rfl rfl)
theorem dJ8_inflate_36 : decode cJ8_inflate 36 = .ok (.aload_n 0, 1) := dk_42 (dk_at dksJ8_inflate_1 12 rfl rfl)
theorem dJ8_inflate_37 : decode cJ8_inflate 37 = .ok (.iconst 1, 1) := dk_4 (dk_at dksJ8_inflate_1 13 rfl rfl)
theorem dJ8_inflate_38 : decode cJ8_inflate 38 = .ok (.putfield 22, 3) := dk_181 0 22 (dk_at dksJ8_inflate_1 14 rfl rfl)
theorem dJ8_inflate_41 : decode cJ8_inflate 41 = .ok (.return_, 1) := dk_177 (dk_at dksJ8_inflate_1 17 rfl rfl)
abbrev cJ8_append_2 : ByteArray := prog_30_method_32_code
def yJ8_append_2 : MethodName := ⟨RJ8, "append", "(I)Ljava/lang/AbstractStringBuilder;"⟩
def dkwJ8_append_2_2 : List UInt8 := [42, 29, 181, 0, 79, 42, 176]
abbrev dktJ8_append_2_2 : List UInt8 := dkwJ8_append_2_2 ++ []
def dkwJ8_append_2_1 : List UInt8 := [27, 29, 42, 180, 0, 15, 184, 0, 248, 87, 167, 0, 14, 27, 28, 29, 42, 180, 0, 15, 184, 0, 251, 87]
abbrev dktJ8_append_2_1 : List UInt8 := dkwJ8_append_2_1 ++ dktJ8_append_2_2
def dkwJ8_append_2_0 : List UInt8 := [42, 180, 0, 79, 61, 28, 27, 184, 0, 245, 96, 62, 42, 29, 182, 0, 100, 42, 182, 0, 83, 153, 0, 16]
abbrev dktJ8_append_2_0 : List UInt8 := dkwJ8_append_2_0 ++ dktJ8_append_2_1
theorem dksJ8_append_2_0 : cJ8_append_2.data.toList.drop 0 = dktJ8_append_2_0 := by decide +kernel
theorem dksJ8_append_2_1 : cJ8_append_2.data.toList.drop 24 = dktJ8_append_2_1 := dk_seg dksJ8_append_2_0 24 rfl rfl
theorem dksJ8_append_2_2 : cJ8_append_2.data.toList.drop 48 = dktJ8_append_2_2 := dk_seg dksJ8_append_2_1 24 rfl rfl
theorem dJ8_append_2_0 : decode cJ8_append_2 0 = .ok (.aload_n 0, 1) := dk_42 (dk_at dksJ8_append_2_0 0 rfl rfl)
theorem dJ8_append_2_1 : decode cJ8_append_2 1 = .ok (.getfield 79, 3) := dk_180 0 79 (dk_at dksJ8_append_2_0 1 rfl rfl)
theorem dJ8_append_2_4 : decode cJ8_append_2 4 = .ok (.istore_n 2, 1) := dk_61 (dk_at dksJ8_append_2_0 4 rfl rfl)
theorem dJ8_append_2_5 : decode cJ8_append_2 5 = .ok (.iload_n 2, 1) := dk_28 (dk_at dksJ8_append_2_0 5 rfl rfl)
theorem dJ8_append_2_6 : decode cJ8_append_2 6 = .ok (.iload_n 1, 1) := dk_27 (dk_at dksJ8_append_2_0 6 rfl rfl)
theorem dJ8_append_2_7 : decode cJ8_append_2 7 = .ok (.invokestatic 245, 3) := dk_184 0 245 (dk_at dksJ8_append_2_0 7 rfl rfl)
theorem dJ8_append_2_10 : decode cJ8_append_2 10 = .ok (.iadd, 1) := dk_96 (dk_at dksJ8_append_2_0 10 rfl rfl)
theorem dJ8_append_2_11 : decode cJ8_append_2 11 = .ok (.istore_n 3, 1) := dk_62 (dk_at dksJ8_append_2_0 11 rfl rfl)
theorem dJ8_append_2_12 : decode cJ8_append_2 12 = .ok (.aload_n 0, 1) := dk_42 (dk_at dksJ8_append_2_0 12 rfl rfl)
theorem dJ8_append_2_13 : decode cJ8_append_2 13 = .ok (.iload_n 3, 1) := dk_29 (dk_at dksJ8_append_2_0 13 rfl rfl)
theorem dJ8_append_2_14 : decode cJ8_append_2 14 = .ok (.invokevirtual 100, 3) := dk_182 0 100 (dk_at dksJ8_append_2_0 14 rfl rfl)
theorem dJ8_append_2_17 : decode cJ8_append_2 17 = .ok (.aload_n 0, 1) := dk_42 (dk_at dksJ8_append_2_0 17 rfl rfl)
theorem dJ8_append_2_18 : decode cJ8_append_2 18 = .ok (.invokevirtual 83, 3) := dk_182 0 83 (dk_at dksJ8_append_2_0 18 rfl rfl)
theorem dJ8_append_2_21 : decode cJ8_append_2 21 = .ok (.ifCond .eq 16, 3) := dk_153 0 16 (dk_at dksJ8_append_2_0 21 rfl rfl)
theorem dJ8_append_2_24 : decode cJ8_append_2 24 = .ok (.iload_n 1, 1) := dk_27 (dk_at dksJ8_append_2_1 0 rfl rfl)
theorem dJ8_append_2_25 : decode cJ8_append_2 25 = .ok (.iload_n 3, 1) := dk_29 (dk_at dksJ8_append_2_1 1 rfl rfl)
theorem dJ8_append_2_26 : decode cJ8_append_2 26 = .ok (.aload_n 0, 1) := dk_42 (dk_at dksJ8_append_2_1 2 rfl rfl)
theorem dJ8_append_2_27 : decode cJ8_append_2 27 = .ok (.getfield 15, 3) := dk_180 0 15 (dk_at dksJ8_append_2_1 3 rfl rfl)
theorem dJ8_append_2_30 : decode cJ8_append_2 30 = .ok (.invokestatic 248, 3) := dk_184 0 248 (dk_at dksJ8_append_2_1 6 rfl rfl)
theorem dJ8_append_2_33 : decode cJ8_append_2 33 = .ok (.pop, 1) := dk_87 (dk_at dksJ8_append_2_1 9 rfl rfl)
theorem dJ8_append_2_34 : decode cJ8_append_2 34 = .ok (.goto 14, 3) := dk_167 0 14 (dk_at dksJ8_append_2_1 10 rfl rfl)
theorem dJ8_append_2_37 : decode cJ8_append_2 37 = .ok (.iload_n 1, 1) := dk_27 (dk_at dksJ8_append_2_1 13 rfl rfl)
theorem dJ8_append_2_38 : decode cJ8_append_2 38 = .ok (.iload_n 2, 1) := dk_28 (dk_at dksJ8_append_2_1 14 rfl rfl)
theorem dJ8_append_2_39 : decode cJ8_append_2 39 = .ok (.iload_n 3, 1) := dk_29 (dk_at dksJ8_append_2_1 15 rfl rfl)
theorem dJ8_append_2_40 : decode cJ8_append_2 40 = .ok (.aload_n 0, 1) := dk_42 (dk_at dksJ8_append_2_1 16 rfl rfl)
theorem dJ8_append_2_41 : decode cJ8_append_2 41 = .ok (.getfield 15, 3) := dk_180 0 15 (dk_at dksJ8_append_2_1 17 rfl rfl)
theorem dJ8_append_2_44 : decode cJ8_append_2 44 = .ok (.invokestatic 251, 3) := dk_184 0 251 (dk_at dksJ8_append_2_1 20 rfl rfl)
theorem dJ8_append_2_47 : decode cJ8_append_2 47 = .ok (.pop, 1) := dk_87 (dk_at dksJ8_append_2_1 23 rfl rfl)
theorem dJ8_append_2_48 : decode cJ8_append_2 48 = .ok (.aload_n 0, 1) := dk_42 (dk_at dksJ8_append_2_2 0 rfl rfl)
theorem dJ8_append_2_49 : decode cJ8_append_2 49 = .ok (.iload_n 3, 1) := dk_29 (dk_at dksJ8_append_2_2 1 rfl rfl)
theorem dJ8_append_2_50 : decode cJ8_append_2 50 = .ok (.putfield 79, 3) := dk_181 0 79 (dk_at dksJ8_append_2_2 2 rfl rfl)
theorem dJ8_append_2_53 : decode cJ8_append_2 53 = .ok (.aload_n 0, 1) := dk_42 (dk_at dksJ8_append_2_2 5 rfl rfl)
theorem dJ8_append_2_54 : decode cJ8_append_2 54 = .ok (.areturn, 1) := dk_176 (dk_at dksJ8_append_2_2 6 rfl rfl)
abbrev cJ8_getValue : ByteArray := prog_30_method_64_code
def yJ8_getValue : MethodName := ⟨RJ8, "getValue", "()[B"⟩
theorem dJ8_getValue_0 : decode cJ8_getValue 0 = .ok (.aload_n 0, 1) := by decide +kernel
theorem dJ8_getValue_1 : decode cJ8_getValue 1 = .ok (.getfield 15, 3) := by decide +kernel
theorem dJ8_getValue_4 : decode cJ8_getValue 4 = .ok (.areturn, 1) := by decide +kernel
abbrev cJ8_length : ByteArray := prog_30_method_6_code
def yJ8_length : MethodName := ⟨RJ8, "length", "()I"⟩
theorem dJ8_length_0 : decode cJ8_length 0 = .ok (.aload_n 0, 1) := by decide +kernel
theorem dJ8_length_1 : decode cJ8_length 1 = .ok (.getfield 79, 3) := by decide +kernel
theorem dJ8_length_4 : decode cJ8_length 4 = .ok (.ireturn, 1) := by decide +kernel
abbrev cJ8_compareTo : ByteArray := prog_30_method_5_code
def yJ8_compareTo : MethodName := ⟨RJ8, "compareTo", "(Ljava/lang/AbstractStringBuilder;)I"⟩
def dkwJ8_compareTo_4 : List UInt8 := [184, 0, 97, 172]
abbrev dktJ8_compareTo_4 : List UInt8 := dkwJ8_compareTo_4 ++ []
def dkwJ8_compareTo_3 : List UInt8 := [182, 0, 83, 153, 0, 15, 44, 45, 21, 4, 21, 5, 184, 0, 94, 167, 0, 12, 44, 45, 21, 4, 21, 5]
abbrev dktJ8_compareTo_3 : List UInt8 := dkwJ8_compareTo_3 ++ dktJ8_compareTo_4
def dkwJ8_compareTo_2 : List UInt8 := [45, 21, 4, 21, 5, 184, 0, 87, 167, 0, 12, 44, 45, 21, 4, 21, 5, 184, 0, 93, 172, 42]
abbrev dktJ8_compareTo_2 : List UInt8 := dkwJ8_compareTo_2 ++ dktJ8_compareTo_3
def dkwJ8_compareTo_1 : List UInt8 := [180, 0, 79, 54, 5, 42, 180, 0, 22, 43, 180, 0, 22, 160, 0, 32, 42, 182, 0, 83, 153, 0, 15, 44]
abbrev dktJ8_compareTo_1 : List UInt8 := dkwJ8_compareTo_1 ++ dktJ8_compareTo_2
def dkwJ8_compareTo_0 : List UInt8 := [42, 43, 166, 0, 5, 3, 172, 42, 180, 0, 15, 77, 43, 180, 0, 15, 78, 42, 180, 0, 79, 54, 4, 43]
abbrev dktJ8_compareTo_0 : List UInt8 := dkwJ8_compareTo_0 ++ dktJ8_compareTo_1
theorem dksJ8_compareTo_0 : cJ8_compareTo.data.toList.drop 0 = dktJ8_compareTo_0 := by decide +kernel
theorem dksJ8_compareTo_1 : cJ8_compareTo.data.toList.drop 24 = dktJ8_compareTo_1 := dk_seg dksJ8_compareTo_0 24 rfl rfl
theorem dksJ8_compareTo_2 : cJ8_compareTo.data.toList.drop 48 = dktJ8_compareTo_2 := dk_seg dksJ8_compareTo_1 24 rfl rfl
theorem dksJ8_compareTo_3 : cJ8_compareTo.data.toList.drop 70 = dktJ8_compareTo_3 := dk_seg dksJ8_compareTo_2 22 rfl rfl
theorem dksJ8_compareTo_4 : cJ8_compareTo.data.toList.drop 94 = dktJ8_compareTo_4 := dk_seg dksJ8_compareTo_3 24 rfl rfl
theorem dJ8_compareTo_0 : decode cJ8_compareTo 0 = .ok (.aload_n 0, 1) := dk_42 (dk_at dksJ8_compareTo_0 0 rfl rfl)
theorem dJ8_compareTo_1 : decode cJ8_compareTo 1 = .ok (.aload_n 1, 1) := dk_43 (dk_at dksJ8_compareTo_0 1 rfl rfl)
theorem dJ8_compareTo_2 : decode cJ8_compareTo 2 = .ok (.if_acmp .ne 5, 3) := dk_166 0 5 (dk_at dksJ8_compareTo_0 2 rfl rfl)
theorem dJ8_compareTo_5 : decode cJ8_compareTo 5 = .ok (.iconst 0, 1) := dk_3 (dk_at dksJ8_compareTo_0 5 rfl rfl)
theorem dJ8_compareTo_6 : decode cJ8_compareTo 6 = .ok (.ireturn, 1) := dk_172 (dk_at dksJ8_compareTo_0 6 rfl rfl)
theorem dJ8_compareTo_7 : decode cJ8_compareTo 7 = .ok (.aload_n 0, 1) := dk_42 (dk_at dksJ8_compareTo_0 7 rfl rfl)
theorem dJ8_compareTo_8 : decode cJ8_compareTo 8 = .ok (.getfield 15, 3) := dk_180 0 15 (dk_at dksJ8_compareTo_0 8 rfl rfl)
theorem dJ8_compareTo_11 : decode cJ8_compareTo 11 = .ok (.astore_n 2, 1) := dk_77 (dk_at dksJ8_compareTo_0 11 rfl rfl)
theorem dJ8_compareTo_12 : decode cJ8_compareTo 12 = .ok (.aload_n 1, 1) := dk_43 (dk_at dksJ8_compareTo_0 12 rfl rfl)
theorem dJ8_compareTo_13 : decode cJ8_compareTo 13 = .ok (.getfield 15, 3) := dk_180 0 15 (dk_at dksJ8_compareTo_0 13 rfl rfl)
theorem dJ8_compareTo_16 : decode cJ8_compareTo 16 = .ok (.astore_n 3, 1) := dk_78 (dk_at dksJ8_compareTo_0 16 rfl rfl)
theorem dJ8_compareTo_17 : decode cJ8_compareTo 17 = .ok (.aload_n 0, 1) := dk_42 (dk_at dksJ8_compareTo_0 17 rfl rfl)
theorem dJ8_compareTo_18 : decode cJ8_compareTo 18 = .ok (.getfield 79, 3) := dk_180 0 79 (dk_at dksJ8_compareTo_0 18 rfl rfl)
theorem dJ8_compareTo_21 : decode cJ8_compareTo 21 = .ok (.istore 4, 2) := dk_54 4 (dk_at dksJ8_compareTo_0 21 rfl rfl)
theorem dJ8_compareTo_23 : decode cJ8_compareTo 23 = .ok (.aload_n 1, 1) := dk_43 (dk_at dksJ8_compareTo_0 23 rfl rfl)
theorem dJ8_compareTo_24 : decode cJ8_compareTo 24 = .ok (.getfield 79, 3) := dk_180 0 79 (dk_at dksJ8_compareTo_1 0 rfl rfl)
theorem dJ8_compareTo_27 : decode cJ8_compareTo 27 = .ok (.istore 5, 2) := dk_54 5 (dk_at dksJ8_compareTo_1 3 rfl rfl)
theorem dJ8_compareTo_29 : decode cJ8_compareTo 29 = .ok (.aload_n 0, 1) := dk_42 (dk_at dksJ8_compareTo_1 5 rfl rfl)
theorem dJ8_compareTo_30 : decode cJ8_compareTo 30 = .ok (.getfield 22, 3) := dk_180 0 22 (dk_at dksJ8_compareTo_1 6 rfl rfl)
theorem dJ8_compareTo_33 : decode cJ8_compareTo 33 = .ok (.aload_n 1, 1) := dk_43 (dk_at dksJ8_compareTo_1 9 rfl rfl)
theorem dJ8_compareTo_34 : decode cJ8_compareTo 34 = .ok (.getfield 22, 3) := dk_180 0 22 (dk_at dksJ8_compareTo_1 10 rfl rfl)
theorem dJ8_compareTo_37 : decode cJ8_compareTo 37 = .ok (.if_icmp .ne 32, 3) := dk_160 0 32 (dk_at dksJ8_compareTo_1 13 rfl rfl)
theorem dJ8_compareTo_40 : decode cJ8_compareTo 40 = .ok (.aload_n 0, 1) := dk_42 (dk_at dksJ8_compareTo_1 16 rfl rfl)
theorem dJ8_compareTo_41 : decode cJ8_compareTo 41 = .ok (.invokevirtual 83, 3) := dk_182 0 83 (dk_at dksJ8_compareTo_1 17 rfl rfl)
theorem dJ8_compareTo_44 : decode cJ8_compareTo 44 = .ok (.ifCond .eq 15, 3) := dk_153 0 15 (dk_at dksJ8_compareTo_1 20 rfl rfl)
theorem dJ8_compareTo_47 : decode cJ8_compareTo 47 = .ok (.aload_n 2, 1) := dk_44 (dk_at dksJ8_compareTo_1 23 rfl rfl)
theorem dJ8_compareTo_48 : decode cJ8_compareTo 48 = .ok (.aload_n 3, 1) := dk_45 (dk_at dksJ8_compareTo_2 0 rfl rfl)
theorem dJ8_compareTo_49 : decode cJ8_compareTo 49 = .ok (.iload 4, 2) := dk_21 4 (dk_at dksJ8_compareTo_2 1 rfl rfl)
theorem dJ8_compareTo_51 : decode cJ8_compareTo 51 = .ok (.iload 5, 2) := dk_21 5 (dk_at dksJ8_compareTo_2 3 rfl rfl)
theorem dJ8_compareTo_53 : decode cJ8_compareTo 53 = .ok (.invokestatic 87, 3) := dk_184 0 87 (dk_at dksJ8_compareTo_2 5 rfl rfl)
theorem dJ8_compareTo_56 : decode cJ8_compareTo 56 = .ok (.goto 12, 3) := dk_167 0 12 (dk_at dksJ8_compareTo_2 8 rfl rfl)
theorem dJ8_compareTo_59 : decode cJ8_compareTo 59 = .ok (.aload_n 2, 1) := dk_44 (dk_at dksJ8_compareTo_2 11 rfl rfl)
theorem dJ8_compareTo_60 : decode cJ8_compareTo 60 = .ok (.aload_n 3, 1) := dk_45 (dk_at dksJ8_compareTo_2 12 rfl rfl)
theorem dJ8_compareTo_61 : decode cJ8_compareTo 61 = .ok (.iload 4, 2) := dk_21 4 (dk_at dksJ8_compareTo_2 13 rfl rfl)
theorem dJ8_compareTo_63 : decode cJ8_compareTo 63 = .ok (.iload 5, 2) := dk_21 5 (dk_at dksJ8_compareTo_2 15 rfl rfl)
theorem dJ8_compareTo_65 : decode cJ8_compareTo 65 = .ok (.invokestatic 93, 3) := dk_184 0 93 (dk_at dksJ8_compareTo_2 17 rfl rfl)
theorem dJ8_compareTo_68 : decode cJ8_compareTo 68 = .ok (.ireturn, 1) := dk_172 (dk_at dksJ8_compareTo_2 20 rfl rfl)
theorem dJ8_compareTo_69 : decode cJ8_compareTo 69 = .ok (.aload_n 0, 1) := dk_42 (dk_at dksJ8_compareTo_2 21 rfl rfl)
theorem dJ8_compareTo_70 : decode cJ8_compareTo 70 = .ok (.invokevirtual 83, 3) := dk_182 0 83 (dk_at dksJ8_compareTo_3 0 rfl rfl)
theorem dJ8_compareTo_73 : decode cJ8_compareTo 73 = .ok (.ifCond .eq 15, 3) := dk_153 0 15 (dk_at dksJ8_compareTo_3 3 rfl rfl)
theorem dJ8_compareTo_76 : decode cJ8_compareTo 76 = .ok (.aload_n 2, 1) := dk_44 (dk_at dksJ8_compareTo_3 6 rfl rfl)
theorem dJ8_compareTo_77 : decode cJ8_compareTo 77 = .ok (.aload_n 3, 1) := dk_45 (dk_at dksJ8_compareTo_3 7 rfl rfl)
theorem dJ8_compareTo_78 : decode cJ8_compareTo 78 = .ok (.iload 4, 2) := dk_21 4 (dk_at dksJ8_compareTo_3 8 rfl rfl)
theorem dJ8_compareTo_80 : decode cJ8_compareTo 80 = .ok (.iload 5, 2) := dk_21 5 (dk_at dksJ8_compareTo_3 10 rfl rfl)
theorem dJ8_compareTo_82 : decode cJ8_compareTo 82 = .ok (.invokestatic 94, 3) := dk_184 0 94 (dk_at dksJ8_compareTo_3 12 rfl rfl)
theorem dJ8_compareTo_85 : decode cJ8_compareTo 85 = .ok (.goto 12, 3) := dk_167 0 12 (dk_at dksJ8_compareTo_3 15 rfl rfl)
theorem dJ8_compareTo_88 : decode cJ8_compareTo 88 = .ok (.aload_n 2, 1) := dk_44 (dk_at dksJ8_compareTo_3 18 rfl rfl)
theorem dJ8_compareTo_89 : decode cJ8_compareTo 89 = .ok (.aload_n 3, 1) := dk_45 (dk_at dksJ8_compareTo_3 19 rfl rfl)
theorem dJ8_compareTo_90 : decode cJ8_compareTo 90 = .ok (.iload 4, 2) := dk_21 4 (dk_at dksJ8_compareTo_3 20 rfl rfl)
theorem dJ8_compareTo_92 : decode cJ8_compareTo 92 = .ok (.iload 5, 2) := dk_21 5 (dk_at dksJ8_compareTo_3 22 rfl rfl)
theorem dJ8_compareTo_94 : decode cJ8_compareTo 94 = .ok (.invokestatic 97, 3) := dk_184 0 97 (dk_at dksJ8_compareTo_4 0 rfl rfl)
theorem dJ8_compareTo_97 : decode cJ8_compareTo 97 = .ok (.ireturn, 1) := dk_172 (dk_at dksJ8_compareTo_4 3 rfl rfl)
abbrev cJ8_append_3 : ByteArray := prog_30_method_31_code
def yJ8_append_3 : MethodName := ⟨RJ8, "append", "(C)Ljava/lang/AbstractStringBuilder;"⟩
def dkwJ8_append_3_3 : List UInt8 := [181, 0, 79, 27, 184, 0, 197, 42, 176]
abbrev dktJ8_append_3_3 : List UInt8 := dkwJ8_append_3_3 ++ []
def dkwJ8_append_3_2 : List UInt8 := [182, 0, 83, 153, 0, 7, 42, 182, 0, 195, 42, 180, 0, 15, 42, 89, 180, 0, 79, 90, 4, 96]
abbrev dktJ8_append_3_2 : List UInt8 := dkwJ8_append_3_2 ++ dktJ8_append_3_3
def dkwJ8_append_3_1 : List UInt8 := [42, 180, 0, 15, 42, 89, 180, 0, 79, 90, 4, 96, 181, 0, 79, 27, 145, 84, 167, 0, 33, 42]
abbrev dktJ8_append_3_1 : List UInt8 := dkwJ8_append_3_1 ++ dktJ8_append_3_2
def dkwJ8_append_3_0 : List UInt8 := [42, 42, 180, 0, 79, 4, 96, 182, 0, 100, 42, 182, 0, 83, 153, 0, 31, 27, 184, 0, 191, 153, 0, 24]
abbrev dktJ8_append_3_0 : List UInt8 := dkwJ8_append_3_0 ++ dktJ8_append_3_1
theorem dksJ8_append_3_0 : cJ8_append_3.data.toList.drop 0 = dktJ8_append_3_0 := by decide +kernel
theorem dksJ8_append_3_1 : cJ8_append_3.data.toList.drop 24 = dktJ8_append_3_1 := dk_seg dksJ8_append_3_0 24 rfl rfl
theorem dksJ8_append_3_2 : cJ8_append_3.data.toList.drop 46 = dktJ8_append_3_2 := dk_seg dksJ8_append_3_1 22 rfl rfl
theorem dksJ8_append_3_3 : cJ8_append_3.data.toList.drop 68 = dktJ8_append_3_3 := dk_seg dksJ8_append_3_2 22 rfl rfl
theorem dJ8_append_3_0 : decode cJ8_append_3 0 = .ok (.aload_n 0, 1) := dk_42 (dk_at dksJ8_append_3_0 0 rfl rfl)
theorem dJ8_append_3_1 : decode cJ8_append_3 1 = .ok (.aload_n 0, 1) := dk_42 (dk_at dksJ8_append_3_0 1 rfl rfl)
theorem dJ8_append_3_2 : decode cJ8_append_3 2 = .ok (.getfield 79, 3) := dk_180 0 79 (dk_at dksJ8_append_3_0 2 rfl rfl)
theorem dJ8_append_3_5 : decode cJ8_append_3 5 = .ok (.iconst 1, 1) := dk_4 (dk_at dksJ8_append_3_0 5 rfl rfl)
theorem dJ8_append_3_6 : decode cJ8_append_3 6 = .ok (.iadd, 1) := dk_96 (dk_at dksJ8_append_3_0 6 rfl rfl)
theorem dJ8_append_3_7 : decode cJ8_append_3 7 = .ok (.invokevirtual 100, 3) := dk_182 0 100 (dk_at dksJ8_append_3_0 7 rfl rfl)
theorem dJ8_append_3_10 : decode cJ8_append_3 10 = .ok (.aload_n 0, 1) := dk_42 (dk_at dksJ8_append_3_0 10 rfl rfl)
theorem dJ8_append_3_11 : decode cJ8_append_3 11 = .ok (.invokevirtual 83, 3) := dk_182 0 83 (dk_at dksJ8_append_3_0 11 rfl rfl)
theorem dJ8_append_3_14 : decode cJ8_append_3 14 = .ok (.ifCond .eq 31, 3) := dk_153 0 31 (dk_at dksJ8_append_3_0 14 rfl rfl)
theorem dJ8_append_3_17 : decode cJ8_append_3 17 = .ok (.iload_n 1, 1) := dk_27 (dk_at dksJ8_append_3_0 17 rfl rfl)
theorem dJ8_append_3_18 : decode cJ8_append_3 18 = .ok (.invokestatic 191, 3) := dk_184 0 191 (dk_at dksJ8_append_3_0 18 rfl rfl)
theorem dJ8_append_3_21 : decode cJ8_append_3 21 = .ok (.ifCond .eq 24, 3) := dk_153 0 24 (dk_at dksJ8_append_3_0 21 rfl rfl)
theorem dJ8_append_3_24 : decode cJ8_append_3 24 = .ok (.aload_n 0, 1) := dk_42 (dk_at dksJ8_append_3_1 0 rfl rfl)
theorem dJ8_append_3_25 : decode cJ8_append_3 25 = .ok (.getfield 15, 3) := dk_180 0 15 (dk_at dksJ8_append_3_1 1 rfl rfl)
theorem dJ8_append_3_28 : decode cJ8_append_3 28 = .ok (.aload_n 0, 1) := dk_42 (dk_at dksJ8_append_3_1 4 rfl rfl)
theorem dJ8_append_3_29 : decode cJ8_append_3 29 = .ok (.dup, 1) := dk_89 (dk_at dksJ8_append_3_1 5 rfl rfl)
theorem dJ8_append_3_30 : decode cJ8_append_3 30 = .ok (.getfield 79, 3) := dk_180 0 79 (dk_at dksJ8_append_3_1 6 rfl rfl)
theorem dJ8_append_3_33 : decode cJ8_append_3 33 = .ok (.dup_x1, 1) := dk_90 (dk_at dksJ8_append_3_1 9 rfl rfl)
theorem dJ8_append_3_34 : decode cJ8_append_3 34 = .ok (.iconst 1, 1) := dk_4 (dk_at dksJ8_append_3_1 10 rfl rfl)
theorem dJ8_append_3_35 : decode cJ8_append_3 35 = .ok (.iadd, 1) := dk_96 (dk_at dksJ8_append_3_1 11 rfl rfl)
theorem dJ8_append_3_36 : decode cJ8_append_3 36 = .ok (.putfield 79, 3) := dk_181 0 79 (dk_at dksJ8_append_3_1 12 rfl rfl)
theorem dJ8_append_3_39 : decode cJ8_append_3 39 = .ok (.iload_n 1, 1) := dk_27 (dk_at dksJ8_append_3_1 15 rfl rfl)
theorem dJ8_append_3_40 : decode cJ8_append_3 40 = .ok (.i2b, 1) := dk_145 (dk_at dksJ8_append_3_1 16 rfl rfl)
theorem dJ8_append_3_41 : decode cJ8_append_3 41 = .ok (.bastore, 1) := dk_84 (dk_at dksJ8_append_3_1 17 rfl rfl)
theorem dJ8_append_3_42 : decode cJ8_append_3 42 = .ok (.goto 33, 3) := dk_167 0 33 (dk_at dksJ8_append_3_1 18 rfl rfl)
theorem dJ8_append_3_45 : decode cJ8_append_3 45 = .ok (.aload_n 0, 1) := dk_42 (dk_at dksJ8_append_3_1 21 rfl rfl)
theorem dJ8_append_3_46 : decode cJ8_append_3 46 = .ok (.invokevirtual 83, 3) := dk_182 0 83 (dk_at dksJ8_append_3_2 0 rfl rfl)
theorem dJ8_append_3_49 : decode cJ8_append_3 49 = .ok (.ifCond .eq 7, 3) := dk_153 0 7 (dk_at dksJ8_append_3_2 3 rfl rfl)
theorem dJ8_append_3_52 : decode cJ8_append_3 52 = .ok (.aload_n 0, 1) := dk_42 (dk_at dksJ8_append_3_2 6 rfl rfl)
theorem dJ8_append_3_53 : decode cJ8_append_3 53 = .ok (.invokevirtual 195, 3) := dk_182 0 195 (dk_at dksJ8_append_3_2 7 rfl rfl)
theorem dJ8_append_3_56 : decode cJ8_append_3 56 = .ok (.aload_n 0, 1) := dk_42 (dk_at dksJ8_append_3_2 10 rfl rfl)
theorem dJ8_append_3_57 : decode cJ8_append_3 57 = .ok (.getfield 15, 3) := dk_180 0 15 (dk_at dksJ8_append_3_2 11 rfl rfl)
theorem dJ8_append_3_60 : decode cJ8_append_3 60 = .ok (.aload_n 0, 1) := dk_42 (dk_at dksJ8_append_3_2 14 rfl rfl)
theorem dJ8_append_3_61 : decode cJ8_append_3 61 = .ok (.dup, 1) := dk_89 (dk_at dksJ8_append_3_2 15 rfl rfl)
theorem dJ8_append_3_62 : decode cJ8_append_3 62 = .ok (.getfield 79, 3) := dk_180 0 79 (dk_at dksJ8_append_3_2 16 rfl rfl)
theorem dJ8_append_3_65 : decode cJ8_append_3 65 = .ok (.dup_x1, 1) := dk_90 (dk_at dksJ8_append_3_2 19 rfl rfl)
theorem dJ8_append_3_66 : decode cJ8_append_3 66 = .ok (.iconst 1, 1) := dk_4 (dk_at dksJ8_append_3_2 20 rfl rfl)
theorem dJ8_append_3_67 : decode cJ8_append_3 67 = .ok (.iadd, 1) := dk_96 (dk_at dksJ8_append_3_2 21 rfl rfl)
theorem dJ8_append_3_68 : decode cJ8_append_3 68 = .ok (.putfield 79, 3) := dk_181 0 79 (dk_at dksJ8_append_3_3 0 rfl rfl)
theorem dJ8_append_3_71 : decode cJ8_append_3 71 = .ok (.iload_n 1, 1) := dk_27 (dk_at dksJ8_append_3_3 3 rfl rfl)
theorem dJ8_append_3_72 : decode cJ8_append_3 72 = .ok (.invokestatic 197, 3) := dk_184 0 197 (dk_at dksJ8_append_3_3 4 rfl rfl)
theorem dJ8_append_3_75 : decode cJ8_append_3 75 = .ok (.aload_n 0, 1) := dk_42 (dk_at dksJ8_append_3_3 7 rfl rfl)
theorem dJ8_append_3_76 : decode cJ8_append_3 76 = .ok (.areturn, 1) := dk_176 (dk_at dksJ8_append_3_3 8 rfl rfl)
theorem q130 : (Jvm.Cond.initialized "java/lang/AbstractStringBuilder") ∈ lw_all := lw_g (lw_at lw_m1 11 rfl) rfl
theorem q269 : (Jvm.Cond.instanceMethod ({ cls := "java/lang/AbstractStringBuilder", name := "<init>", desc := "(I)V" } : Jvm.MethodName)) ∈ lw_all := lw_g (lw_at lw_m1 150 rfl) rfl
theorem q270 : (Jvm.Cond.code ({ cls := "java/lang/AbstractStringBuilder", name := "<init>", desc := "(I)V" } : Jvm.MethodName) prog_30_method_2_code (2 : Nat) (Option.none : Option Jvm.ClassFile.FieldType)) ∈ lw_all := lw_g (lw_at lw_m1 151 rfl) rfl
theorem q271 : (Jvm.Cond.methodLink "java/lang/AbstractStringBuilder" (3 : Nat) ({ cls := "java/lang/Object", name := "<init>", desc := "()V" } : Jvm.MethodName)) ∈ lw_all := lw_g (lw_at lw_m1 152 rfl) rfl
theorem q272 : (Jvm.Cond.fieldLink "java/lang/AbstractStringBuilder" (18 : Nat) "java/lang/String" "COMPACT_STRINGS" "Z") ∈ lw_all := lw_g (lw_at lw_m1 153 rfl) rfl
theorem q274 : (Jvm.Cond.methodLink "java/lang/AbstractStringBuilder" (26 : Nat) ({ cls := "java/lang/StringUTF16", name := "newBytesFor", desc := "(I)[B" } : Jvm.MethodName)) ∈ lw_all := lw_g (lw_at lw_m1 155 rfl) rfl
theorem q281 : (Jvm.Cond.fieldLink "java/lang/AbstractStringBuilder" (15 : Nat) "java/lang/AbstractStringBuilder" "value" "[B") ∈ lw_all := lw_g (lw_at lw_m1 162 rfl) rfl
theorem q282 : (Jvm.Cond.fieldLink "java/lang/AbstractStringBuilder" (22 : Nat) "java/lang/AbstractStringBuilder" "coder" "B") ∈ lw_all := lw_g (lw_at lw_m1 163 rfl) rfl
theorem q284 : (Jvm.Cond.fieldLink "java/lang/AbstractStringBuilder" (79 : Nat) "java/lang/AbstractStringBuilder" "count" "I") ∈ lw_all := lw_g (lw_at lw_m1 165 rfl) rfl
theorem q286 : (Jvm.Cond.soleField "java/lang/AbstractStringBuilder" "value") ∈ lw_all := lw_g (lw_at lw_m1 167 rfl) rfl
theorem q288 : (Jvm.Cond.soleField "java/lang/AbstractStringBuilder" "coder") ∈ lw_all := lw_g (lw_at lw_m1 169 rfl) rfl
theorem q290 : (Jvm.Cond.soleField "java/lang/AbstractStringBuilder" "maybeLatin1") ∈ lw_all := lw_g (lw_at lw_m1 171 rfl) rfl
theorem q292 : (Jvm.Cond.soleField "java/lang/AbstractStringBuilder" "count") ∈ lw_all := lw_g (lw_at lw_m1 173 rfl) rfl
theorem q300 : (Jvm.Cond.instanceMethod ({ cls := "java/lang/AbstractStringBuilder", name := "append", desc := "(Ljava/lang/String;)Ljava/lang/AbstractStringBuilder;" } : Jvm.MethodName)) ∈ lw_all := lw_g (lw_at lw_m1 181 rfl) rfl
theorem q301 : (Jvm.Cond.code ({ cls := "java/lang/AbstractStringBuilder", name := "append", desc := "(Ljava/lang/String;)Ljava/lang/AbstractStringBuilder;" } : Jvm.MethodName) prog_30_method_22_code (3 : Nat) (Option.some (Jvm.ClassFile.FieldType.object "java/lang/AbstractStringBuilder"))) ∈ lw_all := lw_g (lw_at lw_m1 182 rfl) rfl
theorem q302 : (Jvm.Cond.methodLink "java/lang/AbstractStringBuilder" (204 : Nat) ({ cls := "java/lang/AbstractStringBuilder", name := "appendNull", desc := "()Ljava/lang/AbstractStringBuilder;" } : Jvm.MethodName)) ∈ lw_all := lw_g (lw_at lw_m1 183 rfl) rfl
theorem q303 : (Jvm.Cond.privateMethod ({ cls := "java/lang/AbstractStringBuilder", name := "appendNull", desc := "()Ljava/lang/AbstractStringBuilder;" } : Jvm.MethodName)) ∈ lw_tbl := lw_at lw_m1 184 rfl
theorem q304 : (Jvm.Cond.instanceMethod ({ cls := "java/lang/AbstractStringBuilder", name := "appendNull", desc := "()Ljava/lang/AbstractStringBuilder;" } : Jvm.MethodName)) ∈ lw_all := lw_g (lw_at lw_m1 185 rfl) rfl
theorem q305 : (Jvm.Cond.code ({ cls := "java/lang/AbstractStringBuilder", name := "appendNull", desc := "()Ljava/lang/AbstractStringBuilder;" } : Jvm.MethodName) prog_30_method_26_code (3 : Nat) (Option.some (Jvm.ClassFile.FieldType.object "java/lang/AbstractStringBuilder"))) ∈ lw_all := lw_g (lw_at lw_m1 186 rfl) rfl
theorem q306 : (Jvm.Cond.methodLink "java/lang/AbstractStringBuilder" (100 : Nat) ({ cls := "java/lang/AbstractStringBuilder", name := "ensureCapacityInternal", desc := "(I)V" } : Jvm.MethodName)) ∈ lw_all := lw_g (lw_at lw_m1 187 rfl) rfl
theorem q307 : (Jvm.Cond.privateMethod ({ cls := "java/lang/AbstractStringBuilder", name := "ensureCapacityInternal", desc := "(I)V" } : Jvm.MethodName)) ∈ lw_tbl := lw_at lw_m1 188 rfl
theorem q308 : (Jvm.Cond.instanceMethod ({ cls := "java/lang/AbstractStringBuilder", name := "ensureCapacityInternal", desc := "(I)V" } : Jvm.MethodName)) ∈ lw_all := lw_g (lw_at lw_m1 189 rfl) rfl
theorem q309 : (Jvm.Cond.code ({ cls := "java/lang/AbstractStringBuilder", name := "ensureCapacityInternal", desc := "(I)V" } : Jvm.MethodName) prog_30_method_9_code (3 : Nat) (Option.none : Option Jvm.ClassFile.FieldType)) ∈ lw_all := lw_g (lw_at lw_m1 190 rfl) rfl
theorem q310 : (Jvm.Cond.methodLink "java/lang/AbstractStringBuilder" (104 : Nat) ({ cls := "java/lang/AbstractStringBuilder", name := "newCapacity", desc := "(I)I" } : Jvm.MethodName)) ∈ lw_all := lw_g (lw_at lw_m1 191 rfl) rfl
theorem q311 : (Jvm.Cond.privateMethod ({ cls := "java/lang/AbstractStringBuilder", name := "newCapacity", desc := "(I)I" } : Jvm.MethodName)) ∈ lw_tbl := lw_at lw_m1 192 rfl
theorem q312 : (Jvm.Cond.instanceMethod ({ cls := "java/lang/AbstractStringBuilder", name := "newCapacity", desc := "(I)I" } : Jvm.MethodName)) ∈ lw_all := lw_g (lw_at lw_m1 193 rfl) rfl
theorem q313 : (Jvm.Cond.code ({ cls := "java/lang/AbstractStringBuilder", name := "newCapacity", desc := "(I)I" } : Jvm.MethodName) prog_30_method_10_code (6 : Nat) (Option.some Jvm.ClassFile.FieldType.int)) ∈ lw_all := lw_g (lw_at lw_m1 194 rfl) rfl
theorem q314 : (Jvm.Cond.methodLink "java/lang/AbstractStringBuilder" (114 : Nat) ({ cls := "jdk/internal/util/ArraysSupport", name := "newLength", desc := "(III)I" } : Jvm.MethodName)) ∈ lw_all := lw_g (lw_at lw_m1 195 rfl) rfl
theorem q324 : (Jvm.Cond.constant "java/lang/AbstractStringBuilder" (39 : Nat) (2147483647 : Int32)) ∈ lw_all := lw_g (lw_at lw_m1 205 rfl) rfl
theorem q325 : (Jvm.Cond.methodLink "java/lang/AbstractStringBuilder" (108 : Nat) ({ cls := "java/util/Arrays", name := "copyOf", desc := "([BI)[B" } : Jvm.MethodName)) ∈ lw_all := lw_g (lw_at lw_m1 206 rfl) rfl
theorem q341 : (Jvm.Cond.methodLink "java/lang/AbstractStringBuilder" (83 : Nat) ({ cls := "java/lang/AbstractStringBuilder", name := "isLatin1", desc := "()Z" } : Jvm.MethodName)) ∈ lw_all := lw_g (lw_at lw_m1 222 rfl) rfl
theorem q342 : (Jvm.Cond.instanceMethod ({ cls := "java/lang/AbstractStringBuilder", name := "isLatin1", desc := "()Z" } : Jvm.MethodName)) ∈ lw_all := lw_g (lw_at lw_m1 223 rfl) rfl
theorem q343 : (Jvm.Cond.sameMethod "java/lang/AbstractStringBuilder" "java/lang/AbstractStringBuilder" "isLatin1" "()Z") ∈ lw_all := lw_g (lw_at lw_m1 224 rfl) rfl
theorem q345 : (Jvm.Cond.code ({ cls := "java/lang/AbstractStringBuilder", name := "isLatin1", desc := "()Z" } : Jvm.MethodName) prog_30_method_68_code (1 : Nat) (Option.some Jvm.ClassFile.FieldType.boolean)) ∈ lw_all := lw_g (lw_at lw_m1 226 rfl) rfl
theorem q346 : (Jvm.Cond.methodLink "java/lang/AbstractStringBuilder" (226 : Nat) ({ cls := "java/lang/StringUTF16", name := "putCharsAt", desc := "([BICCCC)I" } : Jvm.MethodName)) ∈ lw_all := lw_g (lw_at lw_m1 227 rfl) rfl
theorem q372 : (Jvm.Cond.methodLink "java/lang/AbstractStringBuilder" (32 : Nat) ({ cls := "java/lang/String", name := "length", desc := "()I" } : Jvm.MethodName)) ∈ lw_all := lw_g (lw_at lw_m2 13 rfl) rfl
theorem q381 : (Jvm.Cond.methodLink "java/lang/AbstractStringBuilder" (208 : Nat) ({ cls := "java/lang/AbstractStringBuilder", name := "putStringAt", desc := "(ILjava/lang/String;)V" } : Jvm.MethodName)) ∈ lw_all := lw_g (lw_at lw_m2 22 rfl) rfl
theorem q382 : (Jvm.Cond.privateMethod ({ cls := "java/lang/AbstractStringBuilder", name := "putStringAt", desc := "(ILjava/lang/String;)V" } : Jvm.MethodName)) ∈ lw_tbl := lw_at lw_m2 23 rfl
theorem q383 : (Jvm.Cond.instanceMethod ({ cls := "java/lang/AbstractStringBuilder", name := "putStringAt", desc := "(ILjava/lang/String;)V" } : Jvm.MethodName)) ∈ lw_all := lw_g (lw_at lw_m2 24 rfl) rfl
theorem q384 : (Jvm.Cond.code ({ cls := "java/lang/AbstractStringBuilder", name := "putStringAt", desc := "(ILjava/lang/String;)V" } : Jvm.MethodName) prog_30_method_73_code (3 : Nat) (Option.none : Option Jvm.ClassFile.FieldType)) ∈ lw_all := lw_g (lw_at lw_m2 25 rfl) rfl
theorem q385 : (Jvm.Cond.methodLink "java/lang/AbstractStringBuilder" (397 : Nat) ({ cls := "java/lang/AbstractStringBuilder", name := "inflateIfNeededFor", desc := "(Ljava/lang/String;)V" } : Jvm.MethodName)) ∈ lw_all := lw_g (lw_at lw_m2 26 rfl) rfl
theorem q386 : (Jvm.Cond.privateMethod ({ cls := "java/lang/AbstractStringBuilder", name := "inflateIfNeededFor", desc := "(Ljava/lang/String;)V" } : Jvm.MethodName)) ∈ lw_tbl := lw_at lw_m2 27 rfl
theorem q387 : (Jvm.Cond.instanceMethod ({ cls := "java/lang/AbstractStringBuilder", name := "inflateIfNeededFor", desc := "(Ljava/lang/String;)V" } : Jvm.MethodName)) ∈ lw_all := lw_g (lw_at lw_m2 28 rfl) rfl
theorem q388 : (Jvm.Cond.code ({ cls := "java/lang/AbstractStringBuilder", name := "inflateIfNeededFor", desc := "(Ljava/lang/String;)V" } : Jvm.MethodName) prog_30_method_71_code (2 : Nat) (Option.none : Option Jvm.ClassFile.FieldType)) ∈ lw_all := lw_g (lw_at lw_m2 29 rfl) rfl
theorem q389 : (Jvm.Cond.methodLink "java/lang/AbstractStringBuilder" (40 : Nat) ({ cls := "java/lang/String", name := "coder", desc := "()B" } : Jvm.MethodName)) ∈ lw_all := lw_g (lw_at lw_m2 30 rfl) rfl
theorem q390 : (Jvm.Cond.methodLink "java/lang/AbstractStringBuilder" (195 : Nat) ({ cls := "java/lang/AbstractStringBuilder", name := "inflate", desc := "()V" } : Jvm.MethodName)) ∈ lw_all := lw_g (lw_at lw_m2 31 rfl) rfl
theorem q391 : (Jvm.Cond.privateMethod ({ cls := "java/lang/AbstractStringBuilder", name := "inflate", desc := "()V" } : Jvm.MethodName)) ∈ lw_tbl := lw_at lw_m2 32 rfl
theorem q392 : (Jvm.Cond.instanceMethod ({ cls := "java/lang/AbstractStringBuilder", name := "inflate", desc := "()V" } : Jvm.MethodName)) ∈ lw_all := lw_g (lw_at lw_m2 33 rfl) rfl
theorem q393 : (Jvm.Cond.code ({ cls := "java/lang/AbstractStringBuilder", name := "inflate", desc := "()V" } : Jvm.MethodName) prog_30_method_11_code (2 : Nat) (Option.none : Option Jvm.ClassFile.FieldType)) ∈ lw_all := lw_g (lw_at lw_m2 34 rfl) rfl
theorem q394 : (Jvm.Cond.methodLink "java/lang/AbstractStringBuilder" (125 : Nat) ({ cls := "java/lang/StringLatin1", name := "inflate", desc := "([BI[BII)V" } : Jvm.MethodName)) ∈ lw_all := lw_g (lw_at lw_m2 35 rfl) rfl
theorem q409 : (Jvm.Cond.methodLink "java/lang/AbstractStringBuilder" (399 : Nat) ({ cls := "java/lang/String", name := "getBytes", desc := "([BIB)V" } : Jvm.MethodName)) ∈ lw_all := lw_g (lw_at lw_m2 50 rfl) rfl
theorem q420 : (Jvm.Cond.instanceMethod ({ cls := "java/lang/AbstractStringBuilder", name := "append", desc := "(I)Ljava/lang/AbstractStringBuilder;" } : Jvm.MethodName)) ∈ lw_all := lw_g (lw_at lw_m2 61 rfl) rfl
theorem q421 : (Jvm.Cond.code ({ cls := "java/lang/AbstractStringBuilder", name := "append", desc := "(I)Ljava/lang/AbstractStringBuilder;" } : Jvm.MethodName) prog_30_method_32_code (4 : Nat) (Option.some (Jvm.ClassFile.FieldType.object "java/lang/AbstractStringBuilder"))) ∈ lw_all := lw_g (lw_at lw_m2 62 rfl) rfl
theorem q422 : (Jvm.Cond.methodLink "java/lang/AbstractStringBuilder" (245 : Nat) ({ cls := "java/lang/Integer", name := "stringSize", desc := "(I)I" } : Jvm.MethodName)) ∈ lw_all := lw_g (lw_at lw_m2 63 rfl) rfl
theorem q425 : (Jvm.Cond.methodLink "java/lang/AbstractStringBuilder" (248 : Nat) ({ cls := "java/lang/Integer", name := "getChars", desc := "(II[B)I" } : Jvm.MethodName)) ∈ lw_all := lw_g (lw_at lw_m2 66 rfl) rfl
theorem q432 : (Jvm.Cond.methodLink "java/lang/AbstractStringBuilder" (251 : Nat) ({ cls := "java/lang/StringUTF16", name := "getChars", desc := "(III[B)I" } : Jvm.MethodName)) ∈ lw_all := lw_g (lw_at lw_m2 73 rfl) rfl
theorem q454 : (Jvm.Cond.instanceMethod ({ cls := "java/lang/AbstractStringBuilder", name := "getValue", desc := "()[B" } : Jvm.MethodName)) ∈ lw_all := lw_g (lw_at lw_m2 95 rfl) rfl
theorem q455 : (Jvm.Cond.sameMethod "java/lang/AbstractStringBuilder" "java/lang/AbstractStringBuilder" "getValue" "()[B") ∈ lw_all := lw_g (lw_at lw_m2 96 rfl) rfl
theorem q457 : (Jvm.Cond.code ({ cls := "java/lang/AbstractStringBuilder", name := "getValue", desc := "()[B" } : Jvm.MethodName) prog_30_method_64_code (1 : Nat) (Option.some (Jvm.ClassFile.FieldType.array Jvm.ClassFile.FieldType.byte))) ∈ lw_all := lw_g (lw_at lw_m2 98 rfl) rfl
theorem q459 : (Jvm.Cond.instanceMethod ({ cls := "java/lang/AbstractStringBuilder", name := "length", desc := "()I" } : Jvm.MethodName)) ∈ lw_all := lw_g (lw_at lw_m2 100 rfl) rfl
theorem q460 : (Jvm.Cond.sameMethod "java/lang/AbstractStringBuilder" "java/lang/AbstractStringBuilder" "length" "()I") ∈ lw_all := lw_g (lw_at lw_m2 101 rfl) rfl
theorem q465 : (Jvm.Cond.code ({ cls := "java/lang/AbstractStringBuilder", name := "length", desc := "()I" } : Jvm.MethodName) prog_30_method_6_code (1 : Nat) (Option.some Jvm.ClassFile.FieldType.int)) ∈ lw_all := lw_g (lw_at lw_m2 106 rfl) rfl
theorem q1116 : (Jvm.Cond.instanceMethod ({ cls := "java/lang/AbstractStringBuilder", name := "compareTo", desc := "(Ljava/lang/AbstractStringBuilder;)I" } : Jvm.MethodName)) ∈ lw_all := lw_g (lw_at lw_m5 37 rfl) rfl
theorem q1117 : (Jvm.Cond.code ({ cls := "java/lang/AbstractStringBuilder", name := "compareTo", desc := "(Ljava/lang/AbstractStringBuilder;)I" } : Jvm.MethodName) prog_30_method_5_code (6 : Nat) (Option.some Jvm.ClassFile.FieldType.int)) ∈ lw_all := lw_g (lw_at lw_m5 38 rfl) rfl
theorem q1118 : (Jvm.Cond.methodLink "java/lang/AbstractStringBuilder" (87 : Nat) ({ cls := "java/lang/StringLatin1", name := "compareTo", desc := "([B[BII)I" } : Jvm.MethodName)) ∈ lw_all := lw_g (lw_at lw_m5 39 rfl) rfl
theorem q1119 : (Jvm.Cond.methodLink "java/lang/AbstractStringBuilder" (93 : Nat) ({ cls := "java/lang/StringUTF16", name := "compareTo", desc := "([B[BII)I" } : Jvm.MethodName)) ∈ lw_all := lw_g (lw_at lw_m5 40 rfl) rfl
theorem q1128 : (Jvm.Cond.methodLink "java/lang/AbstractStringBuilder" (94 : Nat) ({ cls := "java/lang/StringLatin1", name := "compareToUTF16", desc := "([B[BII)I" } : Jvm.MethodName)) ∈ lw_all := lw_g (lw_at lw_m5 49 rfl) rfl
theorem q1132 : (Jvm.Cond.methodLink "java/lang/AbstractStringBuilder" (97 : Nat) ({ cls := "java/lang/StringUTF16", name := "compareToLatin1", desc := "([B[BII)I" } : Jvm.MethodName)) ∈ lw_all := lw_g (lw_at lw_m5 53 rfl) rfl
theorem q1483 : (Jvm.Cond.instanceMethod ({ cls := "java/lang/AbstractStringBuilder", name := "append", desc := "(C)Ljava/lang/AbstractStringBuilder;" } : Jvm.MethodName)) ∈ lw_all := lw_g (lw_at lw_m6 164 rfl) rfl
theorem q1484 : (Jvm.Cond.code ({ cls := "java/lang/AbstractStringBuilder", name := "append", desc := "(C)Ljava/lang/AbstractStringBuilder;" } : Jvm.MethodName) prog_30_method_31_code (2 : Nat) (Option.some (Jvm.ClassFile.FieldType.object "java/lang/AbstractStringBuilder"))) ∈ lw_all := lw_g (lw_at lw_m6 165 rfl) rfl
theorem q1485 : (Jvm.Cond.methodLink "java/lang/AbstractStringBuilder" (191 : Nat) ({ cls := "java/lang/StringLatin1", name := "canEncode", desc := "(C)Z" } : Jvm.MethodName)) ∈ lw_all := lw_g (lw_at lw_m6 166 rfl) rfl
theorem q1488 : (Jvm.Cond.methodLink "java/lang/AbstractStringBuilder" (197 : Nat) ({ cls := "java/lang/StringUTF16", name := "putCharSB", desc := "([BII)V" } : Jvm.MethodName)) ∈ lw_all := lw_g (lw_at lw_m6 169 rfl) rfl
theorem q3375 : (Jvm.Cond.sameMethod "java/lang/AbstractStringBuilder" "java/lang/AbstractStringBuilder" "append" "(Ljava/lang/String;)Ljava/lang/AbstractStringBuilder;") ∈ lw_all := lw_g (lw_at lw_m14 136 rfl) rfl
theorem q3376 : (Jvm.Cond.sameMethod "java/lang/AbstractStringBuilder" "java/lang/AbstractStringBuilder" "appendNull" "()Ljava/lang/AbstractStringBuilder;") ∈ lw_all := lw_g (lw_at lw_m14 137 rfl) rfl
theorem q3377 : (Jvm.Cond.sameMethod "java/lang/AbstractStringBuilder" "java/lang/AbstractStringBuilder" "ensureCapacityInternal" "(I)V") ∈ lw_all := lw_g (lw_at lw_m14 138 rfl) rfl
theorem q3378 : (Jvm.Cond.sameMethod "java/lang/AbstractStringBuilder" "java/lang/AbstractStringBuilder" "newCapacity" "(I)I") ∈ lw_all := lw_g (lw_at lw_m14 139 rfl) rfl
theorem q3379 : (Jvm.Cond.sameMethod "java/lang/AbstractStringBuilder" "java/lang/AbstractStringBuilder" "putStringAt" "(ILjava/lang/String;)V") ∈ lw_all := lw_g (lw_at lw_m14 140 rfl) rfl
theorem q3380 : (Jvm.Cond.sameMethod "java/lang/AbstractStringBuilder" "java/lang/AbstractStringBuilder" "inflateIfNeededFor" "(Ljava/lang/String;)V") ∈ lw_all := lw_g (lw_at lw_m14 141 rfl) rfl
theorem q3381 : (Jvm.Cond.sameMethod "java/lang/AbstractStringBuilder" "java/lang/AbstractStringBuilder" "inflate" "()V") ∈ lw_all := lw_g (lw_at lw_m14 142 rfl) rfl
theorem q3382 : (Jvm.Cond.sameMethod "java/lang/AbstractStringBuilder" "java/lang/AbstractStringBuilder" "append" "(I)Ljava/lang/AbstractStringBuilder;") ∈ lw_all := lw_g (lw_at lw_m14 143 rfl) rfl
theorem q3383 : (Jvm.Cond.sameMethod "java/lang/AbstractStringBuilder" "java/lang/AbstractStringBuilder" "compareTo" "(Ljava/lang/AbstractStringBuilder;)I") ∈ lw_all := lw_g (lw_at lw_m14 144 rfl) rfl
theorem q3384 : (Jvm.Cond.sameMethod "java/lang/AbstractStringBuilder" "java/lang/AbstractStringBuilder" "append" "(C)Ljava/lang/AbstractStringBuilder;") ∈ lw_all := lw_g (lw_at lw_m14 145 rfl) rfl
/-! java/lang/StringBuilder -/
set_option maxRecDepth 100000
def RJ9 : String := "java/lang/StringBuilder"
def TJ9 : u_T := fun k => match k with
  | 0 => ("java/lang/AbstractStringBuilder", "value", "[B", false)
  | 1 => ("java/lang/AbstractStringBuilder", "coder", "B", false)
  | 2 => ("java/lang/AbstractStringBuilder", "maybeLatin1", "Z", false)
  | _ => ("java/lang/AbstractStringBuilder", "count", "I", false)
def tyJ9 : Nat → FieldType := fun k => match k with
  | 0 => .array .byte
  | 1 => .byte
  | 2 => .boolean
  | _ => .int
abbrev wsJ90 : List Cond := u_ws RJ9 TJ9 4
theorem nmJ9 : ∀ a, a < 4 → ∀ b, b < 4 → a ≠ b → (TJ9 a).2.1 ≠ (TJ9 b).2.1 := by decide +kernel
theorem tyJ9_ok : ∀ k, k < 4 → parseFieldDescriptor (TJ9 k).2.2.1 = some (tyJ9 k) := by decide +kernel
abbrev cJ9_init : ByteArray := prog_45_method_1_code
def yJ9_init : MethodName := ⟨RJ9, "<init>", "()V"⟩
def dkwJ9_init_0 : List UInt8 := [42, 16, 16, 183, 0, 1, 177]
abbrev dktJ9_init_0 : List UInt8 := dkwJ9_init_0 ++ []
theorem dksJ9_init_0 : cJ9_init.data.toList.drop 0 = dktJ9_init_0 := by decide +kernel
theorem dJ9_init_0 : decode cJ9_init 0 = .ok (.aload_n 0, 1) := dk_42 (dk_at dksJ9_init_0 0 rfl rfl)
theorem dJ9_init_1 : decode cJ9_init 1 = .ok (.bipush 16, 2) := dk_16 16 (dk_at dksJ9_init_0 1 rfl rfl)
theorem dJ9_init_3 : decode cJ9_init 3 = .ok (.invokespecial 1, 3) := dk_183 0 1 (dk_at dksJ9_init_0 3 rfl rfl)
theorem dJ9_init_6 : decode cJ9_init 6 = .ok (.return_, 1) := dk_177 (dk_at dksJ9_init_0 6 rfl rfl)
abbrev cJ9_append : ByteArray := prog_45_method_7_code
def yJ9_append : MethodName := ⟨RJ9, "append", "(Ljava/lang/String;)Ljava/lang/StringBuilder;"⟩
def dkwJ9_append_0 : List UInt8 := [42, 43, 183, 0, 29, 87, 42, 176]
abbrev dktJ9_append_0 : List UInt8 := dkwJ9_append_0 ++ []
theorem dksJ9_append_0 : cJ9_append.data.toList.drop 0 = dktJ9_append_0 := by decide +kernel
theorem dJ9_append_0 : decode cJ9_append 0 = .ok (.aload_n 0, 1) := dk_42 (dk_at dksJ9_append_0 0 rfl rfl)
theorem dJ9_append_1 : decode cJ9_append 1 = .ok (.aload_n 1, 1) := dk_43 (dk_at dksJ9_append_0 1 rfl rfl)
theorem dJ9_append_2 : decode cJ9_append 2 = .ok (.invokespecial 29, 3) := dk_183 0 29 (dk_at dksJ9_append_0 2 rfl rfl)
theorem dJ9_append_5 : decode cJ9_append 5 = .ok (.pop, 1) := dk_87 (dk_at dksJ9_append_0 5 rfl rfl)
theorem dJ9_append_6 : decode cJ9_append 6 = .ok (.aload_n 0, 1) := dk_42 (dk_at dksJ9_append_0 6 rfl rfl)
theorem dJ9_append_7 : decode cJ9_append 7 = .ok (.areturn, 1) := dk_176 (dk_at dksJ9_append_0 7 rfl rfl)
abbrev cJ9_append_2 : ByteArray := prog_45_method_15_code
def yJ9_append_2 : MethodName := ⟨RJ9, "append", "(I)Ljava/lang/StringBuilder;"⟩
def dkwJ9_append_2_0 : List UInt8 := [42, 27, 183, 0, 53, 87, 42, 176]
abbrev dktJ9_append_2_0 : List UInt8 := dkwJ9_append_2_0 ++ []
theorem dksJ9_append_2_0 : cJ9_append_2.data.toList.drop 0 = dktJ9_append_2_0 := by decide +kernel
theorem dJ9_append_2_0 : decode cJ9_append_2 0 = .ok (.aload_n 0, 1) := dk_42 (dk_at dksJ9_append_2_0 0 rfl rfl)
theorem dJ9_append_2_1 : decode cJ9_append_2 1 = .ok (.iload_n 1, 1) := dk_27 (dk_at dksJ9_append_2_0 1 rfl rfl)
theorem dJ9_append_2_2 : decode cJ9_append_2 2 = .ok (.invokespecial 53, 3) := dk_183 0 53 (dk_at dksJ9_append_2_0 2 rfl rfl)
theorem dJ9_append_2_5 : decode cJ9_append_2 5 = .ok (.pop, 1) := dk_87 (dk_at dksJ9_append_2_0 5 rfl rfl)
theorem dJ9_append_2_6 : decode cJ9_append_2 6 = .ok (.aload_n 0, 1) := dk_42 (dk_at dksJ9_append_2_0 6 rfl rfl)
theorem dJ9_append_2_7 : decode cJ9_append_2 7 = .ok (.areturn, 1) := dk_176 (dk_at dksJ9_append_2_0 7 rfl rfl)
abbrev cJ9_toString : ByteArray := prog_45_method_42_code
def yJ9_toString : MethodName := ⟨RJ9, "toString", "()Ljava/lang/String;"⟩
def dkwJ9_toString_0 : List UInt8 := [187, 0, 18, 89, 42, 183, 0, 137, 176]
abbrev dktJ9_toString_0 : List UInt8 := dkwJ9_toString_0 ++ []
theorem dksJ9_toString_0 : cJ9_toString.data.toList.drop 0 = dktJ9_toString_0 := by decide +kernel
theorem dJ9_toString_0 : decode cJ9_toString 0 = .ok (.new 18, 3) := dk_187 0 18 (dk_at dksJ9_toString_0 0 rfl rfl)
theorem dJ9_toString_3 : decode cJ9_toString 3 = .ok (.dup, 1) := dk_89 (dk_at dksJ9_toString_0 3 rfl rfl)
theorem dJ9_toString_4 : decode cJ9_toString 4 = .ok (.aload_n 0, 1) := dk_42 (dk_at dksJ9_toString_0 4 rfl rfl)
theorem dJ9_toString_5 : decode cJ9_toString 5 = .ok (.invokespecial 137, 3) := dk_183 0 137 (dk_at dksJ9_toString_0 5 rfl rfl)
theorem dJ9_toString_8 : decode cJ9_toString 8 = .ok (.areturn, 1) := dk_176 (dk_at dksJ9_toString_0 8 rfl rfl)
abbrev cJ9_length : ByteArray := prog_45_method_93_code
def yJ9_length : MethodName := ⟨RJ9, "length", "()I"⟩
theorem dJ9_length_0 : decode cJ9_length 0 = .ok (.aload_n 0, 1) := by decide +kernel
theorem dJ9_length_1 : decode cJ9_length 1 = .ok (.invokespecial 343, 3) := by decide +kernel
theorem dJ9_length_4 : decode cJ9_length 4 = .ok (.ireturn, 1) := by decide +kernel
abbrev cJ9_compareTo : ByteArray := prog_45_method_97_code
def yJ9_compareTo : MethodName := ⟨RJ9, "compareTo", "(Ljava/lang/Object;)I"⟩
def dkwJ9_compareTo_0 : List UInt8 := [42, 43, 192, 0, 24, 182, 1, 90, 172]
abbrev dktJ9_compareTo_0 : List UInt8 := dkwJ9_compareTo_0 ++ []
theorem dksJ9_compareTo_0 : cJ9_compareTo.data.toList.drop 0 = dktJ9_compareTo_0 := by decide +kernel
theorem dJ9_compareTo_0 : decode cJ9_compareTo 0 = .ok (.aload_n 0, 1) := dk_42 (dk_at dksJ9_compareTo_0 0 rfl rfl)
theorem dJ9_compareTo_1 : decode cJ9_compareTo 1 = .ok (.aload_n 1, 1) := dk_43 (dk_at dksJ9_compareTo_0 1 rfl rfl)
theorem dJ9_compareTo_2 : decode cJ9_compareTo 2 = .ok (.checkcast 24, 3) := dk_192 0 24 (dk_at dksJ9_compareTo_0 2 rfl rfl)
theorem dJ9_compareTo_5 : decode cJ9_compareTo 5 = .ok (.invokevirtual 346, 3) := dk_182 1 90 (dk_at dksJ9_compareTo_0 5 rfl rfl)
theorem dJ9_compareTo_8 : decode cJ9_compareTo 8 = .ok (.ireturn, 1) := dk_172 (dk_at dksJ9_compareTo_0 8 rfl rfl)
abbrev cJ9_compareTo_2 : ByteArray := prog_45_method_5_code
def yJ9_compareTo_2 : MethodName := ⟨RJ9, "compareTo", "(Ljava/lang/StringBuilder;)I"⟩
def dkwJ9_compareTo_2_0 : List UInt8 := [42, 43, 183, 0, 13, 172]
abbrev dktJ9_compareTo_2_0 : List UInt8 := dkwJ9_compareTo_2_0 ++ []
theorem dksJ9_compareTo_2_0 : cJ9_compareTo_2.data.toList.drop 0 = dktJ9_compareTo_2_0 := by decide +kernel
theorem dJ9_compareTo_2_0 : decode cJ9_compareTo_2 0 = .ok (.aload_n 0, 1) := dk_42 (dk_at dksJ9_compareTo_2_0 0 rfl rfl)
theorem dJ9_compareTo_2_1 : decode cJ9_compareTo_2 1 = .ok (.aload_n 1, 1) := dk_43 (dk_at dksJ9_compareTo_2_0 1 rfl rfl)
theorem dJ9_compareTo_2_2 : decode cJ9_compareTo_2 2 = .ok (.invokespecial 13, 3) := dk_183 0 13 (dk_at dksJ9_compareTo_2_0 2 rfl rfl)
theorem dJ9_compareTo_2_5 : decode cJ9_compareTo_2 5 = .ok (.ireturn, 1) := dk_172 (dk_at dksJ9_compareTo_2_0 5 rfl rfl)
abbrev cJ9_init_2 : ByteArray := prog_45_method_2_code
def yJ9_init_2 : MethodName := ⟨RJ9, "<init>", "(I)V"⟩
def dkwJ9_init_2_0 : List UInt8 := [42, 27, 183, 0, 1, 177]
abbrev dktJ9_init_2_0 : List UInt8 := dkwJ9_init_2_0 ++ []
theorem dksJ9_init_2_0 : cJ9_init_2.data.toList.drop 0 = dktJ9_init_2_0 := by decide +kernel
theorem dJ9_init_2_0 : decode cJ9_init_2 0 = .ok (.aload_n 0, 1) := dk_42 (dk_at dksJ9_init_2_0 0 rfl rfl)
theorem dJ9_init_2_1 : decode cJ9_init_2 1 = .ok (.iload_n 1, 1) := dk_27 (dk_at dksJ9_init_2_0 1 rfl rfl)
theorem dJ9_init_2_2 : decode cJ9_init_2 2 = .ok (.invokespecial 1, 3) := dk_183 0 1 (dk_at dksJ9_init_2_0 2 rfl rfl)
theorem dJ9_init_2_5 : decode cJ9_init_2 5 = .ok (.return_, 1) := dk_177 (dk_at dksJ9_init_2_0 5 rfl rfl)
abbrev cJ9_append_3 : ByteArray := prog_45_method_14_code
def yJ9_append_3 : MethodName := ⟨RJ9, "append", "(C)Ljava/lang/StringBuilder;"⟩
def dkwJ9_append_3_0 : List UInt8 := [42, 27, 183, 0, 50, 87, 42, 176]
abbrev dktJ9_append_3_0 : List UInt8 := dkwJ9_append_3_0 ++ []
theorem dksJ9_append_3_0 : cJ9_append_3.data.toList.drop 0 = dktJ9_append_3_0 := by decide +kernel
theorem dJ9_append_3_0 : decode cJ9_append_3 0 = .ok (.aload_n 0, 1) := dk_42 (dk_at dksJ9_append_3_0 0 rfl rfl)
theorem dJ9_append_3_1 : decode cJ9_append_3 1 = .ok (.iload_n 1, 1) := dk_27 (dk_at dksJ9_append_3_0 1 rfl rfl)
theorem dJ9_append_3_2 : decode cJ9_append_3 2 = .ok (.invokespecial 50, 3) := dk_183 0 50 (dk_at dksJ9_append_3_0 2 rfl rfl)
theorem dJ9_append_3_5 : decode cJ9_append_3 5 = .ok (.pop, 1) := dk_87 (dk_at dksJ9_append_3_0 5 rfl rfl)
theorem dJ9_append_3_6 : decode cJ9_append_3 6 = .ok (.aload_n 0, 1) := dk_42 (dk_at dksJ9_append_3_0 6 rfl rfl)
theorem dJ9_append_3_7 : decode cJ9_append_3 7 = .ok (.areturn, 1) := dk_176 (dk_at dksJ9_append_3_0 7 rfl rfl)
theorem q131 : (Jvm.Cond.initialized "java/lang/StringBuilder") ∈ lw_all := lw_g (lw_at lw_m1 12 rfl) rfl
theorem q264 : (Jvm.Cond.instantiable "java/lang/StringBuilder" (4 : Nat)) ∈ lw_all := lw_g (lw_at lw_m1 145 rfl) rfl
theorem q266 : (Jvm.Cond.instanceMethod ({ cls := "java/lang/StringBuilder", name := "<init>", desc := "()V" } : Jvm.MethodName)) ∈ lw_all := lw_g (lw_at lw_m1 147 rfl) rfl
theorem q267 : (Jvm.Cond.code ({ cls := "java/lang/StringBuilder", name := "<init>", desc := "()V" } : Jvm.MethodName) prog_45_method_1_code (1 : Nat) (Option.none : Option Jvm.ClassFile.FieldType)) ∈ lw_all := lw_g (lw_at lw_m1 148 rfl) rfl
theorem q268 : (Jvm.Cond.methodLink "java/lang/StringBuilder" (1 : Nat) ({ cls := "java/lang/AbstractStringBuilder", name := "<init>", desc := "(I)V" } : Jvm.MethodName)) ∈ lw_all := lw_g (lw_at lw_m1 149 rfl) rfl
theorem q285 : (Jvm.Cond.lays "java/lang/StringBuilder" "java/lang/AbstractStringBuilder" "value" "[B") ∈ lw_all := lw_g (lw_at lw_m1 166 rfl) rfl
theorem q287 : (Jvm.Cond.lays "java/lang/StringBuilder" "java/lang/AbstractStringBuilder" "coder" "B") ∈ lw_all := lw_g (lw_at lw_m1 168 rfl) rfl
theorem q289 : (Jvm.Cond.lays "java/lang/StringBuilder" "java/lang/AbstractStringBuilder" "maybeLatin1" "Z") ∈ lw_all := lw_g (lw_at lw_m1 170 rfl) rfl
theorem q291 : (Jvm.Cond.lays "java/lang/StringBuilder" "java/lang/AbstractStringBuilder" "count" "I") ∈ lw_all := lw_g (lw_at lw_m1 172 rfl) rfl
theorem q293 : (Jvm.Cond.superclass "java/lang/StringBuilder" "java/lang/AbstractStringBuilder") ∈ lw_all := lw_g (lw_at lw_m1 174 rfl) rfl
theorem q296 : (Jvm.Cond.instanceMethod ({ cls := "java/lang/StringBuilder", name := "append", desc := "(Ljava/lang/String;)Ljava/lang/StringBuilder;" } : Jvm.MethodName)) ∈ lw_all := lw_g (lw_at lw_m1 177 rfl) rfl
theorem q297 : (Jvm.Cond.selects "java/lang/StringBuilder" ({ cls := "java/lang/StringBuilder", name := "append", desc := "(Ljava/lang/String;)Ljava/lang/StringBuilder;" } : Jvm.MethodName) ({ cls := "java/lang/StringBuilder", name := "append", desc := "(Ljava/lang/String;)Ljava/lang/StringBuilder;" } : Jvm.MethodName)) ∈ lw_all := lw_g (lw_at lw_m1 178 rfl) rfl
theorem q298 : (Jvm.Cond.code ({ cls := "java/lang/StringBuilder", name := "append", desc := "(Ljava/lang/String;)Ljava/lang/StringBuilder;" } : Jvm.MethodName) prog_45_method_7_code (2 : Nat) (Option.some (Jvm.ClassFile.FieldType.object "java/lang/StringBuilder"))) ∈ lw_all := lw_g (lw_at lw_m1 179 rfl) rfl
theorem q299 : (Jvm.Cond.methodLink "java/lang/StringBuilder" (29 : Nat) ({ cls := "java/lang/AbstractStringBuilder", name := "append", desc := "(Ljava/lang/String;)Ljava/lang/AbstractStringBuilder;" } : Jvm.MethodName)) ∈ lw_all := lw_g (lw_at lw_m1 180 rfl) rfl
theorem q344 : (Jvm.Cond.selects "java/lang/StringBuilder" ({ cls := "java/lang/AbstractStringBuilder", name := "isLatin1", desc := "()Z" } : Jvm.MethodName) ({ cls := "java/lang/AbstractStringBuilder", name := "isLatin1", desc := "()Z" } : Jvm.MethodName)) ∈ lw_all := lw_g (lw_at lw_m1 225 rfl) rfl
theorem q416 : (Jvm.Cond.instanceMethod ({ cls := "java/lang/StringBuilder", name := "append", desc := "(I)Ljava/lang/StringBuilder;" } : Jvm.MethodName)) ∈ lw_all := lw_g (lw_at lw_m2 57 rfl) rfl
theorem q417 : (Jvm.Cond.selects "java/lang/StringBuilder" ({ cls := "java/lang/StringBuilder", name := "append", desc := "(I)Ljava/lang/StringBuilder;" } : Jvm.MethodName) ({ cls := "java/lang/StringBuilder", name := "append", desc := "(I)Ljava/lang/StringBuilder;" } : Jvm.MethodName)) ∈ lw_all := lw_g (lw_at lw_m2 58 rfl) rfl
theorem q418 : (Jvm.Cond.code ({ cls := "java/lang/StringBuilder", name := "append", desc := "(I)Ljava/lang/StringBuilder;" } : Jvm.MethodName) prog_45_method_15_code (2 : Nat) (Option.some (Jvm.ClassFile.FieldType.object "java/lang/StringBuilder"))) ∈ lw_all := lw_g (lw_at lw_m2 59 rfl) rfl
theorem q419 : (Jvm.Cond.methodLink "java/lang/StringBuilder" (53 : Nat) ({ cls := "java/lang/AbstractStringBuilder", name := "append", desc := "(I)Ljava/lang/AbstractStringBuilder;" } : Jvm.MethodName)) ∈ lw_all := lw_g (lw_at lw_m2 60 rfl) rfl
theorem q441 : (Jvm.Cond.instanceMethod ({ cls := "java/lang/StringBuilder", name := "toString", desc := "()Ljava/lang/String;" } : Jvm.MethodName)) ∈ lw_all := lw_g (lw_at lw_m2 82 rfl) rfl
theorem q442 : (Jvm.Cond.selects "java/lang/StringBuilder" ({ cls := "java/lang/StringBuilder", name := "toString", desc := "()Ljava/lang/String;" } : Jvm.MethodName) ({ cls := "java/lang/StringBuilder", name := "toString", desc := "()Ljava/lang/String;" } : Jvm.MethodName)) ∈ lw_all := lw_g (lw_at lw_m2 83 rfl) rfl
theorem q443 : (Jvm.Cond.code ({ cls := "java/lang/StringBuilder", name := "toString", desc := "()Ljava/lang/String;" } : Jvm.MethodName) prog_45_method_42_code (1 : Nat) (Option.some (Jvm.ClassFile.FieldType.object "java/lang/String"))) ∈ lw_all := lw_g (lw_at lw_m2 84 rfl) rfl
theorem q444 : (Jvm.Cond.classLink "java/lang/StringBuilder" (18 : Nat) "java/lang/String") ∈ lw_all := lw_g (lw_at lw_m2 85 rfl) rfl
theorem q446 : (Jvm.Cond.methodLink "java/lang/StringBuilder" (137 : Nat) ({ cls := "java/lang/String", name := "<init>", desc := "(Ljava/lang/StringBuilder;)V" } : Jvm.MethodName)) ∈ lw_all := lw_g (lw_at lw_m2 87 rfl) rfl
theorem q456 : (Jvm.Cond.selects "java/lang/StringBuilder" ({ cls := "java/lang/AbstractStringBuilder", name := "getValue", desc := "()[B" } : Jvm.MethodName) ({ cls := "java/lang/AbstractStringBuilder", name := "getValue", desc := "()[B" } : Jvm.MethodName)) ∈ lw_all := lw_g (lw_at lw_m2 97 rfl) rfl
theorem q461 : (Jvm.Cond.selects "java/lang/StringBuilder" ({ cls := "java/lang/AbstractStringBuilder", name := "length", desc := "()I" } : Jvm.MethodName) ({ cls := "java/lang/StringBuilder", name := "length", desc := "()I" } : Jvm.MethodName)) ∈ lw_all := lw_g (lw_at lw_m2 102 rfl) rfl
theorem q462 : (Jvm.Cond.instanceMethod ({ cls := "java/lang/StringBuilder", name := "length", desc := "()I" } : Jvm.MethodName)) ∈ lw_all := lw_g (lw_at lw_m2 103 rfl) rfl
theorem q463 : (Jvm.Cond.code ({ cls := "java/lang/StringBuilder", name := "length", desc := "()I" } : Jvm.MethodName) prog_45_method_93_code (1 : Nat) (Option.some Jvm.ClassFile.FieldType.int)) ∈ lw_all := lw_g (lw_at lw_m2 104 rfl) rfl
theorem q464 : (Jvm.Cond.methodLink "java/lang/StringBuilder" (343 : Nat) ({ cls := "java/lang/AbstractStringBuilder", name := "length", desc := "()I" } : Jvm.MethodName)) ∈ lw_all := lw_g (lw_at lw_m2 105 rfl) rfl
theorem q717 : (Jvm.Cond.selects "java/lang/StringBuilder" ({ cls := "java/lang/Object", name := "getClass", desc := "()Ljava/lang/Class;" } : Jvm.MethodName) ({ cls := "java/lang/Object", name := "getClass", desc := "()Ljava/lang/Class;" } : Jvm.MethodName)) ∈ lw_all := lw_g (lw_at lw_m3 118 rfl) rfl
theorem q841 : (Jvm.Cond.selects "java/lang/StringBuilder" ({ cls := "java/lang/Object", name := "hashCode", desc := "()I" } : Jvm.MethodName) ({ cls := "java/lang/Object", name := "hashCode", desc := "()I" } : Jvm.MethodName)) ∈ lw_all := lw_g (lw_at lw_m4 2 rfl) rfl
theorem q1104 : (Jvm.Cond.castable "java/lang/StringBuilder" "java/lang/Comparable") ∈ lw_tbl := lw_at lw_m5 25 rfl
theorem q1105 : (Jvm.Cond.selects "java/lang/StringBuilder" ({ cls := "java/lang/Comparable", name := "compareTo", desc := "(Ljava/lang/Object;)I" } : Jvm.MethodName) ({ cls := "java/lang/StringBuilder", name := "compareTo", desc := "(Ljava/lang/Object;)I" } : Jvm.MethodName)) ∈ lw_all := lw_g (lw_at lw_m5 26 rfl) rfl
theorem q1106 : (Jvm.Cond.unhidden "java/lang/StringBuilder" "compareTo" "(Ljava/lang/Object;)I") ∈ lw_tbl := lw_at lw_m5 27 rfl
theorem q1107 : (Jvm.Cond.instanceMethod ({ cls := "java/lang/StringBuilder", name := "compareTo", desc := "(Ljava/lang/Object;)I" } : Jvm.MethodName)) ∈ lw_all := lw_g (lw_at lw_m5 28 rfl) rfl
theorem q1108 : (Jvm.Cond.publicMethod ({ cls := "java/lang/StringBuilder", name := "compareTo", desc := "(Ljava/lang/Object;)I" } : Jvm.MethodName)) ∈ lw_tbl := lw_at lw_m5 29 rfl
theorem q1109 : (Jvm.Cond.code ({ cls := "java/lang/StringBuilder", name := "compareTo", desc := "(Ljava/lang/Object;)I" } : Jvm.MethodName) prog_45_method_97_code (2 : Nat) (Option.some Jvm.ClassFile.FieldType.int)) ∈ lw_all := lw_g (lw_at lw_m5 30 rfl) rfl
theorem q1110 : (Jvm.Cond.classLink "java/lang/StringBuilder" (24 : Nat) "java/lang/StringBuilder") ∈ lw_all := lw_g (lw_at lw_m5 31 rfl) rfl
theorem q1111 : (Jvm.Cond.methodLink "java/lang/StringBuilder" (346 : Nat) ({ cls := "java/lang/StringBuilder", name := "compareTo", desc := "(Ljava/lang/StringBuilder;)I" } : Jvm.MethodName)) ∈ lw_all := lw_g (lw_at lw_m5 32 rfl) rfl
theorem q1112 : (Jvm.Cond.instanceMethod ({ cls := "java/lang/StringBuilder", name := "compareTo", desc := "(Ljava/lang/StringBuilder;)I" } : Jvm.MethodName)) ∈ lw_all := lw_g (lw_at lw_m5 33 rfl) rfl
theorem q1113 : (Jvm.Cond.selects "java/lang/StringBuilder" ({ cls := "java/lang/StringBuilder", name := "compareTo", desc := "(Ljava/lang/StringBuilder;)I" } : Jvm.MethodName) ({ cls := "java/lang/StringBuilder", name := "compareTo", desc := "(Ljava/lang/StringBuilder;)I" } : Jvm.MethodName)) ∈ lw_all := lw_g (lw_at lw_m5 34 rfl) rfl
theorem q1114 : (Jvm.Cond.code ({ cls := "java/lang/StringBuilder", name := "compareTo", desc := "(Ljava/lang/StringBuilder;)I" } : Jvm.MethodName) prog_45_method_5_code (2 : Nat) (Option.some Jvm.ClassFile.FieldType.int)) ∈ lw_all := lw_g (lw_at lw_m5 35 rfl) rfl
theorem q1115 : (Jvm.Cond.methodLink "java/lang/StringBuilder" (13 : Nat) ({ cls := "java/lang/AbstractStringBuilder", name := "compareTo", desc := "(Ljava/lang/AbstractStringBuilder;)I" } : Jvm.MethodName)) ∈ lw_all := lw_g (lw_at lw_m5 36 rfl) rfl
theorem q1191 : (Jvm.Cond.selects "java/lang/StringBuilder" ({ cls := "java/lang/Object", name := "equals", desc := "(Ljava/lang/Object;)Z" } : Jvm.MethodName) ({ cls := "java/lang/Object", name := "equals", desc := "(Ljava/lang/Object;)Z" } : Jvm.MethodName)) ∈ lw_all := lw_g (lw_at lw_m5 112 rfl) rfl
theorem q1436 : (Jvm.Cond.instanceMethod ({ cls := "java/lang/StringBuilder", name := "<init>", desc := "(I)V" } : Jvm.MethodName)) ∈ lw_all := lw_g (lw_at lw_m6 117 rfl) rfl
theorem q1437 : (Jvm.Cond.code ({ cls := "java/lang/StringBuilder", name := "<init>", desc := "(I)V" } : Jvm.MethodName) prog_45_method_2_code (2 : Nat) (Option.none : Option Jvm.ClassFile.FieldType)) ∈ lw_all := lw_g (lw_at lw_m6 118 rfl) rfl
theorem q1479 : (Jvm.Cond.instanceMethod ({ cls := "java/lang/StringBuilder", name := "append", desc := "(C)Ljava/lang/StringBuilder;" } : Jvm.MethodName)) ∈ lw_all := lw_g (lw_at lw_m6 160 rfl) rfl
theorem q1480 : (Jvm.Cond.selects "java/lang/StringBuilder" ({ cls := "java/lang/StringBuilder", name := "append", desc := "(C)Ljava/lang/StringBuilder;" } : Jvm.MethodName) ({ cls := "java/lang/StringBuilder", name := "append", desc := "(C)Ljava/lang/StringBuilder;" } : Jvm.MethodName)) ∈ lw_all := lw_g (lw_at lw_m6 161 rfl) rfl
theorem q1481 : (Jvm.Cond.code ({ cls := "java/lang/StringBuilder", name := "append", desc := "(C)Ljava/lang/StringBuilder;" } : Jvm.MethodName) prog_45_method_14_code (2 : Nat) (Option.some (Jvm.ClassFile.FieldType.object "java/lang/StringBuilder"))) ∈ lw_all := lw_g (lw_at lw_m6 162 rfl) rfl
theorem q1482 : (Jvm.Cond.methodLink "java/lang/StringBuilder" (50 : Nat) ({ cls := "java/lang/AbstractStringBuilder", name := "append", desc := "(C)Ljava/lang/AbstractStringBuilder;" } : Jvm.MethodName)) ∈ lw_all := lw_g (lw_at lw_m6 163 rfl) rfl
theorem q3388 : (Jvm.Cond.selects "java/lang/StringBuilder" ({ cls := "java/lang/StringBuilder", name := "length", desc := "()I" } : Jvm.MethodName) ({ cls := "java/lang/StringBuilder", name := "length", desc := "()I" } : Jvm.MethodName)) ∈ lw_all := lw_g (lw_at lw_m14 149 rfl) rfl
theorem q3438 : (Jvm.Cond.castable "java/lang/StringBuilder" "java/lang/Object") ∈ lw_tbl := lw_at lw_m14 199 rfl
theorem in_J9 : ∀ w ∈ wsJ90, w ∈ lw_all := lw_in wsJ90 [285, 287, 289, 291] (by decide +kernel) (by decide +kernel)
