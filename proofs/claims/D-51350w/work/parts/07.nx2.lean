/-! SpokenMarks$Scanner -/
set_option maxRecDepth 100000
def RX11 : String := "SpokenMarks$Scanner"
def TX11 : u_T := fun k => match k with
  | 0 => ("SpokenMarks$Scanner", "text", "[B", true)
  | 1 => ("SpokenMarks$Scanner", "end", "I", true)
  | 2 => ("SpokenMarks$Scanner", "begin", "I", false)
  | 3 => ("SpokenMarks$Scanner", "next", "I", false)
  | 4 => ("SpokenMarks$Scanner", "value", "I", false)
  | 5 => ("SpokenMarks$Scanner", "kind", "I", false)
  | _ => ("SpokenMarks$Scanner", "word", "Ljava/lang/String;", false)
def tyX11 : Nat → FieldType := fun k => match k with
  | 0 => .array .byte
  | 1 => .int
  | 2 => .int
  | 3 => .int
  | 4 => .int
  | 5 => .int
  | _ => .object "java/lang/String"
abbrev wsX110 : List Cond := u_ws RX11 TX11 7
theorem nmX11 : ∀ a, a < 7 → ∀ b, b < 7 → a ≠ b → (TX11 a).2.1 ≠ (TX11 b).2.1 := by decide +kernel
theorem tyX11_ok : ∀ k, k < 7 → parseFieldDescriptor (TX11 k).2.2.1 = some (tyX11 k) := by decide +kernel
abbrev cX11_init : ByteArray := prog_14_method_1_code
def yX11_init : MethodName := ⟨RX11, "<init>", "([BI)V"⟩
def dkwX11_init_1 : List UInt8 := [177]
abbrev dktX11_init_1 : List UInt8 := dkwX11_init_1 ++ []
def dkwX11_init_0 : List UInt8 := [42, 183, 0, 3, 42, 18, 9, 181, 0, 11, 42, 43, 181, 0, 17, 42, 28, 181, 0, 21, 42, 182, 0, 25]
abbrev dktX11_init_0 : List UInt8 := dkwX11_init_0 ++ dktX11_init_1
theorem dksX11_init_0 : cX11_init.data.toList.drop 0 = dktX11_init_0 := by decide +kernel
theorem dksX11_init_1 : cX11_init.data.toList.drop 24 = dktX11_init_1 := dk_seg dksX11_init_0 24 rfl rfl
theorem dX11_init_0 : decode cX11_init 0 = .ok (.aload_n 0, 1) := dk_42 (dk_at dksX11_init_0 0 rfl rfl)
theorem dX11_init_1 : decode cX11_init 1 = .ok (.invokespecial 3, 3) := dk_183 0 3 (dk_at dksX11_init_0 1 rfl rfl)
theorem dX11_init_4 : decode cX11_init 4 = .ok (.aload_n 0, 1) := dk_42 (dk_at dksX11_init_0 4 rfl rfl)
theorem dX11_init_5 : decode cX11_init 5 = .ok (.ldc 9, 2) := dk_18 9 (dk_at dksX11_init_0 5 rfl rfl)
theorem dX11_init_7 : decode cX11_init 7 = .ok (.putfield 11, 3) := dk_181 0 11 (dk_at dksX11_init_0 7 rfl rfl)
theorem dX11_init_10 : decode cX11_init 10 = .ok (.aload_n 0, 1) := dk_42 (dk_at dksX11_init_0 10 rfl rfl)
theorem dX11_init_11 : decode cX11_init 11 = .ok (.aload_n 1, 1) := dk_43 (dk_at dksX11_init_0 11 rfl rfl)
theorem dX11_init_12 : decode cX11_init 12 = .ok (.putfield 17, 3) := dk_181 0 17 (dk_at dksX11_init_0 12 rfl rfl)
theorem dX11_init_15 : decode cX11_init 15 = .ok (.aload_n 0, 1) := dk_42 (dk_at dksX11_init_0 15 rfl rfl)
theorem dX11_init_16 : decode cX11_init 16 = .ok (.iload_n 2, 1) := dk_28 (dk_at dksX11_init_0 16 rfl rfl)
theorem dX11_init_17 : decode cX11_init 17 = .ok (.putfield 21, 3) := dk_181 0 21 (dk_at dksX11_init_0 17 rfl rfl)
theorem dX11_init_20 : decode cX11_init 20 = .ok (.aload_n 0, 1) := dk_42 (dk_at dksX11_init_0 20 rfl rfl)
theorem dX11_init_21 : decode cX11_init 21 = .ok (.invokevirtual 25, 3) := dk_182 0 25 (dk_at dksX11_init_0 21 rfl rfl)
theorem dX11_init_24 : decode cX11_init 24 = .ok (.return_, 1) := dk_177 (dk_at dksX11_init_1 0 rfl rfl)
abbrev cX11_advance : ByteArray := prog_14_method_3_code
def yX11_advance : MethodName := ⟨RX11, "advance", "()V"⟩
def dkwX11_advance_8 : List UInt8 := [160, 0, 7, 7, 167, 0, 4, 8, 181, 0, 38, 177]
abbrev dktX11_advance_8 : List UInt8 := dkwX11_advance_8 ++ []
def dkwX11_advance_7 : List UInt8 := [180, 0, 31, 51, 16, 59, 160, 0, 7, 6, 167, 0, 22, 42, 180, 0, 17, 42, 180, 0, 31, 51, 16, 61]
abbrev dktX11_advance_7 : List UInt8 := dkwX11_advance_7 ++ dktX11_advance_8
def dkwX11_advance_6 : List UInt8 := [181, 0, 49, 167, 0, 54, 42, 89, 180, 0, 28, 4, 96, 181, 0, 28, 42, 42, 180, 0, 17, 42]
abbrev dktX11_advance_6 : List UInt8 := dkwX11_advance_6 ++ dktX11_advance_7
def dkwX11_advance_5 : List UInt8 := [180, 0, 31, 16, 48, 16, 57, 182, 0, 34, 153, 0, 19, 42, 5, 181, 0, 38, 42, 42, 182, 0, 45]
abbrev dktX11_advance_5 : List UInt8 := dkwX11_advance_5 ++ dktX11_advance_6
def dkwX11_advance_4 : List UInt8 := [182, 0, 34, 153, 0, 19, 42, 4, 181, 0, 38, 42, 42, 182, 0, 41, 181, 0, 11, 167, 0, 85, 42, 42]
abbrev dktX11_advance_4 : List UInt8 := dkwX11_advance_4 ++ dktX11_advance_5
def dkwX11_advance_3 : List UInt8 := [180, 0, 21, 160, 0, 11, 42, 3, 181, 0, 38, 167, 0, 116, 42, 42, 180, 0, 31, 16, 97, 16, 122]
abbrev dktX11_advance_3 : List UInt8 := dkwX11_advance_3 ++ dktX11_advance_4
def dkwX11_advance_2 : List UInt8 := [167, 255, 216, 42, 42, 180, 0, 31, 181, 0, 28, 42, 18, 9, 181, 0, 11, 42, 180, 0, 31, 42]
abbrev dktX11_advance_2 : List UInt8 := dkwX11_advance_2 ++ dktX11_advance_3
def dkwX11_advance_1 : List UInt8 := [42, 180, 0, 31, 16, 10, 16, 10, 182, 0, 34, 153, 0, 16, 42, 89, 180, 0, 31, 4, 96, 181, 0, 31]
abbrev dktX11_advance_1 : List UInt8 := dkwX11_advance_1 ++ dktX11_advance_2
def dkwX11_advance_0 : List UInt8 := [42, 42, 180, 0, 28, 181, 0, 31, 42, 42, 180, 0, 31, 16, 32, 16, 32, 182, 0, 34, 154, 0, 18, 42]
abbrev dktX11_advance_0 : List UInt8 := dkwX11_advance_0 ++ dktX11_advance_1
theorem dksX11_advance_0 : cX11_advance.data.toList.drop 0 = dktX11_advance_0 := by decide +kernel
theorem dksX11_advance_1 : cX11_advance.data.toList.drop 24 = dktX11_advance_1 := dk_seg dksX11_advance_0 24 rfl rfl
theorem dksX11_advance_2 : cX11_advance.data.toList.drop 48 = dktX11_advance_2 := dk_seg dksX11_advance_1 24 rfl rfl
theorem dksX11_advance_3 : cX11_advance.data.toList.drop 70 = dktX11_advance_3 := dk_seg dksX11_advance_2 22 rfl rfl
theorem dksX11_advance_4 : cX11_advance.data.toList.drop 93 = dktX11_advance_4 := dk_seg dksX11_advance_3 23 rfl rfl
theorem dksX11_advance_5 : cX11_advance.data.toList.drop 117 = dktX11_advance_5 := dk_seg dksX11_advance_4 24 rfl rfl
theorem dksX11_advance_6 : cX11_advance.data.toList.drop 140 = dktX11_advance_6 := dk_seg dksX11_advance_5 23 rfl rfl
theorem dksX11_advance_7 : cX11_advance.data.toList.drop 162 = dktX11_advance_7 := dk_seg dksX11_advance_6 22 rfl rfl
theorem dksX11_advance_8 : cX11_advance.data.toList.drop 186 = dktX11_advance_8 := dk_seg dksX11_advance_7 24 rfl rfl
theorem dX11_advance_0 : decode cX11_advance 0 = .ok (.aload_n 0, 1) := dk_42 (dk_at dksX11_advance_0 0 rfl rfl)
theorem dX11_advance_1 : decode cX11_advance 1 = .ok (.aload_n 0, 1) := dk_42 (dk_at dksX11_advance_0 1 rfl rfl)
theorem dX11_advance_2 : decode cX11_advance 2 = .ok (.getfield 28, 3) := dk_180 0 28 (dk_at dksX11_advance_0 2 rfl rfl)
theorem dX11_advance_5 : decode cX11_advance 5 = .ok (.putfield 31, 3) := dk_181 0 31 (dk_at dksX11_advance_0 5 rfl rfl)
theorem dX11_advance_8 : decode cX11_advance 8 = .ok (.aload_n 0, 1) := dk_42 (dk_at dksX11_advance_0 8 rfl rfl)
theorem dX11_advance_9 : decode cX11_advance 9 = .ok (.aload_n 0, 1) := dk_42 (dk_at dksX11_advance_0 9 rfl rfl)
theorem dX11_advance_10 : decode cX11_advance 10 = .ok (.getfield 31, 3) := dk_180 0 31 (dk_at dksX11_advance_0 10 rfl rfl)
theorem dX11_advance_13 : decode cX11_advance 13 = .ok (.bipush 32, 2) := dk_16 32 (dk_at dksX11_advance_0 13 rfl rfl)
theorem dX11_advance_15 : decode cX11_advance 15 = .ok (.bipush 32, 2) := dk_16 32 (dk_at dksX11_advance_0 15 rfl rfl)
theorem dX11_advance_17 : decode cX11_advance 17 = .ok (.invokevirtual 34, 3) := dk_182 0 34 (dk_at dksX11_advance_0 17 rfl rfl)
theorem dX11_advance_20 : decode cX11_advance 20 = .ok (.ifCond .ne 18, 3) := dk_154 0 18 (dk_at dksX11_advance_0 20 rfl rfl)
theorem dX11_advance_23 : decode cX11_advance 23 = .ok (.aload_n 0, 1) := dk_42 (dk_at dksX11_advance_0 23 rfl rfl)
theorem dX11_advance_24 : decode cX11_advance 24 = .ok (.aload_n 0, 1) := dk_42 (dk_at dksX11_advance_1 0 rfl rfl)
theorem dX11_advance_25 : decode cX11_advance 25 = .ok (.getfield 31, 3) := dk_180 0 31 (dk_at dksX11_advance_1 1 rfl rfl)
theorem dX11_advance_28 : decode cX11_advance 28 = .ok (.bipush 10, 2) := dk_16 10 (dk_at dksX11_advance_1 4 rfl rfl)
theorem dX11_advance_30 : decode cX11_advance 30 = .ok (.bipush 10, 2) := dk_16 10 (dk_at dksX11_advance_1 6 rfl rfl)
theorem dX11_advance_32 : decode cX11_advance 32 = .ok (.invokevirtual 34, 3) := dk_182 0 34 (dk_at dksX11_advance_1 8 rfl rfl)
theorem dX11_advance_35 : decode cX11_advance 35 = .ok (.ifCond .eq 16, 3) := dk_153 0 16 (dk_at dksX11_advance_1 11 rfl rfl)
theorem dX11_advance_38 : decode cX11_advance 38 = .ok (.aload_n 0, 1) := dk_42 (dk_at dksX11_advance_1 14 rfl rfl)
theorem dX11_advance_39 : decode cX11_advance 39 = .ok (.dup, 1) := dk_89 (dk_at dksX11_advance_1 15 rfl rfl)
theorem dX11_advance_40 : decode cX11_advance 40 = .ok (.getfield 31, 3) := dk_180 0 31 (dk_at dksX11_advance_1 16 rfl rfl)
theorem dX11_advance_43 : decode cX11_advance 43 = .ok (.iconst 1, 1) := dk_4 (dk_at dksX11_advance_1 19 rfl rfl)
theorem dX11_advance_44 : decode cX11_advance 44 = .ok (.iadd, 1) := dk_96 (dk_at dksX11_advance_1 20 rfl rfl)
theorem dX11_advance_45 : decode cX11_advance 45 = .ok (.putfield 31, 3) := dk_181 0 31 (dk_at dksX11_advance_1 21 rfl rfl)
theorem dX11_advance_48 : decode cX11_advance 48 = .ok (.goto (-40), 3) := dk_167 255 216 (dk_at dksX11_advance_2 0 rfl rfl)
theorem dX11_advance_51 : decode cX11_advance 51 = .ok (.aload_n 0, 1) := dk_42 (dk_at dksX11_advance_2 3 rfl rfl)
theorem dX11_advance_52 : decode cX11_advance 52 = .ok (.aload_n 0, 1) := dk_42 (dk_at dksX11_advance_2 4 rfl rfl)
theorem dX11_advance_53 : decode cX11_advance 53 = .ok (.getfield 31, 3) := dk_180 0 31 (dk_at dksX11_advance_2 5 rfl rfl)
theorem dX11_advance_56 : decode cX11_advance 56 = .ok (.putfield 28, 3) := dk_181 0 28 (dk_at dksX11_advance_2 8 rfl rfl)
theorem dX11_advance_59 : decode cX11_advance 59 = .ok (.aload_n 0, 1) := dk_42 (dk_at dksX11_advance_2 11 rfl rfl)
theorem dX11_advance_60 : decode cX11_advance 60 = .ok (.ldc 9, 2) := dk_18 9 (dk_at dksX11_advance_2 12 rfl rfl)
theorem dX11_advance_62 : decode cX11_advance 62 = .ok (.putfield 11, 3) := dk_181 0 11 (dk_at dksX11_advance_2 14 rfl rfl)
theorem dX11_advance_65 : decode cX11_advance 65 = .ok (.aload_n 0, 1) := dk_42 (dk_at dksX11_advance_2 17 rfl rfl)
theorem dX11_advance_66 : decode cX11_advance 66 = .ok (.getfield 31, 3) := dk_180 0 31 (dk_at dksX11_advance_2 18 rfl rfl)
theorem dX11_advance_69 : decode cX11_advance 69 = .ok (.aload_n 0, 1) := dk_42 (dk_at dksX11_advance_2 21 rfl rfl)
theorem dX11_advance_70 : decode cX11_advance 70 = .ok (.getfield 21, 3) := dk_180 0 21 (dk_at dksX11_advance_3 0 rfl rfl)
theorem dX11_advance_73 : decode cX11_advance 73 = .ok (.if_icmp .ne 11, 3) := dk_160 0 11 (dk_at dksX11_advance_3 3 rfl rfl)
theorem dX11_advance_76 : decode cX11_advance 76 = .ok (.aload_n 0, 1) := dk_42 (dk_at dksX11_advance_3 6 rfl rfl)
theorem dX11_advance_77 : decode cX11_advance 77 = .ok (.iconst 0, 1) := dk_3 (dk_at dksX11_advance_3 7 rfl rfl)
theorem dX11_advance_78 : decode cX11_advance 78 = .ok (.putfield 38, 3) := dk_181 0 38 (dk_at dksX11_advance_3 8 rfl rfl)
theorem dX11_advance_81 : decode cX11_advance 81 = .ok (.goto 116, 3) := dk_167 0 116 (dk_at dksX11_advance_3 11 rfl rfl)
theorem dX11_advance_84 : decode cX11_advance 84 = .ok (.aload_n 0, 1) := dk_42 (dk_at dksX11_advance_3 14 rfl rfl)
theorem dX11_advance_85 : decode cX11_advance 85 = .ok (.aload_n 0, 1) := dk_42 (dk_at dksX11_advance_3 15 rfl rfl)
theorem dX11_advance_86 : decode cX11_advance 86 = .ok (.getfield 31, 3) := dk_180 0 31 (dk_at dksX11_advance_3 16 rfl rfl)
theorem dX11_advance_89 : decode cX11_advance 89 = .ok (.bipush 97, 2) := dk_16 97 (dk_at dksX11_advance_3 19 rfl rfl)
theorem dX11_advance_91 : decode cX11_advance 91 = .ok (.bipush 122, 2) := dk_16 122 (dk_at dksX11_advance_3 21 rfl rfl)
theorem dX11_advance_93 : decode cX11_advance 93 = .ok (.invokevirtual 34, 3) := dk_182 0 34 (dk_at dksX11_advance_4 0 rfl rfl)
theorem dX11_advance_96 : decode cX11_advance 96 = .ok (.ifCond .eq 19, 3) := dk_153 0 19 (dk_at dksX11_advance_4 3 rfl rfl)
theorem dX11_advance_99 : decode cX11_advance 99 = .ok (.aload_n 0, 1) := dk_42 (dk_at dksX11_advance_4 6 rfl rfl)
theorem dX11_advance_100 : decode cX11_advance 100 = .ok (.iconst 1, 1) := dk_4 (dk_at dksX11_advance_4 7 rfl rfl)
theorem dX11_advance_101 : decode cX11_advance 101 = .ok (.putfield 38, 3) := dk_181 0 38 (dk_at dksX11_advance_4 8 rfl rfl)
theorem dX11_advance_104 : decode cX11_advance 104 = .ok (.aload_n 0, 1) := dk_42 (dk_at dksX11_advance_4 11 rfl rfl)
theorem dX11_advance_105 : decode cX11_advance 105 = .ok (.aload_n 0, 1) := dk_42 (dk_at dksX11_advance_4 12 rfl rfl)
theorem dX11_advance_106 : decode cX11_advance 106 = .ok (.invokevirtual 41, 3) := dk_182 0 41 (dk_at dksX11_advance_4 13 rfl rfl)
theorem dX11_advance_109 : decode cX11_advance 109 = .ok (.putfield 11, 3) := dk_181 0 11 (dk_at dksX11_advance_4 16 rfl rfl)
theorem dX11_advance_112 : decode cX11_advance 112 = .ok (.goto 85, 3) := dk_167 0 85 (dk_at dksX11_advance_4 19 rfl rfl)
theorem dX11_advance_115 : decode cX11_advance 115 = .ok (.aload_n 0, 1) := dk_42 (dk_at dksX11_advance_4 22 rfl rfl)
theorem dX11_advance_116 : decode cX11_advance 116 = .ok (.aload_n 0, 1) := dk_42 (dk_at dksX11_advance_4 23 rfl rfl)
theorem dX11_advance_117 : decode cX11_advance 117 = .ok (.getfield 31, 3) := dk_180 0 31 (dk_at dksX11_advance_5 0 rfl rfl)
theorem dX11_advance_120 : decode cX11_advance 120 = .ok (.bipush 48, 2) := dk_16 48 (dk_at dksX11_advance_5 3 rfl rfl)
theorem dX11_advance_122 : decode cX11_advance 122 = .ok (.bipush 57, 2) := dk_16 57 (dk_at dksX11_advance_5 5 rfl rfl)
theorem dX11_advance_124 : decode cX11_advance 124 = .ok (.invokevirtual 34, 3) := dk_182 0 34 (dk_at dksX11_advance_5 7 rfl rfl)
theorem dX11_advance_127 : decode cX11_advance 127 = .ok (.ifCond .eq 19, 3) := dk_153 0 19 (dk_at dksX11_advance_5 10 rfl rfl)
theorem dX11_advance_130 : decode cX11_advance 130 = .ok (.aload_n 0, 1) := dk_42 (dk_at dksX11_advance_5 13 rfl rfl)
theorem dX11_advance_131 : decode cX11_advance 131 = .ok (.iconst 2, 1) := dk_5 (dk_at dksX11_advance_5 14 rfl rfl)
theorem dX11_advance_132 : decode cX11_advance 132 = .ok (.putfield 38, 3) := dk_181 0 38 (dk_at dksX11_advance_5 15 rfl rfl)
theorem dX11_advance_135 : decode cX11_advance 135 = .ok (.aload_n 0, 1) := dk_42 (dk_at dksX11_advance_5 18 rfl rfl)
theorem dX11_advance_136 : decode cX11_advance 136 = .ok (.aload_n 0, 1) := dk_42 (dk_at dksX11_advance_5 19 rfl rfl)
theorem dX11_advance_137 : decode cX11_advance 137 = .ok (.invokevirtual 45, 3) := dk_182 0 45 (dk_at dksX11_advance_5 20 rfl rfl)
theorem dX11_advance_140 : decode cX11_advance 140 = .ok (.putfield 49, 3) := dk_181 0 49 (dk_at dksX11_advance_6 0 rfl rfl)
theorem dX11_advance_143 : decode cX11_advance 143 = .ok (.goto 54, 3) := dk_167 0 54 (dk_at dksX11_advance_6 3 rfl rfl)
theorem dX11_advance_146 : decode cX11_advance 146 = .ok (.aload_n 0, 1) := dk_42 (dk_at dksX11_advance_6 6 rfl rfl)
theorem dX11_advance_147 : decode cX11_advance 147 = .ok (.dup, 1) := dk_89 (dk_at dksX11_advance_6 7 rfl rfl)
theorem dX11_advance_148 : decode cX11_advance 148 = .ok (.getfield 28, 3) := dk_180 0 28 (dk_at dksX11_advance_6 8 rfl rfl)
theorem dX11_advance_151 : decode cX11_advance 151 = .ok (.iconst 1, 1) := dk_4 (dk_at dksX11_advance_6 11 rfl rfl)
theorem dX11_advance_152 : decode cX11_advance 152 = .ok (.iadd, 1) := dk_96 (dk_at dksX11_advance_6 12 rfl rfl)
theorem dX11_advance_153 : decode cX11_advance 153 = .ok (.putfield 28, 3) := dk_181 0 28 (dk_at dksX11_advance_6 13 rfl rfl)
theorem dX11_advance_156 : decode cX11_advance 156 = .ok (.aload_n 0, 1) := dk_42 (dk_at dksX11_advance_6 16 rfl rfl)
theorem dX11_advance_157 : decode cX11_advance 157 = .ok (.aload_n 0, 1) := dk_42 (dk_at dksX11_advance_6 17 rfl rfl)
theorem dX11_advance_158 : decode cX11_advance 158 = .ok (.getfield 17, 3) := dk_180 0 17 (dk_at dksX11_advance_6 18 rfl rfl)
theorem dX11_advance_161 : decode cX11_advance 161 = .ok (.aload_n 0, 1) := dk_42 (dk_at dksX11_advance_6 21 rfl rfl)
theorem dX11_advance_162 : decode cX11_advance 162 = .ok (.getfield 31, 3) := dk_180 0 31 (dk_at dksX11_advance_7 0 rfl rfl)
theorem dX11_advance_165 : decode cX11_advance 165 = .ok (.baload, 1) := dk_51 (dk_at dksX11_advance_7 3 rfl rfl)
theorem dX11_advance_166 : decode cX11_advance 166 = .ok (.bipush 59, 2) := dk_16 59 (dk_at dksX11_advance_7 4 rfl rfl)
theorem dX11_advance_168 : decode cX11_advance 168 = .ok (.if_icmp .ne 7, 3) := dk_160 0 7 (dk_at dksX11_advance_7 6 rfl rfl)
theorem dX11_advance_171 : decode cX11_advance 171 = .ok (.iconst 3, 1) := dk_6 (dk_at dksX11_advance_7 9 rfl rfl)
theorem dX11_advance_172 : decode cX11_advance 172 = .ok (.goto 22, 3) := dk_167 0 22 (dk_at dksX11_advance_7 10 rfl rfl)
theorem dX11_advance_175 : decode cX11_advance 175 = .ok (.aload_n 0, 1) := dk_42 (dk_at dksX11_advance_7 13 rfl rfl)
theorem dX11_advance_176 : decode cX11_advance 176 = .ok (.getfield 17, 3) := dk_180 0 17 (dk_at dksX11_advance_7 14 rfl rfl)
theorem dX11_advance_179 : decode cX11_advance 179 = .ok (.aload_n 0, 1) := dk_42 (dk_at dksX11_advance_7 17 rfl rfl)
theorem dX11_advance_180 : decode cX11_advance 180 = .ok (.getfield 31, 3) := dk_180 0 31 (dk_at dksX11_advance_7 18 rfl rfl)
theorem dX11_advance_183 : decode cX11_advance 183 = .ok (.baload, 1) := dk_51 (dk_at dksX11_advance_7 21 rfl rfl)
theorem dX11_advance_184 : decode cX11_advance 184 = .ok (.bipush 61, 2) := dk_16 61 (dk_at dksX11_advance_7 22 rfl rfl)
theorem dX11_advance_186 : decode cX11_advance 186 = .ok (.if_icmp .ne 7, 3) := dk_160 0 7 (dk_at dksX11_advance_8 0 rfl rfl)
theorem dX11_advance_189 : decode cX11_advance 189 = .ok (.iconst 4, 1) := dk_7 (dk_at dksX11_advance_8 3 rfl rfl)
theorem dX11_advance_190 : decode cX11_advance 190 = .ok (.goto 4, 3) := dk_167 0 4 (dk_at dksX11_advance_8 4 rfl rfl)
theorem dX11_advance_193 : decode cX11_advance 193 = .ok (.iconst 5, 1) := dk_8 (dk_at dksX11_advance_8 7 rfl rfl)
theorem dX11_advance_194 : decode cX11_advance 194 = .ok (.putfield 38, 3) := dk_181 0 38 (dk_at dksX11_advance_8 8 rfl rfl)
theorem dX11_advance_197 : decode cX11_advance 197 = .ok (.return_, 1) := dk_177 (dk_at dksX11_advance_8 11 rfl rfl)
abbrev cX11_isBetween : ByteArray := prog_14_method_2_code
def yX11_isBetween : MethodName := ⟨RX11, "isBetween", "(III)Z"⟩
def dkwX11_isBetween_1 : List UInt8 := [29, 163, 0, 7, 4, 167, 0, 4, 3, 172]
abbrev dktX11_isBetween_1 : List UInt8 := dkwX11_isBetween_1 ++ []
def dkwX11_isBetween_0 : List UInt8 := [27, 42, 180, 0, 21, 162, 0, 27, 42, 180, 0, 17, 27, 51, 28, 161, 0, 17, 42, 180, 0, 17, 27, 51]
abbrev dktX11_isBetween_0 : List UInt8 := dkwX11_isBetween_0 ++ dktX11_isBetween_1
theorem dksX11_isBetween_0 : cX11_isBetween.data.toList.drop 0 = dktX11_isBetween_0 := by decide +kernel
theorem dksX11_isBetween_1 : cX11_isBetween.data.toList.drop 24 = dktX11_isBetween_1 := dk_seg dksX11_isBetween_0 24 rfl rfl
theorem dX11_isBetween_0 : decode cX11_isBetween 0 = .ok (.iload_n 1, 1) := dk_27 (dk_at dksX11_isBetween_0 0 rfl rfl)
theorem dX11_isBetween_1 : decode cX11_isBetween 1 = .ok (.aload_n 0, 1) := dk_42 (dk_at dksX11_isBetween_0 1 rfl rfl)
theorem dX11_isBetween_2 : decode cX11_isBetween 2 = .ok (.getfield 21, 3) := dk_180 0 21 (dk_at dksX11_isBetween_0 2 rfl rfl)
theorem dX11_isBetween_5 : decode cX11_isBetween 5 = .ok (.if_icmp .ge 27, 3) := dk_162 0 27 (dk_at dksX11_isBetween_0 5 rfl rfl)
theorem dX11_isBetween_8 : decode cX11_isBetween 8 = .ok (.aload_n 0, 1) := dk_42 (dk_at dksX11_isBetween_0 8 rfl rfl)
theorem dX11_isBetween_9 : decode cX11_isBetween 9 = .ok (.getfield 17, 3) := dk_180 0 17 (dk_at dksX11_isBetween_0 9 rfl rfl)
theorem dX11_isBetween_12 : decode cX11_isBetween 12 = .ok (.iload_n 1, 1) := dk_27 (dk_at dksX11_isBetween_0 12 rfl rfl)
theorem dX11_isBetween_13 : decode cX11_isBetween 13 = .ok (.baload, 1) := dk_51 (dk_at dksX11_isBetween_0 13 rfl rfl)
theorem dX11_isBetween_14 : decode cX11_isBetween 14 = .ok (.iload_n 2, 1) := dk_28 (dk_at dksX11_isBetween_0 14 rfl rfl)
theorem dX11_isBetween_15 : decode cX11_isBetween 15 = .ok (.if_icmp .lt 17, 3) := dk_161 0 17 (dk_at dksX11_isBetween_0 15 rfl rfl)
theorem dX11_isBetween_18 : decode cX11_isBetween 18 = .ok (.aload_n 0, 1) := dk_42 (dk_at dksX11_isBetween_0 18 rfl rfl)
theorem dX11_isBetween_19 : decode cX11_isBetween 19 = .ok (.getfield 17, 3) := dk_180 0 17 (dk_at dksX11_isBetween_0 19 rfl rfl)
theorem dX11_isBetween_22 : decode cX11_isBetween 22 = .ok (.iload_n 1, 1) := dk_27 (dk_at dksX11_isBetween_0 22 rfl rfl)
theorem dX11_isBetween_23 : decode cX11_isBetween 23 = .ok (.baload, 1) := dk_51 (dk_at dksX11_isBetween_0 23 rfl rfl)
theorem dX11_isBetween_24 : decode cX11_isBetween 24 = .ok (.iload_n 3, 1) := dk_29 (dk_at dksX11_isBetween_1 0 rfl rfl)
theorem dX11_isBetween_25 : decode cX11_isBetween 25 = .ok (.if_icmp .gt 7, 3) := dk_163 0 7 (dk_at dksX11_isBetween_1 1 rfl rfl)
theorem dX11_isBetween_28 : decode cX11_isBetween 28 = .ok (.iconst 1, 1) := dk_4 (dk_at dksX11_isBetween_1 4 rfl rfl)
theorem dX11_isBetween_29 : decode cX11_isBetween 29 = .ok (.goto 4, 3) := dk_167 0 4 (dk_at dksX11_isBetween_1 5 rfl rfl)
theorem dX11_isBetween_32 : decode cX11_isBetween 32 = .ok (.iconst 0, 1) := dk_3 (dk_at dksX11_isBetween_1 8 rfl rfl)
theorem dX11_isBetween_33 : decode cX11_isBetween 33 = .ok (.ireturn, 1) := dk_172 (dk_at dksX11_isBetween_1 9 rfl rfl)
abbrev cX11_letters : ByteArray := prog_14_method_4_code
def yX11_letters : MethodName := ⟨RX11, "letters", "()Ljava/lang/String;"⟩
def dkwX11_letters_2 : List UInt8 := [89, 180, 0, 28, 4, 96, 181, 0, 28, 167, 255, 207, 43, 182, 0, 62, 176]
abbrev dktX11_letters_2 : List UInt8 := dkwX11_letters_2 ++ []
def dkwX11_letters_1 : List UInt8 := [182, 0, 55, 16, 8, 163, 0, 18, 43, 42, 180, 0, 17, 42, 180, 0, 28, 51, 146, 182, 0, 58, 87, 42]
abbrev dktX11_letters_1 : List UInt8 := dkwX11_letters_1 ++ dktX11_letters_2
def dkwX11_letters_0 : List UInt8 := [187, 0, 52, 89, 183, 0, 54, 76, 42, 42, 180, 0, 28, 16, 97, 16, 122, 182, 0, 34, 153, 0, 40, 43]
abbrev dktX11_letters_0 : List UInt8 := dkwX11_letters_0 ++ dktX11_letters_1
theorem dksX11_letters_0 : cX11_letters.data.toList.drop 0 = dktX11_letters_0 := by decide +kernel
theorem dksX11_letters_1 : cX11_letters.data.toList.drop 24 = dktX11_letters_1 := dk_seg dksX11_letters_0 24 rfl rfl
theorem dksX11_letters_2 : cX11_letters.data.toList.drop 48 = dktX11_letters_2 := dk_seg dksX11_letters_1 24 rfl rfl
theorem dX11_letters_0 : decode cX11_letters 0 = .ok (.new 52, 3) := dk_187 0 52 (dk_at dksX11_letters_0 0 rfl rfl)
theorem dX11_letters_3 : decode cX11_letters 3 = .ok (.dup, 1) := dk_89 (dk_at dksX11_letters_0 3 rfl rfl)
theorem dX11_letters_4 : decode cX11_letters 4 = .ok (.invokespecial 54, 3) := dk_183 0 54 (dk_at dksX11_letters_0 4 rfl rfl)
theorem dX11_letters_7 : decode cX11_letters 7 = .ok (.astore_n 1, 1) := dk_76 (dk_at dksX11_letters_0 7 rfl rfl)
theorem dX11_letters_8 : decode cX11_letters 8 = .ok (.aload_n 0, 1) := dk_42 (dk_at dksX11_letters_0 8 rfl rfl)
theorem dX11_letters_9 : decode cX11_letters 9 = .ok (.aload_n 0, 1) := dk_42 (dk_at dksX11_letters_0 9 rfl rfl)
theorem dX11_letters_10 : decode cX11_letters 10 = .ok (.getfield 28, 3) := dk_180 0 28 (dk_at dksX11_letters_0 10 rfl rfl)
theorem dX11_letters_13 : decode cX11_letters 13 = .ok (.bipush 97, 2) := dk_16 97 (dk_at dksX11_letters_0 13 rfl rfl)
theorem dX11_letters_15 : decode cX11_letters 15 = .ok (.bipush 122, 2) := dk_16 122 (dk_at dksX11_letters_0 15 rfl rfl)
theorem dX11_letters_17 : decode cX11_letters 17 = .ok (.invokevirtual 34, 3) := dk_182 0 34 (dk_at dksX11_letters_0 17 rfl rfl)
theorem dX11_letters_20 : decode cX11_letters 20 = .ok (.ifCond .eq 40, 3) := dk_153 0 40 (dk_at dksX11_letters_0 20 rfl rfl)
theorem dX11_letters_23 : decode cX11_letters 23 = .ok (.aload_n 1, 1) := dk_43 (dk_at dksX11_letters_0 23 rfl rfl)
theorem dX11_letters_24 : decode cX11_letters 24 = .ok (.invokevirtual 55, 3) := dk_182 0 55 (dk_at dksX11_letters_1 0 rfl rfl)
theorem dX11_letters_27 : decode cX11_letters 27 = .ok (.bipush 8, 2) := dk_16 8 (dk_at dksX11_letters_1 3 rfl rfl)
theorem dX11_letters_29 : decode cX11_letters 29 = .ok (.if_icmp .gt 18, 3) := dk_163 0 18 (dk_at dksX11_letters_1 5 rfl rfl)
theorem dX11_letters_32 : decode cX11_letters 32 = .ok (.aload_n 1, 1) := dk_43 (dk_at dksX11_letters_1 8 rfl rfl)
theorem dX11_letters_33 : decode cX11_letters 33 = .ok (.aload_n 0, 1) := dk_42 (dk_at dksX11_letters_1 9 rfl rfl)
theorem dX11_letters_34 : decode cX11_letters 34 = .ok (.getfield 17, 3) := dk_180 0 17 (dk_at dksX11_letters_1 10 rfl rfl)
theorem dX11_letters_37 : decode cX11_letters 37 = .ok (.aload_n 0, 1) := dk_42 (dk_at dksX11_letters_1 13 rfl rfl)
theorem dX11_letters_38 : decode cX11_letters 38 = .ok (.getfield 28, 3) := dk_180 0 28 (dk_at dksX11_letters_1 14 rfl rfl)
theorem dX11_letters_41 : decode cX11_letters 41 = .ok (.baload, 1) := dk_51 (dk_at dksX11_letters_1 17 rfl rfl)
theorem dX11_letters_42 : decode cX11_letters 42 = .ok (.i2c, 1) := dk_146 (dk_at dksX11_letters_1 18 rfl rfl)
theorem dX11_letters_43 : decode cX11_letters 43 = .ok (.invokevirtual 58, 3) := dk_182 0 58 (dk_at dksX11_letters_1 19 rfl rfl)
theorem dX11_letters_46 : decode cX11_letters 46 = .ok (.pop, 1) := dk_87 (dk_at dksX11_letters_1 22 rfl rfl)
theorem dX11_letters_47 : decode cX11_letters 47 = .ok (.aload_n 0, 1) := dk_42 (dk_at dksX11_letters_1 23 rfl rfl)
theorem dX11_letters_48 : decode cX11_letters 48 = .ok (.dup, 1) := dk_89 (dk_at dksX11_letters_2 0 rfl rfl)
theorem dX11_letters_49 : decode cX11_letters 49 = .ok (.getfield 28, 3) := dk_180 0 28 (dk_at dksX11_letters_2 1 rfl rfl)
theorem dX11_letters_52 : decode cX11_letters 52 = .ok (.iconst 1, 1) := dk_4 (dk_at dksX11_letters_2 4 rfl rfl)
theorem dX11_letters_53 : decode cX11_letters 53 = .ok (.iadd, 1) := dk_96 (dk_at dksX11_letters_2 5 rfl rfl)
theorem dX11_letters_54 : decode cX11_letters 54 = .ok (.putfield 28, 3) := dk_181 0 28 (dk_at dksX11_letters_2 6 rfl rfl)
theorem dX11_letters_57 : decode cX11_letters 57 = .ok (.goto (-49), 3) := dk_167 255 207 (dk_at dksX11_letters_2 9 rfl rfl)
theorem dX11_letters_60 : decode cX11_letters 60 = .ok (.aload_n 1, 1) := dk_43 (dk_at dksX11_letters_2 12 rfl rfl)
theorem dX11_letters_61 : decode cX11_letters 61 = .ok (.invokevirtual 62, 3) := dk_182 0 62 (dk_at dksX11_letters_2 13 rfl rfl)
theorem dX11_letters_64 : decode cX11_letters 64 = .ok (.areturn, 1) := dk_176 (dk_at dksX11_letters_2 16 rfl rfl)
abbrev cX11_digits : ByteArray := prog_14_method_5_code
def yX11_digits : MethodName := ⟨RX11, "digits", "()I"⟩
def dkwX11_digits_2 : List UInt8 := [181, 0, 28, 167, 255, 208, 27, 172]
abbrev dktX11_digits_2 : List UInt8 := dkwX11_digits_2 ++ []
def dkwX11_digits_1 : List UInt8 := [180, 0, 17, 42, 180, 0, 28, 51, 96, 16, 48, 100, 184, 0, 66, 60, 42, 89, 180, 0, 28, 4, 96]
abbrev dktX11_digits_1 : List UInt8 := dkwX11_digits_1 ++ dktX11_digits_2
def dkwX11_digits_0 : List UInt8 := [3, 60, 42, 42, 180, 0, 28, 16, 48, 16, 57, 182, 0, 34, 153, 0, 39, 18, 65, 16, 10, 27, 104, 42]
abbrev dktX11_digits_0 : List UInt8 := dkwX11_digits_0 ++ dktX11_digits_1
theorem dksX11_digits_0 : cX11_digits.data.toList.drop 0 = dktX11_digits_0 := by decide +kernel
theorem dksX11_digits_1 : cX11_digits.data.toList.drop 24 = dktX11_digits_1 := dk_seg dksX11_digits_0 24 rfl rfl
theorem dksX11_digits_2 : cX11_digits.data.toList.drop 47 = dktX11_digits_2 := dk_seg dksX11_digits_1 23 rfl rfl
theorem dX11_digits_0 : decode cX11_digits 0 = .ok (.iconst 0, 1) := dk_3 (dk_at dksX11_digits_0 0 rfl rfl)
theorem dX11_digits_1 : decode cX11_digits 1 = .ok (.istore_n 1, 1) := dk_60 (dk_at dksX11_digits_0 1 rfl rfl)
theorem dX11_digits_2 : decode cX11_digits 2 = .ok (.aload_n 0, 1) := dk_42 (dk_at dksX11_digits_0 2 rfl rfl)
theorem dX11_digits_3 : decode cX11_digits 3 = .ok (.aload_n 0, 1) := dk_42 (dk_at dksX11_digits_0 3 rfl rfl)
theorem dX11_digits_4 : decode cX11_digits 4 = .ok (.getfield 28, 3) := dk_180 0 28 (dk_at dksX11_digits_0 4 rfl rfl)
theorem dX11_digits_7 : decode cX11_digits 7 = .ok (.bipush 48, 2) := dk_16 48 (dk_at dksX11_digits_0 7 rfl rfl)
theorem dX11_digits_9 : decode cX11_digits 9 = .ok (.bipush 57, 2) := dk_16 57 (dk_at dksX11_digits_0 9 rfl rfl)
theorem dX11_digits_11 : decode cX11_digits 11 = .ok (.invokevirtual 34, 3) := dk_182 0 34 (dk_at dksX11_digits_0 11 rfl rfl)
theorem dX11_digits_14 : decode cX11_digits 14 = .ok (.ifCond .eq 39, 3) := dk_153 0 39 (dk_at dksX11_digits_0 14 rfl rfl)
theorem dX11_digits_17 : decode cX11_digits 17 = .ok (.ldc 65, 2) := dk_18 65 (dk_at dksX11_digits_0 17 rfl rfl)
theorem dX11_digits_19 : decode cX11_digits 19 = .ok (.bipush 10, 2) := dk_16 10 (dk_at dksX11_digits_0 19 rfl rfl)
theorem dX11_digits_21 : decode cX11_digits 21 = .ok (.iload_n 1, 1) := dk_27 (dk_at dksX11_digits_0 21 rfl rfl)
theorem dX11_digits_22 : decode cX11_digits 22 = .ok (.imul, 1) := dk_104 (dk_at dksX11_digits_0 22 rfl rfl)
theorem dX11_digits_23 : decode cX11_digits 23 = .ok (.aload_n 0, 1) := dk_42 (dk_at dksX11_digits_0 23 rfl rfl)
theorem dX11_digits_24 : decode cX11_digits 24 = .ok (.getfield 17, 3) := dk_180 0 17 (dk_at dksX11_digits_1 0 rfl rfl)
theorem dX11_digits_27 : decode cX11_digits 27 = .ok (.aload_n 0, 1) := dk_42 (dk_at dksX11_digits_1 3 rfl rfl)
theorem dX11_digits_28 : decode cX11_digits 28 = .ok (.getfield 28, 3) := dk_180 0 28 (dk_at dksX11_digits_1 4 rfl rfl)
theorem dX11_digits_31 : decode cX11_digits 31 = .ok (.baload, 1) := dk_51 (dk_at dksX11_digits_1 7 rfl rfl)
theorem dX11_digits_32 : decode cX11_digits 32 = .ok (.iadd, 1) := dk_96 (dk_at dksX11_digits_1 8 rfl rfl)
theorem dX11_digits_33 : decode cX11_digits 33 = .ok (.bipush 48, 2) := dk_16 48 (dk_at dksX11_digits_1 9 rfl rfl)
theorem dX11_digits_35 : decode cX11_digits 35 = .ok (.isub, 1) := dk_100 (dk_at dksX11_digits_1 11 rfl rfl)
theorem dX11_digits_36 : decode cX11_digits 36 = .ok (.invokestatic 66, 3) := dk_184 0 66 (dk_at dksX11_digits_1 12 rfl rfl)
theorem dX11_digits_39 : decode cX11_digits 39 = .ok (.istore_n 1, 1) := dk_60 (dk_at dksX11_digits_1 15 rfl rfl)
theorem dX11_digits_40 : decode cX11_digits 40 = .ok (.aload_n 0, 1) := dk_42 (dk_at dksX11_digits_1 16 rfl rfl)
theorem dX11_digits_41 : decode cX11_digits 41 = .ok (.dup, 1) := dk_89 (dk_at dksX11_digits_1 17 rfl rfl)
theorem dX11_digits_42 : decode cX11_digits 42 = .ok (.getfield 28, 3) := dk_180 0 28 (dk_at dksX11_digits_1 18 rfl rfl)
theorem dX11_digits_45 : decode cX11_digits 45 = .ok (.iconst 1, 1) := dk_4 (dk_at dksX11_digits_1 21 rfl rfl)
theorem dX11_digits_46 : decode cX11_digits 46 = .ok (.iadd, 1) := dk_96 (dk_at dksX11_digits_1 22 rfl rfl)
theorem dX11_digits_47 : decode cX11_digits 47 = .ok (.putfield 28, 3) := dk_181 0 28 (dk_at dksX11_digits_2 0 rfl rfl)
theorem dX11_digits_50 : decode cX11_digits 50 = .ok (.goto (-48), 3) := dk_167 255 208 (dk_at dksX11_digits_2 3 rfl rfl)
theorem dX11_digits_53 : decode cX11_digits 53 = .ok (.iload_n 1, 1) := dk_27 (dk_at dksX11_digits_2 6 rfl rfl)
theorem dX11_digits_54 : decode cX11_digits 54 = .ok (.ireturn, 1) := dk_172 (dk_at dksX11_digits_2 7 rfl rfl)
abbrev cX11_check : ByteArray := prog_14_method_6_code
def yX11_check : MethodName := ⟨RX11, "check", "(ZI)V"⟩
def dkwX11_check_0 : List UInt8 := [27, 154, 0, 16, 187, 0, 72, 89, 42, 180, 0, 31, 28, 183, 0, 74, 191, 177]
abbrev dktX11_check_0 : List UInt8 := dkwX11_check_0 ++ []
theorem dksX11_check_0 : cX11_check.data.toList.drop 0 = dktX11_check_0 := by decide +kernel
theorem dX11_check_0 : decode cX11_check 0 = .ok (.iload_n 1, 1) := dk_27 (dk_at dksX11_check_0 0 rfl rfl)
theorem dX11_check_1 : decode cX11_check 1 = .ok (.ifCond .ne 16, 3) := dk_154 0 16 (dk_at dksX11_check_0 1 rfl rfl)
theorem dX11_check_4 : decode cX11_check 4 = .ok (.new 72, 3) := dk_187 0 72 (dk_at dksX11_check_0 4 rfl rfl)
theorem dX11_check_7 : decode cX11_check 7 = .ok (.dup, 1) := dk_89 (dk_at dksX11_check_0 7 rfl rfl)
theorem dX11_check_8 : decode cX11_check 8 = .ok (.aload_n 0, 1) := dk_42 (dk_at dksX11_check_0 8 rfl rfl)
theorem dX11_check_9 : decode cX11_check 9 = .ok (.getfield 31, 3) := dk_180 0 31 (dk_at dksX11_check_0 9 rfl rfl)
theorem dX11_check_12 : decode cX11_check 12 = .ok (.iload_n 2, 1) := dk_28 (dk_at dksX11_check_0 12 rfl rfl)
theorem dX11_check_13 : decode cX11_check 13 = .ok (.invokespecial 74, 3) := dk_183 0 74 (dk_at dksX11_check_0 13 rfl rfl)
theorem dX11_check_16 : decode cX11_check 16 = .ok (.athrow, 1) := dk_191 (dk_at dksX11_check_0 16 rfl rfl)
theorem dX11_check_17 : decode cX11_check 17 = .ok (.return_, 1) := dk_177 (dk_at dksX11_check_0 17 rfl rfl)
abbrev cX11_number : ByteArray := prog_14_method_8_code
def yX11_number : MethodName := ⟨RX11, "number", "(II)I"⟩
def dkwX11_number_1 : List UInt8 := [28, 184, 0, 81, 5, 182, 0, 77, 42, 180, 0, 49, 62, 42, 182, 0, 25, 29, 172]
abbrev dktX11_number_1 : List UInt8 := dkwX11_number_1 ++ []
def dkwX11_number_0 : List UInt8 := [42, 42, 180, 0, 38, 5, 160, 0, 7, 4, 167, 0, 4, 3, 4, 182, 0, 77, 42, 42, 180, 0, 49, 27]
abbrev dktX11_number_0 : List UInt8 := dkwX11_number_0 ++ dktX11_number_1
theorem dksX11_number_0 : cX11_number.data.toList.drop 0 = dktX11_number_0 := by decide +kernel
theorem dksX11_number_1 : cX11_number.data.toList.drop 24 = dktX11_number_1 := dk_seg dksX11_number_0 24 rfl rfl
theorem dX11_number_0 : decode cX11_number 0 = .ok (.aload_n 0, 1) := dk_42 (dk_at dksX11_number_0 0 rfl rfl)
theorem dX11_number_1 : decode cX11_number 1 = .ok (.aload_n 0, 1) := dk_42 (dk_at dksX11_number_0 1 rfl rfl)
theorem dX11_number_2 : decode cX11_number 2 = .ok (.getfield 38, 3) := dk_180 0 38 (dk_at dksX11_number_0 2 rfl rfl)
theorem dX11_number_5 : decode cX11_number 5 = .ok (.iconst 2, 1) := dk_5 (dk_at dksX11_number_0 5 rfl rfl)
theorem dX11_number_6 : decode cX11_number 6 = .ok (.if_icmp .ne 7, 3) := dk_160 0 7 (dk_at dksX11_number_0 6 rfl rfl)
theorem dX11_number_9 : decode cX11_number 9 = .ok (.iconst 1, 1) := dk_4 (dk_at dksX11_number_0 9 rfl rfl)
theorem dX11_number_10 : decode cX11_number 10 = .ok (.goto 4, 3) := dk_167 0 4 (dk_at dksX11_number_0 10 rfl rfl)
theorem dX11_number_13 : decode cX11_number 13 = .ok (.iconst 0, 1) := dk_3 (dk_at dksX11_number_0 13 rfl rfl)
theorem dX11_number_14 : decode cX11_number 14 = .ok (.iconst 1, 1) := dk_4 (dk_at dksX11_number_0 14 rfl rfl)
theorem dX11_number_15 : decode cX11_number 15 = .ok (.invokevirtual 77, 3) := dk_182 0 77 (dk_at dksX11_number_0 15 rfl rfl)
theorem dX11_number_18 : decode cX11_number 18 = .ok (.aload_n 0, 1) := dk_42 (dk_at dksX11_number_0 18 rfl rfl)
theorem dX11_number_19 : decode cX11_number 19 = .ok (.aload_n 0, 1) := dk_42 (dk_at dksX11_number_0 19 rfl rfl)
theorem dX11_number_20 : decode cX11_number 20 = .ok (.getfield 49, 3) := dk_180 0 49 (dk_at dksX11_number_0 20 rfl rfl)
theorem dX11_number_23 : decode cX11_number 23 = .ok (.iload_n 1, 1) := dk_27 (dk_at dksX11_number_0 23 rfl rfl)
theorem dX11_number_24 : decode cX11_number 24 = .ok (.iload_n 2, 1) := dk_28 (dk_at dksX11_number_1 0 rfl rfl)
theorem dX11_number_25 : decode cX11_number 25 = .ok (.invokestatic 81, 3) := dk_184 0 81 (dk_at dksX11_number_1 1 rfl rfl)
theorem dX11_number_28 : decode cX11_number 28 = .ok (.iconst 2, 1) := dk_5 (dk_at dksX11_number_1 4 rfl rfl)
theorem dX11_number_29 : decode cX11_number 29 = .ok (.invokevirtual 77, 3) := dk_182 0 77 (dk_at dksX11_number_1 5 rfl rfl)
theorem dX11_number_32 : decode cX11_number 32 = .ok (.aload_n 0, 1) := dk_42 (dk_at dksX11_number_1 8 rfl rfl)
theorem dX11_number_33 : decode cX11_number 33 = .ok (.getfield 49, 3) := dk_180 0 49 (dk_at dksX11_number_1 9 rfl rfl)
theorem dX11_number_36 : decode cX11_number 36 = .ok (.istore_n 3, 1) := dk_62 (dk_at dksX11_number_1 12 rfl rfl)
theorem dX11_number_37 : decode cX11_number 37 = .ok (.aload_n 0, 1) := dk_42 (dk_at dksX11_number_1 13 rfl rfl)
theorem dX11_number_38 : decode cX11_number 38 = .ok (.invokevirtual 25, 3) := dk_182 0 25 (dk_at dksX11_number_1 14 rfl rfl)
theorem dX11_number_41 : decode cX11_number 41 = .ok (.iload_n 3, 1) := dk_29 (dk_at dksX11_number_1 17 rfl rfl)
theorem dX11_number_42 : decode cX11_number 42 = .ok (.ireturn, 1) := dk_172 (dk_at dksX11_number_1 18 rfl rfl)
abbrev cX11_symbol : ByteArray := prog_14_method_7_code
def yX11_symbol : MethodName := ⟨RX11, "symbol", "(I)V"⟩
def dkwX11_symbol_0 : List UInt8 := [42, 42, 180, 0, 38, 27, 160, 0, 7, 4, 167, 0, 4, 3, 4, 182, 0, 77, 42, 182, 0, 25, 177]
abbrev dktX11_symbol_0 : List UInt8 := dkwX11_symbol_0 ++ []
theorem dksX11_symbol_0 : cX11_symbol.data.toList.drop 0 = dktX11_symbol_0 := by decide +kernel
theorem dX11_symbol_0 : decode cX11_symbol 0 = .ok (.aload_n 0, 1) := dk_42 (dk_at dksX11_symbol_0 0 rfl rfl)
theorem dX11_symbol_1 : decode cX11_symbol 1 = .ok (.aload_n 0, 1) := dk_42 (dk_at dksX11_symbol_0 1 rfl rfl)
theorem dX11_symbol_2 : decode cX11_symbol 2 = .ok (.getfield 38, 3) := dk_180 0 38 (dk_at dksX11_symbol_0 2 rfl rfl)
theorem dX11_symbol_5 : decode cX11_symbol 5 = .ok (.iload_n 1, 1) := dk_27 (dk_at dksX11_symbol_0 5 rfl rfl)
theorem dX11_symbol_6 : decode cX11_symbol 6 = .ok (.if_icmp .ne 7, 3) := dk_160 0 7 (dk_at dksX11_symbol_0 6 rfl rfl)
theorem dX11_symbol_9 : decode cX11_symbol 9 = .ok (.iconst 1, 1) := dk_4 (dk_at dksX11_symbol_0 9 rfl rfl)
theorem dX11_symbol_10 : decode cX11_symbol 10 = .ok (.goto 4, 3) := dk_167 0 4 (dk_at dksX11_symbol_0 10 rfl rfl)
theorem dX11_symbol_13 : decode cX11_symbol 13 = .ok (.iconst 0, 1) := dk_3 (dk_at dksX11_symbol_0 13 rfl rfl)
theorem dX11_symbol_14 : decode cX11_symbol 14 = .ok (.iconst 1, 1) := dk_4 (dk_at dksX11_symbol_0 14 rfl rfl)
theorem dX11_symbol_15 : decode cX11_symbol 15 = .ok (.invokevirtual 77, 3) := dk_182 0 77 (dk_at dksX11_symbol_0 15 rfl rfl)
theorem dX11_symbol_18 : decode cX11_symbol 18 = .ok (.aload_n 0, 1) := dk_42 (dk_at dksX11_symbol_0 18 rfl rfl)
theorem dX11_symbol_19 : decode cX11_symbol 19 = .ok (.invokevirtual 25, 3) := dk_182 0 25 (dk_at dksX11_symbol_0 19 rfl rfl)
theorem dX11_symbol_22 : decode cX11_symbol 22 = .ok (.return_, 1) := dk_177 (dk_at dksX11_symbol_0 22 rfl rfl)
abbrev cX11_lookWord : ByteArray := prog_14_method_9_code
def yX11_lookWord : MethodName := ⟨RX11, "lookWord", "()Ljava/lang/String;"⟩
def dkwX11_lookWord_1 : List UInt8 := [182, 0, 84, 16, 8, 163, 0, 7, 4, 167, 0, 4, 3, 6, 182, 0, 77, 42, 180, 0, 11, 176]
abbrev dktX11_lookWord_1 : List UInt8 := dkwX11_lookWord_1 ++ []
def dkwX11_lookWord_0 : List UInt8 := [42, 42, 180, 0, 38, 4, 160, 0, 7, 4, 167, 0, 4, 3, 4, 182, 0, 77, 42, 42, 180, 0, 11]
abbrev dktX11_lookWord_0 : List UInt8 := dkwX11_lookWord_0 ++ dktX11_lookWord_1
theorem dksX11_lookWord_0 : cX11_lookWord.data.toList.drop 0 = dktX11_lookWord_0 := by decide +kernel
theorem dksX11_lookWord_1 : cX11_lookWord.data.toList.drop 23 = dktX11_lookWord_1 := dk_seg dksX11_lookWord_0 23 rfl rfl
theorem dX11_lookWord_0 : decode cX11_lookWord 0 = .ok (.aload_n 0, 1) := dk_42 (dk_at dksX11_lookWord_0 0 rfl rfl)
theorem dX11_lookWord_1 : decode cX11_lookWord 1 = .ok (.aload_n 0, 1) := dk_42 (dk_at dksX11_lookWord_0 1 rfl rfl)
theorem dX11_lookWord_2 : decode cX11_lookWord 2 = .ok (.getfield 38, 3) := dk_180 0 38 (dk_at dksX11_lookWord_0 2 rfl rfl)
theorem dX11_lookWord_5 : decode cX11_lookWord 5 = .ok (.iconst 1, 1) := dk_4 (dk_at dksX11_lookWord_0 5 rfl rfl)
theorem dX11_lookWord_6 : decode cX11_lookWord 6 = .ok (.if_icmp .ne 7, 3) := dk_160 0 7 (dk_at dksX11_lookWord_0 6 rfl rfl)
theorem dX11_lookWord_9 : decode cX11_lookWord 9 = .ok (.iconst 1, 1) := dk_4 (dk_at dksX11_lookWord_0 9 rfl rfl)
theorem dX11_lookWord_10 : decode cX11_lookWord 10 = .ok (.goto 4, 3) := dk_167 0 4 (dk_at dksX11_lookWord_0 10 rfl rfl)
theorem dX11_lookWord_13 : decode cX11_lookWord 13 = .ok (.iconst 0, 1) := dk_3 (dk_at dksX11_lookWord_0 13 rfl rfl)
theorem dX11_lookWord_14 : decode cX11_lookWord 14 = .ok (.iconst 1, 1) := dk_4 (dk_at dksX11_lookWord_0 14 rfl rfl)
theorem dX11_lookWord_15 : decode cX11_lookWord 15 = .ok (.invokevirtual 77, 3) := dk_182 0 77 (dk_at dksX11_lookWord_0 15 rfl rfl)
theorem dX11_lookWord_18 : decode cX11_lookWord 18 = .ok (.aload_n 0, 1) := dk_42 (dk_at dksX11_lookWord_0 18 rfl rfl)
theorem dX11_lookWord_19 : decode cX11_lookWord 19 = .ok (.aload_n 0, 1) := dk_42 (dk_at dksX11_lookWord_0 19 rfl rfl)
theorem dX11_lookWord_20 : decode cX11_lookWord 20 = .ok (.getfield 11, 3) := dk_180 0 11 (dk_at dksX11_lookWord_0 20 rfl rfl)
theorem dX11_lookWord_23 : decode cX11_lookWord 23 = .ok (.invokevirtual 84, 3) := dk_182 0 84 (dk_at dksX11_lookWord_1 0 rfl rfl)
theorem dX11_lookWord_26 : decode cX11_lookWord 26 = .ok (.bipush 8, 2) := dk_16 8 (dk_at dksX11_lookWord_1 3 rfl rfl)
theorem dX11_lookWord_28 : decode cX11_lookWord 28 = .ok (.if_icmp .gt 7, 3) := dk_163 0 7 (dk_at dksX11_lookWord_1 5 rfl rfl)
theorem dX11_lookWord_31 : decode cX11_lookWord 31 = .ok (.iconst 1, 1) := dk_4 (dk_at dksX11_lookWord_1 8 rfl rfl)
theorem dX11_lookWord_32 : decode cX11_lookWord 32 = .ok (.goto 4, 3) := dk_167 0 4 (dk_at dksX11_lookWord_1 9 rfl rfl)
theorem dX11_lookWord_35 : decode cX11_lookWord 35 = .ok (.iconst 0, 1) := dk_3 (dk_at dksX11_lookWord_1 12 rfl rfl)
theorem dX11_lookWord_36 : decode cX11_lookWord 36 = .ok (.iconst 3, 1) := dk_6 (dk_at dksX11_lookWord_1 13 rfl rfl)
theorem dX11_lookWord_37 : decode cX11_lookWord 37 = .ok (.invokevirtual 77, 3) := dk_182 0 77 (dk_at dksX11_lookWord_1 14 rfl rfl)
theorem dX11_lookWord_40 : decode cX11_lookWord 40 = .ok (.aload_n 0, 1) := dk_42 (dk_at dksX11_lookWord_1 17 rfl rfl)
theorem dX11_lookWord_41 : decode cX11_lookWord 41 = .ok (.getfield 11, 3) := dk_180 0 11 (dk_at dksX11_lookWord_1 18 rfl rfl)
theorem dX11_lookWord_44 : decode cX11_lookWord 44 = .ok (.areturn, 1) := dk_176 (dk_at dksX11_lookWord_1 21 rfl rfl)
abbrev cX11_rule : ByteArray := prog_14_method_13_code
def yX11_rule : MethodName := ⟨RX11, "rule", "()LSpokenMarks$Rule;"⟩
def dkwX11_rule_0 : List UInt8 := [42, 182, 0, 99, 76, 42, 7, 182, 0, 123, 187, 0, 126, 89, 43, 42, 182, 0, 99, 183, 0, 128, 176]
abbrev dktX11_rule_0 : List UInt8 := dkwX11_rule_0 ++ []
theorem dksX11_rule_0 : cX11_rule.data.toList.drop 0 = dktX11_rule_0 := by decide +kernel
theorem dX11_rule_0 : decode cX11_rule 0 = .ok (.aload_n 0, 1) := dk_42 (dk_at dksX11_rule_0 0 rfl rfl)
theorem dX11_rule_1 : decode cX11_rule 1 = .ok (.invokevirtual 99, 3) := dk_182 0 99 (dk_at dksX11_rule_0 1 rfl rfl)
theorem dX11_rule_4 : decode cX11_rule 4 = .ok (.astore_n 1, 1) := dk_76 (dk_at dksX11_rule_0 4 rfl rfl)
theorem dX11_rule_5 : decode cX11_rule 5 = .ok (.aload_n 0, 1) := dk_42 (dk_at dksX11_rule_0 5 rfl rfl)
theorem dX11_rule_6 : decode cX11_rule 6 = .ok (.iconst 4, 1) := dk_7 (dk_at dksX11_rule_0 6 rfl rfl)
theorem dX11_rule_7 : decode cX11_rule 7 = .ok (.invokevirtual 123, 3) := dk_182 0 123 (dk_at dksX11_rule_0 7 rfl rfl)
theorem dX11_rule_10 : decode cX11_rule 10 = .ok (.new 126, 3) := dk_187 0 126 (dk_at dksX11_rule_0 10 rfl rfl)
theorem dX11_rule_13 : decode cX11_rule 13 = .ok (.dup, 1) := dk_89 (dk_at dksX11_rule_0 13 rfl rfl)
theorem dX11_rule_14 : decode cX11_rule 14 = .ok (.aload_n 1, 1) := dk_43 (dk_at dksX11_rule_0 14 rfl rfl)
theorem dX11_rule_15 : decode cX11_rule 15 = .ok (.aload_n 0, 1) := dk_42 (dk_at dksX11_rule_0 15 rfl rfl)
theorem dX11_rule_16 : decode cX11_rule 16 = .ok (.invokevirtual 99, 3) := dk_182 0 99 (dk_at dksX11_rule_0 16 rfl rfl)
theorem dX11_rule_19 : decode cX11_rule 19 = .ok (.invokespecial 128, 3) := dk_183 0 128 (dk_at dksX11_rule_0 19 rfl rfl)
theorem dX11_rule_22 : decode cX11_rule 22 = .ok (.areturn, 1) := dk_176 (dk_at dksX11_rule_0 22 rfl rfl)
abbrev cX11_word : ByteArray := prog_14_method_10_code
def yX11_word : MethodName := ⟨RX11, "word", "()Ljava/lang/String;"⟩
def dkwX11_word_0 : List UInt8 := [42, 182, 0, 87, 76, 42, 182, 0, 25, 43, 176]
abbrev dktX11_word_0 : List UInt8 := dkwX11_word_0 ++ []
theorem dksX11_word_0 : cX11_word.data.toList.drop 0 = dktX11_word_0 := by decide +kernel
theorem dX11_word_0 : decode cX11_word 0 = .ok (.aload_n 0, 1) := dk_42 (dk_at dksX11_word_0 0 rfl rfl)
theorem dX11_word_1 : decode cX11_word 1 = .ok (.invokevirtual 87, 3) := dk_182 0 87 (dk_at dksX11_word_0 1 rfl rfl)
theorem dX11_word_4 : decode cX11_word 4 = .ok (.astore_n 1, 1) := dk_76 (dk_at dksX11_word_0 4 rfl rfl)
theorem dX11_word_5 : decode cX11_word 5 = .ok (.aload_n 0, 1) := dk_42 (dk_at dksX11_word_0 5 rfl rfl)
theorem dX11_word_6 : decode cX11_word 6 = .ok (.invokevirtual 25, 3) := dk_182 0 25 (dk_at dksX11_word_0 6 rfl rfl)
theorem dX11_word_9 : decode cX11_word 9 = .ok (.aload_n 1, 1) := dk_43 (dk_at dksX11_word_0 9 rfl rfl)
theorem dX11_word_10 : decode cX11_word 10 = .ok (.areturn, 1) := dk_176 (dk_at dksX11_word_0 10 rfl rfl)
abbrev cX11_parts : ByteArray := prog_14_method_12_code
def yX11_parts : MethodName := ⟨RX11, "parts", "(LSpokenMarks$Catalogue;)Ljava/util/List;"⟩
def dkwX11_parts_5 : List UInt8 := [182, 0, 110, 185, 0, 114, 2, 0, 87, 167, 255, 151, 44, 176]
abbrev dktX11_parts_5 : List UInt8 := dkwX11_parts_5 ++ []
def dkwX11_parts_4 : List UInt8 := [42, 44, 185, 0, 120, 1, 0, 8, 162, 0, 7, 4, 167, 0, 4, 3, 7, 182, 0, 77, 44, 42, 43]
abbrev dktX11_parts_4 : List UInt8 := dkwX11_parts_4 ++ dktX11_parts_5
def dkwX11_parts_3 : List UInt8 := [160, 0, 15, 42, 180, 0, 11, 182, 0, 84, 16, 8, 163, 0, 7, 4, 167, 0, 4, 3, 6, 182, 0, 77]
abbrev dktX11_parts_3 : List UInt8 := dkwX11_parts_3 ++ dktX11_parts_4
def dkwX11_parts_2 : List UInt8 := [42, 180, 0, 49, 18, 92, 163, 0, 7, 4, 167, 0, 4, 3, 5, 182, 0, 77, 42, 42, 180, 0, 38, 4]
abbrev dktX11_parts_2 : List UInt8 := dkwX11_parts_2 ++ dktX11_parts_3
def dkwX11_parts_1 : List UInt8 := [180, 0, 38, 4, 159, 0, 11, 42, 180, 0, 38, 5, 160, 0, 95, 42, 42, 180, 0, 38, 5, 160, 0, 12]
abbrev dktX11_parts_1 : List UInt8 := dkwX11_parts_1 ++ dktX11_parts_2
def dkwX11_parts_0 : List UInt8 := [187, 0, 107, 89, 8, 183, 0, 109, 77, 44, 42, 43, 182, 0, 110, 185, 0, 114, 2, 0, 87, 42]
abbrev dktX11_parts_0 : List UInt8 := dkwX11_parts_0 ++ dktX11_parts_1
theorem dksX11_parts_0 : cX11_parts.data.toList.drop 0 = dktX11_parts_0 := by decide +kernel
theorem dksX11_parts_1 : cX11_parts.data.toList.drop 22 = dktX11_parts_1 := dk_seg dksX11_parts_0 22 rfl rfl
theorem dksX11_parts_2 : cX11_parts.data.toList.drop 46 = dktX11_parts_2 := dk_seg dksX11_parts_1 24 rfl rfl
theorem dksX11_parts_3 : cX11_parts.data.toList.drop 70 = dktX11_parts_3 := dk_seg dksX11_parts_2 24 rfl rfl
theorem dksX11_parts_4 : cX11_parts.data.toList.drop 94 = dktX11_parts_4 := dk_seg dksX11_parts_3 24 rfl rfl
theorem dksX11_parts_5 : cX11_parts.data.toList.drop 117 = dktX11_parts_5 := dk_seg dksX11_parts_4 23 rfl rfl
theorem dX11_parts_0 : decode cX11_parts 0 = .ok (.new 107, 3) := dk_187 0 107 (dk_at dksX11_parts_0 0 rfl rfl)
theorem dX11_parts_3 : decode cX11_parts 3 = .ok (.dup, 1) := dk_89 (dk_at dksX11_parts_0 3 rfl rfl)
theorem dX11_parts_4 : decode cX11_parts 4 = .ok (.iconst 5, 1) := dk_8 (dk_at dksX11_parts_0 4 rfl rfl)
theorem dX11_parts_5 : decode cX11_parts 5 = .ok (.invokespecial 109, 3) := dk_183 0 109 (dk_at dksX11_parts_0 5 rfl rfl)
theorem dX11_parts_8 : decode cX11_parts 8 = .ok (.astore_n 2, 1) := dk_77 (dk_at dksX11_parts_0 8 rfl rfl)
theorem dX11_parts_9 : decode cX11_parts 9 = .ok (.aload_n 2, 1) := dk_44 (dk_at dksX11_parts_0 9 rfl rfl)
theorem dX11_parts_10 : decode cX11_parts 10 = .ok (.aload_n 0, 1) := dk_42 (dk_at dksX11_parts_0 10 rfl rfl)
theorem dX11_parts_11 : decode cX11_parts 11 = .ok (.aload_n 1, 1) := dk_43 (dk_at dksX11_parts_0 11 rfl rfl)
theorem dX11_parts_12 : decode cX11_parts 12 = .ok (.invokevirtual 110, 3) := dk_182 0 110 (dk_at dksX11_parts_0 12 rfl rfl)
theorem dX11_parts_15 : decode cX11_parts 15 = .ok (.invokeinterface 114 2, 5) := by decide +kernel
theorem dX11_parts_20 : decode cX11_parts 20 = .ok (.pop, 1) := dk_87 (dk_at dksX11_parts_0 20 rfl rfl)
theorem dX11_parts_21 : decode cX11_parts 21 = .ok (.aload_n 0, 1) := dk_42 (dk_at dksX11_parts_0 21 rfl rfl)
theorem dX11_parts_22 : decode cX11_parts 22 = .ok (.getfield 38, 3) := dk_180 0 38 (dk_at dksX11_parts_1 0 rfl rfl)
theorem dX11_parts_25 : decode cX11_parts 25 = .ok (.iconst 1, 1) := dk_4 (dk_at dksX11_parts_1 3 rfl rfl)
theorem dX11_parts_26 : decode cX11_parts 26 = .ok (.if_icmp .eq 11, 3) := dk_159 0 11 (dk_at dksX11_parts_1 4 rfl rfl)
theorem dX11_parts_29 : decode cX11_parts 29 = .ok (.aload_n 0, 1) := dk_42 (dk_at dksX11_parts_1 7 rfl rfl)
theorem dX11_parts_30 : decode cX11_parts 30 = .ok (.getfield 38, 3) := dk_180 0 38 (dk_at dksX11_parts_1 8 rfl rfl)
theorem dX11_parts_33 : decode cX11_parts 33 = .ok (.iconst 2, 1) := dk_5 (dk_at dksX11_parts_1 11 rfl rfl)
theorem dX11_parts_34 : decode cX11_parts 34 = .ok (.if_icmp .ne 95, 3) := dk_160 0 95 (dk_at dksX11_parts_1 12 rfl rfl)
theorem dX11_parts_37 : decode cX11_parts 37 = .ok (.aload_n 0, 1) := dk_42 (dk_at dksX11_parts_1 15 rfl rfl)
theorem dX11_parts_38 : decode cX11_parts 38 = .ok (.aload_n 0, 1) := dk_42 (dk_at dksX11_parts_1 16 rfl rfl)
theorem dX11_parts_39 : decode cX11_parts 39 = .ok (.getfield 38, 3) := dk_180 0 38 (dk_at dksX11_parts_1 17 rfl rfl)
theorem dX11_parts_42 : decode cX11_parts 42 = .ok (.iconst 2, 1) := dk_5 (dk_at dksX11_parts_1 20 rfl rfl)
theorem dX11_parts_43 : decode cX11_parts 43 = .ok (.if_icmp .ne 12, 3) := dk_160 0 12 (dk_at dksX11_parts_1 21 rfl rfl)
theorem dX11_parts_46 : decode cX11_parts 46 = .ok (.aload_n 0, 1) := dk_42 (dk_at dksX11_parts_2 0 rfl rfl)
theorem dX11_parts_47 : decode cX11_parts 47 = .ok (.getfield 49, 3) := dk_180 0 49 (dk_at dksX11_parts_2 1 rfl rfl)
theorem dX11_parts_50 : decode cX11_parts 50 = .ok (.ldc 92, 2) := dk_18 92 (dk_at dksX11_parts_2 4 rfl rfl)
theorem dX11_parts_52 : decode cX11_parts 52 = .ok (.if_icmp .gt 7, 3) := dk_163 0 7 (dk_at dksX11_parts_2 6 rfl rfl)
theorem dX11_parts_55 : decode cX11_parts 55 = .ok (.iconst 1, 1) := dk_4 (dk_at dksX11_parts_2 9 rfl rfl)
theorem dX11_parts_56 : decode cX11_parts 56 = .ok (.goto 4, 3) := dk_167 0 4 (dk_at dksX11_parts_2 10 rfl rfl)
theorem dX11_parts_59 : decode cX11_parts 59 = .ok (.iconst 0, 1) := dk_3 (dk_at dksX11_parts_2 13 rfl rfl)
theorem dX11_parts_60 : decode cX11_parts 60 = .ok (.iconst 2, 1) := dk_5 (dk_at dksX11_parts_2 14 rfl rfl)
theorem dX11_parts_61 : decode cX11_parts 61 = .ok (.invokevirtual 77, 3) := dk_182 0 77 (dk_at dksX11_parts_2 15 rfl rfl)
theorem dX11_parts_64 : decode cX11_parts 64 = .ok (.aload_n 0, 1) := dk_42 (dk_at dksX11_parts_2 18 rfl rfl)
theorem dX11_parts_65 : decode cX11_parts 65 = .ok (.aload_n 0, 1) := dk_42 (dk_at dksX11_parts_2 19 rfl rfl)
theorem dX11_parts_66 : decode cX11_parts 66 = .ok (.getfield 38, 3) := dk_180 0 38 (dk_at dksX11_parts_2 20 rfl rfl)
theorem dX11_parts_69 : decode cX11_parts 69 = .ok (.iconst 1, 1) := dk_4 (dk_at dksX11_parts_2 23 rfl rfl)
theorem dX11_parts_70 : decode cX11_parts 70 = .ok (.if_icmp .ne 15, 3) := dk_160 0 15 (dk_at dksX11_parts_3 0 rfl rfl)
theorem dX11_parts_73 : decode cX11_parts 73 = .ok (.aload_n 0, 1) := dk_42 (dk_at dksX11_parts_3 3 rfl rfl)
theorem dX11_parts_74 : decode cX11_parts 74 = .ok (.getfield 11, 3) := dk_180 0 11 (dk_at dksX11_parts_3 4 rfl rfl)
theorem dX11_parts_77 : decode cX11_parts 77 = .ok (.invokevirtual 84, 3) := dk_182 0 84 (dk_at dksX11_parts_3 7 rfl rfl)
theorem dX11_parts_80 : decode cX11_parts 80 = .ok (.bipush 8, 2) := dk_16 8 (dk_at dksX11_parts_3 10 rfl rfl)
theorem dX11_parts_82 : decode cX11_parts 82 = .ok (.if_icmp .gt 7, 3) := dk_163 0 7 (dk_at dksX11_parts_3 12 rfl rfl)
theorem dX11_parts_85 : decode cX11_parts 85 = .ok (.iconst 1, 1) := dk_4 (dk_at dksX11_parts_3 15 rfl rfl)
theorem dX11_parts_86 : decode cX11_parts 86 = .ok (.goto 4, 3) := dk_167 0 4 (dk_at dksX11_parts_3 16 rfl rfl)
theorem dX11_parts_89 : decode cX11_parts 89 = .ok (.iconst 0, 1) := dk_3 (dk_at dksX11_parts_3 19 rfl rfl)
theorem dX11_parts_90 : decode cX11_parts 90 = .ok (.iconst 3, 1) := dk_6 (dk_at dksX11_parts_3 20 rfl rfl)
theorem dX11_parts_91 : decode cX11_parts 91 = .ok (.invokevirtual 77, 3) := dk_182 0 77 (dk_at dksX11_parts_3 21 rfl rfl)
theorem dX11_parts_94 : decode cX11_parts 94 = .ok (.aload_n 0, 1) := dk_42 (dk_at dksX11_parts_4 0 rfl rfl)
theorem dX11_parts_95 : decode cX11_parts 95 = .ok (.aload_n 2, 1) := dk_44 (dk_at dksX11_parts_4 1 rfl rfl)
theorem dX11_parts_96 : decode cX11_parts 96 = .ok (.invokeinterface 120 1, 5) := by decide +kernel
theorem dX11_parts_101 : decode cX11_parts 101 = .ok (.iconst 5, 1) := dk_8 (dk_at dksX11_parts_4 7 rfl rfl)
theorem dX11_parts_102 : decode cX11_parts 102 = .ok (.if_icmp .ge 7, 3) := dk_162 0 7 (dk_at dksX11_parts_4 8 rfl rfl)
theorem dX11_parts_105 : decode cX11_parts 105 = .ok (.iconst 1, 1) := dk_4 (dk_at dksX11_parts_4 11 rfl rfl)
theorem dX11_parts_106 : decode cX11_parts 106 = .ok (.goto 4, 3) := dk_167 0 4 (dk_at dksX11_parts_4 12 rfl rfl)
theorem dX11_parts_109 : decode cX11_parts 109 = .ok (.iconst 0, 1) := dk_3 (dk_at dksX11_parts_4 15 rfl rfl)
theorem dX11_parts_110 : decode cX11_parts 110 = .ok (.iconst 4, 1) := dk_7 (dk_at dksX11_parts_4 16 rfl rfl)
theorem dX11_parts_111 : decode cX11_parts 111 = .ok (.invokevirtual 77, 3) := dk_182 0 77 (dk_at dksX11_parts_4 17 rfl rfl)
theorem dX11_parts_114 : decode cX11_parts 114 = .ok (.aload_n 2, 1) := dk_44 (dk_at dksX11_parts_4 20 rfl rfl)
theorem dX11_parts_115 : decode cX11_parts 115 = .ok (.aload_n 0, 1) := dk_42 (dk_at dksX11_parts_4 21 rfl rfl)
theorem dX11_parts_116 : decode cX11_parts 116 = .ok (.aload_n 1, 1) := dk_43 (dk_at dksX11_parts_4 22 rfl rfl)
theorem dX11_parts_117 : decode cX11_parts 117 = .ok (.invokevirtual 110, 3) := dk_182 0 110 (dk_at dksX11_parts_5 0 rfl rfl)
theorem dX11_parts_120 : decode cX11_parts 120 = .ok (.invokeinterface 114 2, 5) := by decide +kernel
theorem dX11_parts_125 : decode cX11_parts 125 = .ok (.pop, 1) := dk_87 (dk_at dksX11_parts_5 8 rfl rfl)
theorem dX11_parts_126 : decode cX11_parts 126 = .ok (.goto (-105), 3) := dk_167 255 151 (dk_at dksX11_parts_5 9 rfl rfl)
theorem dX11_parts_129 : decode cX11_parts 129 = .ok (.aload_n 2, 1) := dk_44 (dk_at dksX11_parts_5 12 rfl rfl)
theorem dX11_parts_130 : decode cX11_parts 130 = .ok (.areturn, 1) := dk_176 (dk_at dksX11_parts_5 13 rfl rfl)
abbrev cX11_part : ByteArray := prog_14_method_11_code
def yX11_part : MethodName := ⟨RX11, "part", "(LSpokenMarks$Catalogue;)LSpokenMarks$Part;"⟩
def dkwX11_part_1 : List UInt8 := [167, 0, 11, 43, 42, 182, 0, 99, 182, 0, 101, 176]
abbrev dktX11_part_1 : List UInt8 := dkwX11_part_1 ++ []
def dkwX11_part_0 : List UInt8 := [42, 180, 0, 38, 5, 160, 0, 20, 187, 0, 90, 89, 42, 3, 18, 92, 182, 0, 93, 183, 0, 96]
abbrev dktX11_part_0 : List UInt8 := dkwX11_part_0 ++ dktX11_part_1
theorem dksX11_part_0 : cX11_part.data.toList.drop 0 = dktX11_part_0 := by decide +kernel
theorem dksX11_part_1 : cX11_part.data.toList.drop 22 = dktX11_part_1 := dk_seg dksX11_part_0 22 rfl rfl
theorem dX11_part_0 : decode cX11_part 0 = .ok (.aload_n 0, 1) := dk_42 (dk_at dksX11_part_0 0 rfl rfl)
theorem dX11_part_1 : decode cX11_part 1 = .ok (.getfield 38, 3) := dk_180 0 38 (dk_at dksX11_part_0 1 rfl rfl)
theorem dX11_part_4 : decode cX11_part 4 = .ok (.iconst 2, 1) := dk_5 (dk_at dksX11_part_0 4 rfl rfl)
theorem dX11_part_5 : decode cX11_part 5 = .ok (.if_icmp .ne 20, 3) := dk_160 0 20 (dk_at dksX11_part_0 5 rfl rfl)
theorem dX11_part_8 : decode cX11_part 8 = .ok (.new 90, 3) := dk_187 0 90 (dk_at dksX11_part_0 8 rfl rfl)
theorem dX11_part_11 : decode cX11_part 11 = .ok (.dup, 1) := dk_89 (dk_at dksX11_part_0 11 rfl rfl)
theorem dX11_part_12 : decode cX11_part 12 = .ok (.aload_n 0, 1) := dk_42 (dk_at dksX11_part_0 12 rfl rfl)
theorem dX11_part_13 : decode cX11_part 13 = .ok (.iconst 0, 1) := dk_3 (dk_at dksX11_part_0 13 rfl rfl)
theorem dX11_part_14 : decode cX11_part 14 = .ok (.ldc 92, 2) := dk_18 92 (dk_at dksX11_part_0 14 rfl rfl)
theorem dX11_part_16 : decode cX11_part 16 = .ok (.invokevirtual 93, 3) := dk_182 0 93 (dk_at dksX11_part_0 16 rfl rfl)
theorem dX11_part_19 : decode cX11_part 19 = .ok (.invokespecial 96, 3) := dk_183 0 96 (dk_at dksX11_part_0 19 rfl rfl)
theorem dX11_part_22 : decode cX11_part 22 = .ok (.goto 11, 3) := dk_167 0 11 (dk_at dksX11_part_1 0 rfl rfl)
theorem dX11_part_25 : decode cX11_part 25 = .ok (.aload_n 1, 1) := dk_43 (dk_at dksX11_part_1 3 rfl rfl)
theorem dX11_part_26 : decode cX11_part 26 = .ok (.aload_n 0, 1) := dk_42 (dk_at dksX11_part_1 4 rfl rfl)
theorem dX11_part_27 : decode cX11_part 27 = .ok (.invokevirtual 99, 3) := dk_182 0 99 (dk_at dksX11_part_1 5 rfl rfl)
theorem dX11_part_30 : decode cX11_part 30 = .ok (.invokevirtual 101, 3) := dk_182 0 101 (dk_at dksX11_part_1 8 rfl rfl)
theorem dX11_part_33 : decode cX11_part 33 = .ok (.areturn, 1) := dk_176 (dk_at dksX11_part_1 11 rfl rfl)
abbrev cX11_end : ByteArray := prog_14_method_14_code
def yX11_end : MethodName := ⟨RX11, "end", "()V"⟩
def dkwX11_end_0 : List UInt8 := [42, 42, 180, 0, 38, 154, 0, 7, 4, 167, 0, 4, 3, 4, 182, 0, 77, 177]
abbrev dktX11_end_0 : List UInt8 := dkwX11_end_0 ++ []
theorem dksX11_end_0 : cX11_end.data.toList.drop 0 = dktX11_end_0 := by decide +kernel
theorem dX11_end_0 : decode cX11_end 0 = .ok (.aload_n 0, 1) := dk_42 (dk_at dksX11_end_0 0 rfl rfl)
theorem dX11_end_1 : decode cX11_end 1 = .ok (.aload_n 0, 1) := dk_42 (dk_at dksX11_end_0 1 rfl rfl)
theorem dX11_end_2 : decode cX11_end 2 = .ok (.getfield 38, 3) := dk_180 0 38 (dk_at dksX11_end_0 2 rfl rfl)
theorem dX11_end_5 : decode cX11_end 5 = .ok (.ifCond .ne 7, 3) := dk_154 0 7 (dk_at dksX11_end_0 5 rfl rfl)
theorem dX11_end_8 : decode cX11_end 8 = .ok (.iconst 1, 1) := dk_4 (dk_at dksX11_end_0 8 rfl rfl)
theorem dX11_end_9 : decode cX11_end 9 = .ok (.goto 4, 3) := dk_167 0 4 (dk_at dksX11_end_0 9 rfl rfl)
theorem dX11_end_12 : decode cX11_end 12 = .ok (.iconst 0, 1) := dk_3 (dk_at dksX11_end_0 12 rfl rfl)
theorem dX11_end_13 : decode cX11_end 13 = .ok (.iconst 1, 1) := dk_4 (dk_at dksX11_end_0 13 rfl rfl)
theorem dX11_end_14 : decode cX11_end 14 = .ok (.invokevirtual 77, 3) := dk_182 0 77 (dk_at dksX11_end_0 14 rfl rfl)
theorem dX11_end_17 : decode cX11_end 17 = .ok (.return_, 1) := dk_177 (dk_at dksX11_end_0 17 rfl rfl)
theorem q162 : (Jvm.Cond.initialized "SpokenMarks$Scanner") ∈ lw_all := lw_g (lw_at lw_m1 43 rfl) rfl
theorem q702 : (Jvm.Cond.selects "SpokenMarks$Scanner" ({ cls := "java/lang/Object", name := "getClass", desc := "()Ljava/lang/Class;" } : Jvm.MethodName) ({ cls := "java/lang/Object", name := "getClass", desc := "()Ljava/lang/Class;" } : Jvm.MethodName)) ∈ lw_all := lw_g (lw_at lw_m3 103 rfl) rfl
theorem q762 : (Jvm.Cond.selects "SpokenMarks$Scanner" ({ cls := "java/lang/Object", name := "hashCode", desc := "()I" } : Jvm.MethodName) ({ cls := "java/lang/Object", name := "hashCode", desc := "()I" } : Jvm.MethodName)) ∈ lw_all := lw_g (lw_at lw_m3 163 rfl) rfl
theorem q1169 : (Jvm.Cond.selects "SpokenMarks$Scanner" ({ cls := "java/lang/Object", name := "equals", desc := "(Ljava/lang/Object;)Z" } : Jvm.MethodName) ({ cls := "java/lang/Object", name := "equals", desc := "(Ljava/lang/Object;)Z" } : Jvm.MethodName)) ∈ lw_all := lw_g (lw_at lw_m5 90 rfl) rfl
theorem q2059 : (Jvm.Cond.instanceMethod ({ cls := "SpokenMarks$Scanner", name := "<init>", desc := "([BI)V" } : Jvm.MethodName)) ∈ lw_all := lw_g (lw_at lw_m9 20 rfl) rfl
theorem q2060 : (Jvm.Cond.code ({ cls := "SpokenMarks$Scanner", name := "<init>", desc := "([BI)V" } : Jvm.MethodName) prog_14_method_1_code (3 : Nat) (Option.none : Option Jvm.ClassFile.FieldType)) ∈ lw_all := lw_g (lw_at lw_m9 21 rfl) rfl
theorem q2061 : (Jvm.Cond.methodLink "SpokenMarks$Scanner" (3 : Nat) ({ cls := "java/lang/Object", name := "<init>", desc := "()V" } : Jvm.MethodName)) ∈ lw_all := lw_g (lw_at lw_m9 22 rfl) rfl
theorem q2062 : (Jvm.Cond.stringRef "SpokenMarks$Scanner" (9 : Nat) "") ∈ lw_tbl := lw_at lw_m9 23 rfl
theorem q2063 : (Jvm.Cond.methodLink "SpokenMarks$Scanner" (25 : Nat) ({ cls := "SpokenMarks$Scanner", name := "advance", desc := "()V" } : Jvm.MethodName)) ∈ lw_all := lw_g (lw_at lw_m9 24 rfl) rfl
theorem q2064 : (Jvm.Cond.instanceMethod ({ cls := "SpokenMarks$Scanner", name := "advance", desc := "()V" } : Jvm.MethodName)) ∈ lw_all := lw_g (lw_at lw_m9 25 rfl) rfl
theorem q2065 : (Jvm.Cond.selects "SpokenMarks$Scanner" ({ cls := "SpokenMarks$Scanner", name := "advance", desc := "()V" } : Jvm.MethodName) ({ cls := "SpokenMarks$Scanner", name := "advance", desc := "()V" } : Jvm.MethodName)) ∈ lw_all := lw_g (lw_at lw_m9 26 rfl) rfl
theorem q2066 : (Jvm.Cond.sameMethod "SpokenMarks$Scanner" "SpokenMarks$Scanner" "advance" "()V") ∈ lw_all := lw_g (lw_at lw_m9 27 rfl) rfl
theorem q2069 : (Jvm.Cond.code ({ cls := "SpokenMarks$Scanner", name := "advance", desc := "()V" } : Jvm.MethodName) prog_14_method_3_code (1 : Nat) (Option.none : Option Jvm.ClassFile.FieldType)) ∈ lw_all := lw_g (lw_at lw_m9 30 rfl) rfl
theorem q2070 : (Jvm.Cond.methodLink "SpokenMarks$Scanner" (34 : Nat) ({ cls := "SpokenMarks$Scanner", name := "isBetween", desc := "(III)Z" } : Jvm.MethodName)) ∈ lw_all := lw_g (lw_at lw_m9 31 rfl) rfl
theorem q2071 : (Jvm.Cond.privateMethod ({ cls := "SpokenMarks$Scanner", name := "isBetween", desc := "(III)Z" } : Jvm.MethodName)) ∈ lw_tbl := lw_at lw_m9 32 rfl
theorem q2072 : (Jvm.Cond.instanceMethod ({ cls := "SpokenMarks$Scanner", name := "isBetween", desc := "(III)Z" } : Jvm.MethodName)) ∈ lw_all := lw_g (lw_at lw_m9 33 rfl) rfl
theorem q2073 : (Jvm.Cond.instantiable "SpokenMarks$Scanner" (7 : Nat)) ∈ lw_all := lw_g (lw_at lw_m9 34 rfl) rfl
theorem q2074 : (Jvm.Cond.code ({ cls := "SpokenMarks$Scanner", name := "isBetween", desc := "(III)Z" } : Jvm.MethodName) prog_14_method_2_code (4 : Nat) (Option.some Jvm.ClassFile.FieldType.boolean)) ∈ lw_all := lw_g (lw_at lw_m9 35 rfl) rfl
theorem q2075 : (Jvm.Cond.methodLink "SpokenMarks$Scanner" (41 : Nat) ({ cls := "SpokenMarks$Scanner", name := "letters", desc := "()Ljava/lang/String;" } : Jvm.MethodName)) ∈ lw_all := lw_g (lw_at lw_m9 36 rfl) rfl
theorem q2076 : (Jvm.Cond.privateMethod ({ cls := "SpokenMarks$Scanner", name := "letters", desc := "()Ljava/lang/String;" } : Jvm.MethodName)) ∈ lw_tbl := lw_at lw_m9 37 rfl
theorem q2077 : (Jvm.Cond.instanceMethod ({ cls := "SpokenMarks$Scanner", name := "letters", desc := "()Ljava/lang/String;" } : Jvm.MethodName)) ∈ lw_all := lw_g (lw_at lw_m9 38 rfl) rfl
theorem q2078 : (Jvm.Cond.code ({ cls := "SpokenMarks$Scanner", name := "letters", desc := "()Ljava/lang/String;" } : Jvm.MethodName) prog_14_method_4_code (2 : Nat) (Option.some (Jvm.ClassFile.FieldType.object "java/lang/String"))) ∈ lw_all := lw_g (lw_at lw_m9 39 rfl) rfl
theorem q2079 : (Jvm.Cond.classLink "SpokenMarks$Scanner" (52 : Nat) "java/lang/StringBuilder") ∈ lw_all := lw_g (lw_at lw_m9 40 rfl) rfl
theorem q2080 : (Jvm.Cond.methodLink "SpokenMarks$Scanner" (54 : Nat) ({ cls := "java/lang/StringBuilder", name := "<init>", desc := "()V" } : Jvm.MethodName)) ∈ lw_all := lw_g (lw_at lw_m9 41 rfl) rfl
theorem q2081 : (Jvm.Cond.methodLink "SpokenMarks$Scanner" (55 : Nat) ({ cls := "java/lang/StringBuilder", name := "length", desc := "()I" } : Jvm.MethodName)) ∈ lw_all := lw_g (lw_at lw_m9 42 rfl) rfl
theorem q2082 : (Jvm.Cond.methodLink "SpokenMarks$Scanner" (58 : Nat) ({ cls := "java/lang/StringBuilder", name := "append", desc := "(C)Ljava/lang/StringBuilder;" } : Jvm.MethodName)) ∈ lw_all := lw_g (lw_at lw_m9 43 rfl) rfl
theorem q2083 : (Jvm.Cond.methodLink "SpokenMarks$Scanner" (62 : Nat) ({ cls := "java/lang/StringBuilder", name := "toString", desc := "()Ljava/lang/String;" } : Jvm.MethodName)) ∈ lw_all := lw_g (lw_at lw_m9 44 rfl) rfl
theorem q2084 : (Jvm.Cond.methodLink "SpokenMarks$Scanner" (45 : Nat) ({ cls := "SpokenMarks$Scanner", name := "digits", desc := "()I" } : Jvm.MethodName)) ∈ lw_all := lw_g (lw_at lw_m9 45 rfl) rfl
theorem q2085 : (Jvm.Cond.privateMethod ({ cls := "SpokenMarks$Scanner", name := "digits", desc := "()I" } : Jvm.MethodName)) ∈ lw_tbl := lw_at lw_m9 46 rfl
theorem q2086 : (Jvm.Cond.instanceMethod ({ cls := "SpokenMarks$Scanner", name := "digits", desc := "()I" } : Jvm.MethodName)) ∈ lw_all := lw_g (lw_at lw_m9 47 rfl) rfl
theorem q2087 : (Jvm.Cond.code ({ cls := "SpokenMarks$Scanner", name := "digits", desc := "()I" } : Jvm.MethodName) prog_14_method_5_code (2 : Nat) (Option.some Jvm.ClassFile.FieldType.int)) ∈ lw_all := lw_g (lw_at lw_m9 48 rfl) rfl
theorem q2088 : (Jvm.Cond.constant "SpokenMarks$Scanner" (65 : Nat) (1000000 : Int32)) ∈ lw_all := lw_g (lw_at lw_m9 49 rfl) rfl
theorem q2089 : (Jvm.Cond.methodLink "SpokenMarks$Scanner" (66 : Nat) ({ cls := "java/lang/Math", name := "min", desc := "(II)I" } : Jvm.MethodName)) ∈ lw_all := lw_g (lw_at lw_m9 50 rfl) rfl
theorem q2090 : (Jvm.Cond.fieldLink "SpokenMarks$Scanner" (17 : Nat) "SpokenMarks$Scanner" "text" "[B") ∈ lw_all := lw_g (lw_at lw_m9 51 rfl) rfl
theorem q2091 : (Jvm.Cond.fieldLink "SpokenMarks$Scanner" (21 : Nat) "SpokenMarks$Scanner" "end" "I") ∈ lw_all := lw_g (lw_at lw_m9 52 rfl) rfl
theorem q2092 : (Jvm.Cond.fieldLink "SpokenMarks$Scanner" (31 : Nat) "SpokenMarks$Scanner" "begin" "I") ∈ lw_all := lw_g (lw_at lw_m9 53 rfl) rfl
theorem q2093 : (Jvm.Cond.fieldLink "SpokenMarks$Scanner" (28 : Nat) "SpokenMarks$Scanner" "next" "I") ∈ lw_all := lw_g (lw_at lw_m9 54 rfl) rfl
theorem q2094 : (Jvm.Cond.fieldLink "SpokenMarks$Scanner" (49 : Nat) "SpokenMarks$Scanner" "value" "I") ∈ lw_all := lw_g (lw_at lw_m9 55 rfl) rfl
theorem q2099 : (Jvm.Cond.fieldLink "SpokenMarks$Scanner" (38 : Nat) "SpokenMarks$Scanner" "kind" "I") ∈ lw_all := lw_g (lw_at lw_m9 60 rfl) rfl
theorem q2100 : (Jvm.Cond.fieldLink "SpokenMarks$Scanner" (11 : Nat) "SpokenMarks$Scanner" "word" "Ljava/lang/String;") ∈ lw_all := lw_g (lw_at lw_m9 61 rfl) rfl
theorem q2106 : (Jvm.Cond.soleField "SpokenMarks$Scanner" "text") ∈ lw_all := lw_g (lw_at lw_m9 67 rfl) rfl
theorem q2108 : (Jvm.Cond.soleField "SpokenMarks$Scanner" "end") ∈ lw_all := lw_g (lw_at lw_m9 69 rfl) rfl
theorem q2110 : (Jvm.Cond.soleField "SpokenMarks$Scanner" "begin") ∈ lw_all := lw_g (lw_at lw_m9 71 rfl) rfl
theorem q2112 : (Jvm.Cond.soleField "SpokenMarks$Scanner" "next") ∈ lw_all := lw_g (lw_at lw_m9 73 rfl) rfl
theorem q2114 : (Jvm.Cond.soleField "SpokenMarks$Scanner" "value") ∈ lw_all := lw_g (lw_at lw_m9 75 rfl) rfl
theorem q2116 : (Jvm.Cond.soleField "SpokenMarks$Scanner" "kind") ∈ lw_all := lw_g (lw_at lw_m9 77 rfl) rfl
theorem q2118 : (Jvm.Cond.soleField "SpokenMarks$Scanner" "word") ∈ lw_all := lw_g (lw_at lw_m9 79 rfl) rfl
theorem q2128 : (Jvm.Cond.declares ({ cls := "SpokenMarks$Scanner", name := "check", desc := "(ZI)V" } : Jvm.MethodName)) ∈ lw_tbl := lw_at lw_m9 89 rfl
theorem q2130 : (Jvm.Cond.instanceMethod ({ cls := "SpokenMarks$Scanner", name := "check", desc := "(ZI)V" } : Jvm.MethodName)) ∈ lw_all := lw_g (lw_at lw_m9 91 rfl) rfl
theorem q2131 : (Jvm.Cond.code ({ cls := "SpokenMarks$Scanner", name := "check", desc := "(ZI)V" } : Jvm.MethodName) prog_14_method_6_code (3 : Nat) (Option.none : Option Jvm.ClassFile.FieldType)) ∈ lw_all := lw_g (lw_at lw_m9 92 rfl) rfl
theorem q2132 : (Jvm.Cond.classLink "SpokenMarks$Scanner" (72 : Nat) "SpokenMarks$TextException") ∈ lw_all := lw_g (lw_at lw_m9 93 rfl) rfl
theorem q2141 : (Jvm.Cond.methodLink "SpokenMarks$Scanner" (74 : Nat) ({ cls := "SpokenMarks$TextException", name := "<init>", desc := "(II)V" } : Jvm.MethodName)) ∈ lw_all := lw_g (lw_at lw_m9 102 rfl) rfl
theorem q2162 : (Jvm.Cond.declares ({ cls := "SpokenMarks$Scanner", name := "advance", desc := "()V" } : Jvm.MethodName)) ∈ lw_tbl := lw_at lw_m9 123 rfl
theorem q2166 : (Jvm.Cond.declares ({ cls := "SpokenMarks$Scanner", name := "number", desc := "(II)I" } : Jvm.MethodName)) ∈ lw_tbl := lw_at lw_m9 127 rfl
theorem q2168 : (Jvm.Cond.instanceMethod ({ cls := "SpokenMarks$Scanner", name := "number", desc := "(II)I" } : Jvm.MethodName)) ∈ lw_all := lw_g (lw_at lw_m9 129 rfl) rfl
theorem q2169 : (Jvm.Cond.code ({ cls := "SpokenMarks$Scanner", name := "number", desc := "(II)I" } : Jvm.MethodName) prog_14_method_8_code (4 : Nat) (Option.some Jvm.ClassFile.FieldType.int)) ∈ lw_all := lw_g (lw_at lw_m9 130 rfl) rfl
theorem q2170 : (Jvm.Cond.methodLink "SpokenMarks$Scanner" (77 : Nat) ({ cls := "SpokenMarks$Scanner", name := "check", desc := "(ZI)V" } : Jvm.MethodName)) ∈ lw_all := lw_g (lw_at lw_m9 131 rfl) rfl
theorem q2171 : (Jvm.Cond.methodLinkNest "SpokenMarks$Scanner" (81 : Nat) ({ cls := "SpokenMarks", name := "inRange", desc := "(III)Z" } : Jvm.MethodName) "SpokenMarks") ∈ lw_tbl := lw_at lw_m9 132 rfl
theorem q2176 : (Jvm.Cond.declares ({ cls := "SpokenMarks$Scanner", name := "symbol", desc := "(I)V" } : Jvm.MethodName)) ∈ lw_tbl := lw_at lw_m9 137 rfl
theorem q2178 : (Jvm.Cond.instanceMethod ({ cls := "SpokenMarks$Scanner", name := "symbol", desc := "(I)V" } : Jvm.MethodName)) ∈ lw_all := lw_g (lw_at lw_m9 139 rfl) rfl
theorem q2179 : (Jvm.Cond.code ({ cls := "SpokenMarks$Scanner", name := "symbol", desc := "(I)V" } : Jvm.MethodName) prog_14_method_7_code (2 : Nat) (Option.none : Option Jvm.ClassFile.FieldType)) ∈ lw_all := lw_g (lw_at lw_m9 140 rfl) rfl
theorem q2189 : (Jvm.Cond.declares ({ cls := "SpokenMarks$Scanner", name := "lookWord", desc := "()Ljava/lang/String;" } : Jvm.MethodName)) ∈ lw_tbl := lw_at lw_m9 150 rfl
theorem q2191 : (Jvm.Cond.instanceMethod ({ cls := "SpokenMarks$Scanner", name := "lookWord", desc := "()Ljava/lang/String;" } : Jvm.MethodName)) ∈ lw_all := lw_g (lw_at lw_m9 152 rfl) rfl
theorem q2192 : (Jvm.Cond.code ({ cls := "SpokenMarks$Scanner", name := "lookWord", desc := "()Ljava/lang/String;" } : Jvm.MethodName) prog_14_method_9_code (1 : Nat) (Option.some (Jvm.ClassFile.FieldType.object "java/lang/String"))) ∈ lw_all := lw_g (lw_at lw_m9 153 rfl) rfl
theorem q2193 : (Jvm.Cond.methodLink "SpokenMarks$Scanner" (84 : Nat) ({ cls := "java/lang/String", name := "length", desc := "()I" } : Jvm.MethodName)) ∈ lw_all := lw_g (lw_at lw_m9 154 rfl) rfl
theorem q2197 : (Jvm.Cond.declares ({ cls := "SpokenMarks$Scanner", name := "rule", desc := "()LSpokenMarks$Rule;" } : Jvm.MethodName)) ∈ lw_tbl := lw_at lw_m9 158 rfl
theorem q2199 : (Jvm.Cond.instanceMethod ({ cls := "SpokenMarks$Scanner", name := "rule", desc := "()LSpokenMarks$Rule;" } : Jvm.MethodName)) ∈ lw_all := lw_g (lw_at lw_m9 160 rfl) rfl
theorem q2200 : (Jvm.Cond.code ({ cls := "SpokenMarks$Scanner", name := "rule", desc := "()LSpokenMarks$Rule;" } : Jvm.MethodName) prog_14_method_13_code (2 : Nat) (Option.some (Jvm.ClassFile.FieldType.object "SpokenMarks$Rule"))) ∈ lw_all := lw_g (lw_at lw_m9 161 rfl) rfl
theorem q2201 : (Jvm.Cond.methodLink "SpokenMarks$Scanner" (99 : Nat) ({ cls := "SpokenMarks$Scanner", name := "word", desc := "()Ljava/lang/String;" } : Jvm.MethodName)) ∈ lw_all := lw_g (lw_at lw_m9 162 rfl) rfl
theorem q2202 : (Jvm.Cond.instanceMethod ({ cls := "SpokenMarks$Scanner", name := "word", desc := "()Ljava/lang/String;" } : Jvm.MethodName)) ∈ lw_all := lw_g (lw_at lw_m9 163 rfl) rfl
theorem q2203 : (Jvm.Cond.selects "SpokenMarks$Scanner" ({ cls := "SpokenMarks$Scanner", name := "word", desc := "()Ljava/lang/String;" } : Jvm.MethodName) ({ cls := "SpokenMarks$Scanner", name := "word", desc := "()Ljava/lang/String;" } : Jvm.MethodName)) ∈ lw_all := lw_g (lw_at lw_m9 164 rfl) rfl
theorem q2204 : (Jvm.Cond.sameMethod "SpokenMarks$Scanner" "SpokenMarks$Scanner" "word" "()Ljava/lang/String;") ∈ lw_all := lw_g (lw_at lw_m9 165 rfl) rfl
theorem q2207 : (Jvm.Cond.code ({ cls := "SpokenMarks$Scanner", name := "word", desc := "()Ljava/lang/String;" } : Jvm.MethodName) prog_14_method_10_code (2 : Nat) (Option.some (Jvm.ClassFile.FieldType.object "java/lang/String"))) ∈ lw_all := lw_g (lw_at lw_m9 168 rfl) rfl
theorem q2208 : (Jvm.Cond.methodLink "SpokenMarks$Scanner" (87 : Nat) ({ cls := "SpokenMarks$Scanner", name := "lookWord", desc := "()Ljava/lang/String;" } : Jvm.MethodName)) ∈ lw_all := lw_g (lw_at lw_m9 169 rfl) rfl
theorem q2209 : (Jvm.Cond.methodLink "SpokenMarks$Scanner" (123 : Nat) ({ cls := "SpokenMarks$Scanner", name := "symbol", desc := "(I)V" } : Jvm.MethodName)) ∈ lw_all := lw_g (lw_at lw_m9 170 rfl) rfl
theorem q2210 : (Jvm.Cond.classLink "SpokenMarks$Scanner" (126 : Nat) "SpokenMarks$Rule") ∈ lw_all := lw_g (lw_at lw_m9 171 rfl) rfl
theorem q2211 : (Jvm.Cond.methodLink "SpokenMarks$Scanner" (128 : Nat) ({ cls := "SpokenMarks$Rule", name := "<init>", desc := "(Ljava/lang/String;Ljava/lang/String;)V" } : Jvm.MethodName)) ∈ lw_all := lw_g (lw_at lw_m9 172 rfl) rfl
theorem q2220 : (Jvm.Cond.declares ({ cls := "SpokenMarks$Scanner", name := "parts", desc := "(LSpokenMarks$Catalogue;)Ljava/util/List;" } : Jvm.MethodName)) ∈ lw_tbl := lw_at lw_m9 181 rfl
theorem q2222 : (Jvm.Cond.instanceMethod ({ cls := "SpokenMarks$Scanner", name := "parts", desc := "(LSpokenMarks$Catalogue;)Ljava/util/List;" } : Jvm.MethodName)) ∈ lw_all := lw_g (lw_at lw_m9 183 rfl) rfl
theorem q2223 : (Jvm.Cond.code ({ cls := "SpokenMarks$Scanner", name := "parts", desc := "(LSpokenMarks$Catalogue;)Ljava/util/List;" } : Jvm.MethodName) prog_14_method_12_code (3 : Nat) (Option.some (Jvm.ClassFile.FieldType.object "java/util/List"))) ∈ lw_all := lw_g (lw_at lw_m9 184 rfl) rfl
theorem q2224 : (Jvm.Cond.classLink "SpokenMarks$Scanner" (107 : Nat) "java/util/ArrayList") ∈ lw_all := lw_g (lw_at lw_m9 185 rfl) rfl
theorem q2225 : (Jvm.Cond.methodLink "SpokenMarks$Scanner" (109 : Nat) ({ cls := "java/util/ArrayList", name := "<init>", desc := "(I)V" } : Jvm.MethodName)) ∈ lw_all := lw_g (lw_at lw_m9 186 rfl) rfl
theorem q2226 : (Jvm.Cond.methodLink "SpokenMarks$Scanner" (110 : Nat) ({ cls := "SpokenMarks$Scanner", name := "part", desc := "(LSpokenMarks$Catalogue;)LSpokenMarks$Part;" } : Jvm.MethodName)) ∈ lw_all := lw_g (lw_at lw_m9 187 rfl) rfl
theorem q2227 : (Jvm.Cond.privateMethod ({ cls := "SpokenMarks$Scanner", name := "part", desc := "(LSpokenMarks$Catalogue;)LSpokenMarks$Part;" } : Jvm.MethodName)) ∈ lw_tbl := lw_at lw_m9 188 rfl
theorem q2228 : (Jvm.Cond.instanceMethod ({ cls := "SpokenMarks$Scanner", name := "part", desc := "(LSpokenMarks$Catalogue;)LSpokenMarks$Part;" } : Jvm.MethodName)) ∈ lw_all := lw_g (lw_at lw_m9 189 rfl) rfl
theorem q2229 : (Jvm.Cond.code ({ cls := "SpokenMarks$Scanner", name := "part", desc := "(LSpokenMarks$Catalogue;)LSpokenMarks$Part;" } : Jvm.MethodName) prog_14_method_11_code (2 : Nat) (Option.some (Jvm.ClassFile.FieldType.object "SpokenMarks$Part"))) ∈ lw_all := lw_g (lw_at lw_m9 190 rfl) rfl
theorem q2230 : (Jvm.Cond.classLink "SpokenMarks$Scanner" (90 : Nat) "SpokenMarks$Figure") ∈ lw_all := lw_g (lw_at lw_m9 191 rfl) rfl
theorem q2231 : (Jvm.Cond.constant "SpokenMarks$Scanner" (92 : Nat) (99999 : Int32)) ∈ lw_all := lw_g (lw_at lw_m9 192 rfl) rfl
theorem q2232 : (Jvm.Cond.methodLink "SpokenMarks$Scanner" (93 : Nat) ({ cls := "SpokenMarks$Scanner", name := "number", desc := "(II)I" } : Jvm.MethodName)) ∈ lw_all := lw_g (lw_at lw_m9 193 rfl) rfl
theorem q2233 : (Jvm.Cond.methodLink "SpokenMarks$Scanner" (96 : Nat) ({ cls := "SpokenMarks$Figure", name := "<init>", desc := "(I)V" } : Jvm.MethodName)) ∈ lw_all := lw_g (lw_at lw_m9 194 rfl) rfl
theorem q2234 : (Jvm.Cond.methodLink "SpokenMarks$Scanner" (101 : Nat) ({ cls := "SpokenMarks$Catalogue", name := "heard", desc := "(Ljava/lang/String;)LSpokenMarks$Word;" } : Jvm.MethodName)) ∈ lw_all := lw_g (lw_at lw_m9 195 rfl) rfl
theorem q2235 : (Jvm.Cond.interfaceEntry "SpokenMarks$Scanner" (114 : Nat)) ∈ lw_tbl := lw_at lw_m9 196 rfl
theorem q2236 : (Jvm.Cond.methodLink "SpokenMarks$Scanner" (114 : Nat) ({ cls := "java/util/List", name := "add", desc := "(Ljava/lang/Object;)Z" } : Jvm.MethodName)) ∈ lw_all := lw_g (lw_at lw_m9 197 rfl) rfl
theorem q2237 : (Jvm.Cond.interfaceEntry "SpokenMarks$Scanner" (120 : Nat)) ∈ lw_tbl := lw_at lw_m9 198 rfl
theorem q2238 : (Jvm.Cond.methodLink "SpokenMarks$Scanner" (120 : Nat) ({ cls := "java/util/List", name := "size", desc := "()I" } : Jvm.MethodName)) ∈ lw_all := lw_g (lw_at lw_m9 199 rfl) rfl
theorem q2403 : (Jvm.Cond.laysFinal "SpokenMarks$Scanner" "SpokenMarks$Scanner" "text" "[B") ∈ lw_all := lw_g (lw_at lw_m10 124 rfl) rfl
theorem q2404 : (Jvm.Cond.laysFinal "SpokenMarks$Scanner" "SpokenMarks$Scanner" "end" "I") ∈ lw_all := lw_g (lw_at lw_m10 125 rfl) rfl
theorem q2405 : (Jvm.Cond.lays "SpokenMarks$Scanner" "SpokenMarks$Scanner" "begin" "I") ∈ lw_all := lw_g (lw_at lw_m10 126 rfl) rfl
theorem q2406 : (Jvm.Cond.lays "SpokenMarks$Scanner" "SpokenMarks$Scanner" "next" "I") ∈ lw_all := lw_g (lw_at lw_m10 127 rfl) rfl
theorem q2407 : (Jvm.Cond.lays "SpokenMarks$Scanner" "SpokenMarks$Scanner" "value" "I") ∈ lw_all := lw_g (lw_at lw_m10 128 rfl) rfl
theorem q2408 : (Jvm.Cond.lays "SpokenMarks$Scanner" "SpokenMarks$Scanner" "kind" "I") ∈ lw_all := lw_g (lw_at lw_m10 129 rfl) rfl
theorem q2409 : (Jvm.Cond.lays "SpokenMarks$Scanner" "SpokenMarks$Scanner" "word" "Ljava/lang/String;") ∈ lw_all := lw_g (lw_at lw_m10 130 rfl) rfl
theorem q2410 : (Jvm.Cond.superclass "SpokenMarks$Scanner" "java/lang/Object") ∈ lw_all := lw_g (lw_at lw_m10 131 rfl) rfl
theorem q2414 : (Jvm.Cond.instanceMethod ({ cls := "SpokenMarks$Scanner", name := "end", desc := "()V" } : Jvm.MethodName)) ∈ lw_all := lw_g (lw_at lw_m10 135 rfl) rfl
theorem q2415 : (Jvm.Cond.selects "SpokenMarks$Scanner" ({ cls := "SpokenMarks$Scanner", name := "end", desc := "()V" } : Jvm.MethodName) ({ cls := "SpokenMarks$Scanner", name := "end", desc := "()V" } : Jvm.MethodName)) ∈ lw_all := lw_g (lw_at lw_m10 136 rfl) rfl
theorem q2416 : (Jvm.Cond.sameMethod "SpokenMarks$Scanner" "SpokenMarks$Scanner" "end" "()V") ∈ lw_all := lw_g (lw_at lw_m10 137 rfl) rfl
theorem q2419 : (Jvm.Cond.code ({ cls := "SpokenMarks$Scanner", name := "end", desc := "()V" } : Jvm.MethodName) prog_14_method_14_code (1 : Nat) (Option.none : Option Jvm.ClassFile.FieldType)) ∈ lw_all := lw_g (lw_at lw_m10 140 rfl) rfl
theorem q3386 : (Jvm.Cond.sameMethod "SpokenMarks$Scanner" "SpokenMarks$Scanner" "isBetween" "(III)Z") ∈ lw_all := lw_g (lw_at lw_m14 147 rfl) rfl
theorem q3387 : (Jvm.Cond.sameMethod "SpokenMarks$Scanner" "SpokenMarks$Scanner" "letters" "()Ljava/lang/String;") ∈ lw_all := lw_g (lw_at lw_m14 148 rfl) rfl
theorem q3389 : (Jvm.Cond.sameMethod "SpokenMarks$Scanner" "SpokenMarks$Scanner" "digits" "()I") ∈ lw_all := lw_g (lw_at lw_m14 150 rfl) rfl
theorem q3390 : (Jvm.Cond.sameMethod "SpokenMarks$Scanner" "SpokenMarks$Scanner" "check" "(ZI)V") ∈ lw_all := lw_g (lw_at lw_m14 151 rfl) rfl
theorem q3392 : (Jvm.Cond.selects "SpokenMarks$Scanner" ({ cls := "SpokenMarks$Scanner", name := "check", desc := "(ZI)V" } : Jvm.MethodName) ({ cls := "SpokenMarks$Scanner", name := "check", desc := "(ZI)V" } : Jvm.MethodName)) ∈ lw_all := lw_g (lw_at lw_m14 153 rfl) rfl
theorem q3394 : (Jvm.Cond.sameMethod "SpokenMarks$Scanner" "SpokenMarks$Scanner" "lookWord" "()Ljava/lang/String;") ∈ lw_all := lw_g (lw_at lw_m14 155 rfl) rfl
theorem q3396 : (Jvm.Cond.selects "SpokenMarks$Scanner" ({ cls := "SpokenMarks$Scanner", name := "lookWord", desc := "()Ljava/lang/String;" } : Jvm.MethodName) ({ cls := "SpokenMarks$Scanner", name := "lookWord", desc := "()Ljava/lang/String;" } : Jvm.MethodName)) ∈ lw_all := lw_g (lw_at lw_m14 157 rfl) rfl
theorem q3398 : (Jvm.Cond.sameMethod "SpokenMarks$Scanner" "SpokenMarks$Scanner" "symbol" "(I)V") ∈ lw_all := lw_g (lw_at lw_m14 159 rfl) rfl
theorem q3400 : (Jvm.Cond.selects "SpokenMarks$Scanner" ({ cls := "SpokenMarks$Scanner", name := "symbol", desc := "(I)V" } : Jvm.MethodName) ({ cls := "SpokenMarks$Scanner", name := "symbol", desc := "(I)V" } : Jvm.MethodName)) ∈ lw_all := lw_g (lw_at lw_m14 161 rfl) rfl
theorem q3402 : (Jvm.Cond.sameMethod "SpokenMarks$Scanner" "SpokenMarks$Scanner" "part" "(LSpokenMarks$Catalogue;)LSpokenMarks$Part;") ∈ lw_all := lw_g (lw_at lw_m14 163 rfl) rfl
theorem q3403 : (Jvm.Cond.sameMethod "SpokenMarks$Scanner" "SpokenMarks$Scanner" "number" "(II)I") ∈ lw_all := lw_g (lw_at lw_m14 164 rfl) rfl
theorem q3405 : (Jvm.Cond.selects "SpokenMarks$Scanner" ({ cls := "SpokenMarks$Scanner", name := "number", desc := "(II)I" } : Jvm.MethodName) ({ cls := "SpokenMarks$Scanner", name := "number", desc := "(II)I" } : Jvm.MethodName)) ∈ lw_all := lw_g (lw_at lw_m14 166 rfl) rfl
theorem q3407 : (Jvm.Cond.sameMethod "SpokenMarks$Scanner" "SpokenMarks$Scanner" "parts" "(LSpokenMarks$Catalogue;)Ljava/util/List;") ∈ lw_all := lw_g (lw_at lw_m14 168 rfl) rfl
theorem q3409 : (Jvm.Cond.selects "SpokenMarks$Scanner" ({ cls := "SpokenMarks$Scanner", name := "parts", desc := "(LSpokenMarks$Catalogue;)Ljava/util/List;" } : Jvm.MethodName) ({ cls := "SpokenMarks$Scanner", name := "parts", desc := "(LSpokenMarks$Catalogue;)Ljava/util/List;" } : Jvm.MethodName)) ∈ lw_all := lw_g (lw_at lw_m14 170 rfl) rfl
theorem q3411 : (Jvm.Cond.sameMethod "SpokenMarks$Scanner" "SpokenMarks$Scanner" "rule" "()LSpokenMarks$Rule;") ∈ lw_all := lw_g (lw_at lw_m14 172 rfl) rfl
theorem q3413 : (Jvm.Cond.selects "SpokenMarks$Scanner" ({ cls := "SpokenMarks$Scanner", name := "rule", desc := "()LSpokenMarks$Rule;" } : Jvm.MethodName) ({ cls := "SpokenMarks$Scanner", name := "rule", desc := "()LSpokenMarks$Rule;" } : Jvm.MethodName)) ∈ lw_all := lw_g (lw_at lw_m14 174 rfl) rfl
theorem q3459 : (Jvm.Cond.castable "SpokenMarks$Scanner" "java/lang/Object") ∈ lw_tbl := lw_at lw_m14 220 rfl
theorem in_X11 : ∀ w ∈ wsX110, w ∈ lw_all := lw_in wsX110 [2403, 2404, 2405, 2406, 2407, 2408, 2409] (by decide +kernel) (by decide +kernel)
/-! SpokenMarks$Reader -/
set_option maxRecDepth 100000
def RX12 : String := "SpokenMarks$Reader"
def TX12 : u_T := fun k => match k with
  | 0 => ("SpokenMarks$Scanner", "text", "[B", true)
  | 1 => ("SpokenMarks$Scanner", "end", "I", true)
  | 2 => ("SpokenMarks$Scanner", "begin", "I", false)
  | 3 => ("SpokenMarks$Scanner", "next", "I", false)
  | 4 => ("SpokenMarks$Scanner", "value", "I", false)
  | 5 => ("SpokenMarks$Scanner", "kind", "I", false)
  | _ => ("SpokenMarks$Scanner", "word", "Ljava/lang/String;", false)
def tyX12 : Nat → FieldType := fun k => match k with
  | 0 => .array .byte
  | 1 => .int
  | 2 => .int
  | 3 => .int
  | 4 => .int
  | 5 => .int
  | _ => .object "java/lang/String"
abbrev wsX120 : List Cond := u_ws RX12 TX12 7
theorem nmX12 : ∀ a, a < 7 → ∀ b, b < 7 → a ≠ b → (TX12 a).2.1 ≠ (TX12 b).2.1 := by decide +kernel
theorem tyX12_ok : ∀ k, k < 7 → parseFieldDescriptor (TX12 k).2.2.1 = some (tyX12 k) := by decide +kernel
abbrev cX12_init : ByteArray := prog_11_method_1_code
def yX12_init : MethodName := ⟨RX12, "<init>", "([BI)V"⟩
def dkwX12_init_0 : List UInt8 := [42, 43, 28, 183, 0, 3, 177]
abbrev dktX12_init_0 : List UInt8 := dkwX12_init_0 ++ []
theorem dksX12_init_0 : cX12_init.data.toList.drop 0 = dktX12_init_0 := by decide +kernel
theorem dX12_init_0 : decode cX12_init 0 = .ok (.aload_n 0, 1) := dk_42 (dk_at dksX12_init_0 0 rfl rfl)
theorem dX12_init_1 : decode cX12_init 1 = .ok (.aload_n 1, 1) := dk_43 (dk_at dksX12_init_0 1 rfl rfl)
theorem dX12_init_2 : decode cX12_init 2 = .ok (.iload_n 2, 1) := dk_28 (dk_at dksX12_init_0 2 rfl rfl)
theorem dX12_init_3 : decode cX12_init 3 = .ok (.invokespecial 3, 3) := dk_183 0 3 (dk_at dksX12_init_0 3 rfl rfl)
theorem dX12_init_6 : decode cX12_init 6 = .ok (.return_, 1) := dk_177 (dk_at dksX12_init_0 6 rfl rfl)
abbrev cX12_read : ByteArray := prog_11_method_2_code
def yX12_read : MethodName := ⟨RX12, "read", "()LSpokenMarks$Catalogue;"⟩
def dkwX12_read_6 : List UInt8 := [8, 182, 0, 23, 42, 182, 0, 27, 42, 44, 182, 0, 69, 167, 255, 202, 44, 176]
abbrev dktX12_read_6 : List UInt8 := dkwX12_read_6 ++ []
def dkwX12_read_5 : List UInt8 := [4, 182, 0, 23, 42, 44, 180, 0, 66, 185, 0, 50, 1, 0, 16, 40, 162, 0, 7, 4, 167, 0, 4, 3]
abbrev dktX12_read_5 : List UInt8 := dkwX12_read_5 ++ dktX12_read_6
def dkwX12_read_4 : List UInt8 := [44, 182, 0, 56, 167, 255, 211, 42, 180, 0, 60, 153, 0, 53, 42, 42, 180, 0, 9, 18, 64, 182, 0, 17]
abbrev dktX12_read_4 : List UInt8 := dkwX12_read_4 ++ dktX12_read_5
def dkwX12_read_3 : List UInt8 := [185, 0, 50, 1, 0, 16, 8, 162, 0, 7, 4, 167, 0, 4, 3, 8, 182, 0, 23, 42, 182, 0, 27, 42]
abbrev dktX12_read_3 : List UInt8 := dkwX12_read_3 ++ dktX12_read_4
def dkwX12_read_2 : List UInt8 := [182, 0, 40, 42, 180, 0, 9, 18, 44, 182, 0, 17, 153, 0, 39, 42, 44, 180, 0, 46]
abbrev dktX12_read_2 : List UInt8 := dkwX12_read_2 ++ dktX12_read_3
def dkwX12_read_1 : List UInt8 := [182, 0, 31, 60, 187, 0, 35, 89, 27, 42, 16, 10, 17, 3, 231, 182, 0, 31, 183, 0, 37, 77, 42, 6]
abbrev dktX12_read_1 : List UInt8 := dkwX12_read_1 ++ dktX12_read_2
def dkwX12_read_0 : List UInt8 := [42, 42, 180, 0, 9, 18, 15, 182, 0, 17, 4, 182, 0, 23, 42, 182, 0, 27, 42, 4, 16, 8]
abbrev dktX12_read_0 : List UInt8 := dkwX12_read_0 ++ dktX12_read_1
theorem dksX12_read_0 : cX12_read.data.toList.drop 0 = dktX12_read_0 := by decide +kernel
theorem dksX12_read_1 : cX12_read.data.toList.drop 22 = dktX12_read_1 := dk_seg dksX12_read_0 22 rfl rfl
theorem dksX12_read_2 : cX12_read.data.toList.drop 46 = dktX12_read_2 := dk_seg dksX12_read_1 24 rfl rfl
theorem dksX12_read_3 : cX12_read.data.toList.drop 66 = dktX12_read_3 := dk_seg dksX12_read_2 20 rfl rfl
theorem dksX12_read_4 : cX12_read.data.toList.drop 90 = dktX12_read_4 := dk_seg dksX12_read_3 24 rfl rfl
theorem dksX12_read_5 : cX12_read.data.toList.drop 114 = dktX12_read_5 := dk_seg dksX12_read_4 24 rfl rfl
theorem dksX12_read_6 : cX12_read.data.toList.drop 138 = dktX12_read_6 := dk_seg dksX12_read_5 24 rfl rfl
theorem dX12_read_0 : decode cX12_read 0 = .ok (.aload_n 0, 1) := dk_42 (dk_at dksX12_read_0 0 rfl rfl)
theorem dX12_read_1 : decode cX12_read 1 = .ok (.aload_n 0, 1) := dk_42 (dk_at dksX12_read_0 1 rfl rfl)
theorem dX12_read_2 : decode cX12_read 2 = .ok (.getfield 9, 3) := dk_180 0 9 (dk_at dksX12_read_0 2 rfl rfl)
theorem dX12_read_5 : decode cX12_read 5 = .ok (.ldc 15, 2) := dk_18 15 (dk_at dksX12_read_0 5 rfl rfl)
theorem dX12_read_7 : decode cX12_read 7 = .ok (.invokevirtual 17, 3) := dk_182 0 17 (dk_at dksX12_read_0 7 rfl rfl)
theorem dX12_read_10 : decode cX12_read 10 = .ok (.iconst 1, 1) := dk_4 (dk_at dksX12_read_0 10 rfl rfl)
theorem dX12_read_11 : decode cX12_read 11 = .ok (.invokevirtual 23, 3) := dk_182 0 23 (dk_at dksX12_read_0 11 rfl rfl)
theorem dX12_read_14 : decode cX12_read 14 = .ok (.aload_n 0, 1) := dk_42 (dk_at dksX12_read_0 14 rfl rfl)
theorem dX12_read_15 : decode cX12_read 15 = .ok (.invokevirtual 27, 3) := dk_182 0 27 (dk_at dksX12_read_0 15 rfl rfl)
theorem dX12_read_18 : decode cX12_read 18 = .ok (.aload_n 0, 1) := dk_42 (dk_at dksX12_read_0 18 rfl rfl)
theorem dX12_read_19 : decode cX12_read 19 = .ok (.iconst 1, 1) := dk_4 (dk_at dksX12_read_0 19 rfl rfl)
theorem dX12_read_20 : decode cX12_read 20 = .ok (.bipush 8, 2) := dk_16 8 (dk_at dksX12_read_0 20 rfl rfl)
theorem dX12_read_22 : decode cX12_read 22 = .ok (.invokevirtual 31, 3) := dk_182 0 31 (dk_at dksX12_read_1 0 rfl rfl)
theorem dX12_read_25 : decode cX12_read 25 = .ok (.istore_n 1, 1) := dk_60 (dk_at dksX12_read_1 3 rfl rfl)
theorem dX12_read_26 : decode cX12_read 26 = .ok (.new 35, 3) := dk_187 0 35 (dk_at dksX12_read_1 4 rfl rfl)
theorem dX12_read_29 : decode cX12_read 29 = .ok (.dup, 1) := dk_89 (dk_at dksX12_read_1 7 rfl rfl)
theorem dX12_read_30 : decode cX12_read 30 = .ok (.iload_n 1, 1) := dk_27 (dk_at dksX12_read_1 8 rfl rfl)
theorem dX12_read_31 : decode cX12_read 31 = .ok (.aload_n 0, 1) := dk_42 (dk_at dksX12_read_1 9 rfl rfl)
theorem dX12_read_32 : decode cX12_read 32 = .ok (.bipush 10, 2) := dk_16 10 (dk_at dksX12_read_1 10 rfl rfl)
theorem dX12_read_34 : decode cX12_read 34 = .ok (.sipush 999, 3) := dk_17 3 231 (dk_at dksX12_read_1 12 rfl rfl)
theorem dX12_read_37 : decode cX12_read 37 = .ok (.invokevirtual 31, 3) := dk_182 0 31 (dk_at dksX12_read_1 15 rfl rfl)
theorem dX12_read_40 : decode cX12_read 40 = .ok (.invokespecial 37, 3) := dk_183 0 37 (dk_at dksX12_read_1 18 rfl rfl)
theorem dX12_read_43 : decode cX12_read 43 = .ok (.astore_n 2, 1) := dk_77 (dk_at dksX12_read_1 21 rfl rfl)
theorem dX12_read_44 : decode cX12_read 44 = .ok (.aload_n 0, 1) := dk_42 (dk_at dksX12_read_1 22 rfl rfl)
theorem dX12_read_45 : decode cX12_read 45 = .ok (.iconst 3, 1) := dk_6 (dk_at dksX12_read_1 23 rfl rfl)
theorem dX12_read_46 : decode cX12_read 46 = .ok (.invokevirtual 40, 3) := dk_182 0 40 (dk_at dksX12_read_2 0 rfl rfl)
theorem dX12_read_49 : decode cX12_read 49 = .ok (.aload_n 0, 1) := dk_42 (dk_at dksX12_read_2 3 rfl rfl)
theorem dX12_read_50 : decode cX12_read 50 = .ok (.getfield 9, 3) := dk_180 0 9 (dk_at dksX12_read_2 4 rfl rfl)
theorem dX12_read_53 : decode cX12_read 53 = .ok (.ldc 44, 2) := dk_18 44 (dk_at dksX12_read_2 7 rfl rfl)
theorem dX12_read_55 : decode cX12_read 55 = .ok (.invokevirtual 17, 3) := dk_182 0 17 (dk_at dksX12_read_2 9 rfl rfl)
theorem dX12_read_58 : decode cX12_read 58 = .ok (.ifCond .eq 39, 3) := dk_153 0 39 (dk_at dksX12_read_2 12 rfl rfl)
theorem dX12_read_61 : decode cX12_read 61 = .ok (.aload_n 0, 1) := dk_42 (dk_at dksX12_read_2 15 rfl rfl)
theorem dX12_read_62 : decode cX12_read 62 = .ok (.aload_n 2, 1) := dk_44 (dk_at dksX12_read_2 16 rfl rfl)
theorem dX12_read_63 : decode cX12_read 63 = .ok (.getfield 46, 3) := dk_180 0 46 (dk_at dksX12_read_2 17 rfl rfl)
theorem dX12_read_66 : decode cX12_read 66 = .ok (.invokeinterface 50 1, 5) := by decide +kernel
theorem dX12_read_71 : decode cX12_read 71 = .ok (.bipush 8, 2) := dk_16 8 (dk_at dksX12_read_3 5 rfl rfl)
theorem dX12_read_73 : decode cX12_read 73 = .ok (.if_icmp .ge 7, 3) := dk_162 0 7 (dk_at dksX12_read_3 7 rfl rfl)
theorem dX12_read_76 : decode cX12_read 76 = .ok (.iconst 1, 1) := dk_4 (dk_at dksX12_read_3 10 rfl rfl)
theorem dX12_read_77 : decode cX12_read 77 = .ok (.goto 4, 3) := dk_167 0 4 (dk_at dksX12_read_3 11 rfl rfl)
theorem dX12_read_80 : decode cX12_read 80 = .ok (.iconst 0, 1) := dk_3 (dk_at dksX12_read_3 14 rfl rfl)
theorem dX12_read_81 : decode cX12_read 81 = .ok (.iconst 5, 1) := dk_8 (dk_at dksX12_read_3 15 rfl rfl)
theorem dX12_read_82 : decode cX12_read 82 = .ok (.invokevirtual 23, 3) := dk_182 0 23 (dk_at dksX12_read_3 16 rfl rfl)
theorem dX12_read_85 : decode cX12_read 85 = .ok (.aload_n 0, 1) := dk_42 (dk_at dksX12_read_3 19 rfl rfl)
theorem dX12_read_86 : decode cX12_read 86 = .ok (.invokevirtual 27, 3) := dk_182 0 27 (dk_at dksX12_read_3 20 rfl rfl)
theorem dX12_read_89 : decode cX12_read 89 = .ok (.aload_n 0, 1) := dk_42 (dk_at dksX12_read_3 23 rfl rfl)
theorem dX12_read_90 : decode cX12_read 90 = .ok (.aload_n 2, 1) := dk_44 (dk_at dksX12_read_4 0 rfl rfl)
theorem dX12_read_91 : decode cX12_read 91 = .ok (.invokevirtual 56, 3) := dk_182 0 56 (dk_at dksX12_read_4 1 rfl rfl)
theorem dX12_read_94 : decode cX12_read 94 = .ok (.goto (-45), 3) := dk_167 255 211 (dk_at dksX12_read_4 4 rfl rfl)
theorem dX12_read_97 : decode cX12_read 97 = .ok (.aload_n 0, 1) := dk_42 (dk_at dksX12_read_4 7 rfl rfl)
theorem dX12_read_98 : decode cX12_read 98 = .ok (.getfield 60, 3) := dk_180 0 60 (dk_at dksX12_read_4 8 rfl rfl)
theorem dX12_read_101 : decode cX12_read 101 = .ok (.ifCond .eq 53, 3) := dk_153 0 53 (dk_at dksX12_read_4 11 rfl rfl)
theorem dX12_read_104 : decode cX12_read 104 = .ok (.aload_n 0, 1) := dk_42 (dk_at dksX12_read_4 14 rfl rfl)
theorem dX12_read_105 : decode cX12_read 105 = .ok (.aload_n 0, 1) := dk_42 (dk_at dksX12_read_4 15 rfl rfl)
theorem dX12_read_106 : decode cX12_read 106 = .ok (.getfield 9, 3) := dk_180 0 9 (dk_at dksX12_read_4 16 rfl rfl)
theorem dX12_read_109 : decode cX12_read 109 = .ok (.ldc 64, 2) := dk_18 64 (dk_at dksX12_read_4 19 rfl rfl)
theorem dX12_read_111 : decode cX12_read 111 = .ok (.invokevirtual 17, 3) := dk_182 0 17 (dk_at dksX12_read_4 21 rfl rfl)
theorem dX12_read_114 : decode cX12_read 114 = .ok (.iconst 1, 1) := dk_4 (dk_at dksX12_read_5 0 rfl rfl)
theorem dX12_read_115 : decode cX12_read 115 = .ok (.invokevirtual 23, 3) := dk_182 0 23 (dk_at dksX12_read_5 1 rfl rfl)
theorem dX12_read_118 : decode cX12_read 118 = .ok (.aload_n 0, 1) := dk_42 (dk_at dksX12_read_5 4 rfl rfl)
theorem dX12_read_119 : decode cX12_read 119 = .ok (.aload_n 2, 1) := dk_44 (dk_at dksX12_read_5 5 rfl rfl)
theorem dX12_read_120 : decode cX12_read 120 = .ok (.getfield 66, 3) := dk_180 0 66 (dk_at dksX12_read_5 6 rfl rfl)
theorem dX12_read_123 : decode cX12_read 123 = .ok (.invokeinterface 50 1, 5) := by decide +kernel
theorem dX12_read_128 : decode cX12_read 128 = .ok (.bipush 40, 2) := dk_16 40 (dk_at dksX12_read_5 14 rfl rfl)
theorem dX12_read_130 : decode cX12_read 130 = .ok (.if_icmp .ge 7, 3) := dk_162 0 7 (dk_at dksX12_read_5 16 rfl rfl)
theorem dX12_read_133 : decode cX12_read 133 = .ok (.iconst 1, 1) := dk_4 (dk_at dksX12_read_5 19 rfl rfl)
theorem dX12_read_134 : decode cX12_read 134 = .ok (.goto 4, 3) := dk_167 0 4 (dk_at dksX12_read_5 20 rfl rfl)
theorem dX12_read_137 : decode cX12_read 137 = .ok (.iconst 0, 1) := dk_3 (dk_at dksX12_read_5 23 rfl rfl)
theorem dX12_read_138 : decode cX12_read 138 = .ok (.iconst 5, 1) := dk_8 (dk_at dksX12_read_6 0 rfl rfl)
theorem dX12_read_139 : decode cX12_read 139 = .ok (.invokevirtual 23, 3) := dk_182 0 23 (dk_at dksX12_read_6 1 rfl rfl)
theorem dX12_read_142 : decode cX12_read 142 = .ok (.aload_n 0, 1) := dk_42 (dk_at dksX12_read_6 4 rfl rfl)
theorem dX12_read_143 : decode cX12_read 143 = .ok (.invokevirtual 27, 3) := dk_182 0 27 (dk_at dksX12_read_6 5 rfl rfl)
theorem dX12_read_146 : decode cX12_read 146 = .ok (.aload_n 0, 1) := dk_42 (dk_at dksX12_read_6 8 rfl rfl)
theorem dX12_read_147 : decode cX12_read 147 = .ok (.aload_n 2, 1) := dk_44 (dk_at dksX12_read_6 9 rfl rfl)
theorem dX12_read_148 : decode cX12_read 148 = .ok (.invokevirtual 69, 3) := dk_182 0 69 (dk_at dksX12_read_6 10 rfl rfl)
theorem dX12_read_151 : decode cX12_read 151 = .ok (.goto (-54), 3) := dk_167 255 202 (dk_at dksX12_read_6 13 rfl rfl)
theorem dX12_read_154 : decode cX12_read 154 = .ok (.aload_n 2, 1) := dk_44 (dk_at dksX12_read_6 16 rfl rfl)
theorem dX12_read_155 : decode cX12_read 155 = .ok (.areturn, 1) := dk_176 (dk_at dksX12_read_6 17 rfl rfl)
abbrev cX12_readRule : ByteArray := prog_11_method_3_code
def yX12_readRule : MethodName := ⟨RX12, "readRule", "(LSpokenMarks$Catalogue;)V"⟩
def dkwX12_readRule_1 : List UInt8 := [182, 0, 80, 182, 0, 84, 61, 42, 6, 182, 0, 40, 177]
abbrev dktX12_readRule_1 : List UInt8 := dkwX12_readRule_1 ++ []
def dkwX12_readRule_0 : List UInt8 := [42, 43, 42, 182, 0, 72, 182, 0, 76, 2, 160, 0, 7, 4, 167, 0, 4, 3, 7, 182, 0, 23, 43, 42]
abbrev dktX12_readRule_0 : List UInt8 := dkwX12_readRule_0 ++ dktX12_readRule_1
theorem dksX12_readRule_0 : cX12_readRule.data.toList.drop 0 = dktX12_readRule_0 := by decide +kernel
theorem dksX12_readRule_1 : cX12_readRule.data.toList.drop 24 = dktX12_readRule_1 := dk_seg dksX12_readRule_0 24 rfl rfl
theorem dX12_readRule_0 : decode cX12_readRule 0 = .ok (.aload_n 0, 1) := dk_42 (dk_at dksX12_readRule_0 0 rfl rfl)
theorem dX12_readRule_1 : decode cX12_readRule 1 = .ok (.aload_n 1, 1) := dk_43 (dk_at dksX12_readRule_0 1 rfl rfl)
theorem dX12_readRule_2 : decode cX12_readRule 2 = .ok (.aload_n 0, 1) := dk_42 (dk_at dksX12_readRule_0 2 rfl rfl)
theorem dX12_readRule_3 : decode cX12_readRule 3 = .ok (.invokevirtual 72, 3) := dk_182 0 72 (dk_at dksX12_readRule_0 3 rfl rfl)
theorem dX12_readRule_6 : decode cX12_readRule 6 = .ok (.invokevirtual 76, 3) := dk_182 0 76 (dk_at dksX12_readRule_0 6 rfl rfl)
theorem dX12_readRule_9 : decode cX12_readRule 9 = .ok (.iconst (-1), 1) := dk_2 (dk_at dksX12_readRule_0 9 rfl rfl)
theorem dX12_readRule_10 : decode cX12_readRule 10 = .ok (.if_icmp .ne 7, 3) := dk_160 0 7 (dk_at dksX12_readRule_0 10 rfl rfl)
theorem dX12_readRule_13 : decode cX12_readRule 13 = .ok (.iconst 1, 1) := dk_4 (dk_at dksX12_readRule_0 13 rfl rfl)
theorem dX12_readRule_14 : decode cX12_readRule 14 = .ok (.goto 4, 3) := dk_167 0 4 (dk_at dksX12_readRule_0 14 rfl rfl)
theorem dX12_readRule_17 : decode cX12_readRule 17 = .ok (.iconst 0, 1) := dk_3 (dk_at dksX12_readRule_0 17 rfl rfl)
theorem dX12_readRule_18 : decode cX12_readRule 18 = .ok (.iconst 4, 1) := dk_7 (dk_at dksX12_readRule_0 18 rfl rfl)
theorem dX12_readRule_19 : decode cX12_readRule 19 = .ok (.invokevirtual 23, 3) := dk_182 0 23 (dk_at dksX12_readRule_0 19 rfl rfl)
theorem dX12_readRule_22 : decode cX12_readRule 22 = .ok (.aload_n 1, 1) := dk_43 (dk_at dksX12_readRule_0 22 rfl rfl)
theorem dX12_readRule_23 : decode cX12_readRule 23 = .ok (.aload_n 0, 1) := dk_42 (dk_at dksX12_readRule_0 23 rfl rfl)
theorem dX12_readRule_24 : decode cX12_readRule 24 = .ok (.invokevirtual 80, 3) := dk_182 0 80 (dk_at dksX12_readRule_1 0 rfl rfl)
theorem dX12_readRule_27 : decode cX12_readRule 27 = .ok (.invokevirtual 84, 3) := dk_182 0 84 (dk_at dksX12_readRule_1 3 rfl rfl)
theorem dX12_readRule_30 : decode cX12_readRule 30 = .ok (.istore_n 2, 1) := dk_61 (dk_at dksX12_readRule_1 6 rfl rfl)
theorem dX12_readRule_31 : decode cX12_readRule 31 = .ok (.aload_n 0, 1) := dk_42 (dk_at dksX12_readRule_1 7 rfl rfl)
theorem dX12_readRule_32 : decode cX12_readRule 32 = .ok (.iconst 3, 1) := dk_6 (dk_at dksX12_readRule_1 8 rfl rfl)
theorem dX12_readRule_33 : decode cX12_readRule 33 = .ok (.invokevirtual 40, 3) := dk_182 0 40 (dk_at dksX12_readRule_1 9 rfl rfl)
theorem dX12_readRule_36 : decode cX12_readRule 36 = .ok (.return_, 1) := dk_177 (dk_at dksX12_readRule_1 12 rfl rfl)
abbrev cX12_readMark : ByteArray := prog_11_method_4_code
def yX12_readMark : MethodName := ⟨RX12, "readMark", "(LSpokenMarks$Catalogue;)V"⟩
def dkwX12_readMark_3 : List UInt8 := [182, 0, 100, 54, 4, 177]
abbrev dktX12_readMark_3 : List UInt8 := dkwX12_readMark_3 ++ []
def dkwX12_readMark_2 : List UInt8 := [7, 182, 0, 23, 42, 182, 0, 27, 42, 4, 16, 20, 182, 0, 31, 62, 42, 6, 182, 0, 40, 43, 44, 29]
abbrev dktX12_readMark_2 : List UInt8 := dkwX12_readMark_2 ++ dktX12_readMark_3
def dkwX12_readMark_1 : List UInt8 := [42, 43, 187, 0, 91, 89, 3, 44, 4, 3, 183, 0, 93, 182, 0, 96, 154, 0, 7, 4, 167, 0, 4, 3]
abbrev dktX12_readMark_1 : List UInt8 := dkwX12_readMark_1 ++ dktX12_readMark_2
def dkwX12_readMark_0 : List UInt8 := [42, 43, 182, 0, 87, 77, 42, 42, 180, 0, 60, 7, 160, 0, 7, 4, 167, 0, 4, 3, 4, 182, 0, 23]
abbrev dktX12_readMark_0 : List UInt8 := dkwX12_readMark_0 ++ dktX12_readMark_1
theorem dksX12_readMark_0 : cX12_readMark.data.toList.drop 0 = dktX12_readMark_0 := by decide +kernel
theorem dksX12_readMark_1 : cX12_readMark.data.toList.drop 24 = dktX12_readMark_1 := dk_seg dksX12_readMark_0 24 rfl rfl
theorem dksX12_readMark_2 : cX12_readMark.data.toList.drop 48 = dktX12_readMark_2 := dk_seg dksX12_readMark_1 24 rfl rfl
theorem dksX12_readMark_3 : cX12_readMark.data.toList.drop 72 = dktX12_readMark_3 := dk_seg dksX12_readMark_2 24 rfl rfl
theorem dX12_readMark_0 : decode cX12_readMark 0 = .ok (.aload_n 0, 1) := dk_42 (dk_at dksX12_readMark_0 0 rfl rfl)
theorem dX12_readMark_1 : decode cX12_readMark 1 = .ok (.aload_n 1, 1) := dk_43 (dk_at dksX12_readMark_0 1 rfl rfl)
theorem dX12_readMark_2 : decode cX12_readMark 2 = .ok (.invokevirtual 87, 3) := dk_182 0 87 (dk_at dksX12_readMark_0 2 rfl rfl)
theorem dX12_readMark_5 : decode cX12_readMark 5 = .ok (.astore_n 2, 1) := dk_77 (dk_at dksX12_readMark_0 5 rfl rfl)
theorem dX12_readMark_6 : decode cX12_readMark 6 = .ok (.aload_n 0, 1) := dk_42 (dk_at dksX12_readMark_0 6 rfl rfl)
theorem dX12_readMark_7 : decode cX12_readMark 7 = .ok (.aload_n 0, 1) := dk_42 (dk_at dksX12_readMark_0 7 rfl rfl)
theorem dX12_readMark_8 : decode cX12_readMark 8 = .ok (.getfield 60, 3) := dk_180 0 60 (dk_at dksX12_readMark_0 8 rfl rfl)
theorem dX12_readMark_11 : decode cX12_readMark 11 = .ok (.iconst 4, 1) := dk_7 (dk_at dksX12_readMark_0 11 rfl rfl)
theorem dX12_readMark_12 : decode cX12_readMark 12 = .ok (.if_icmp .ne 7, 3) := dk_160 0 7 (dk_at dksX12_readMark_0 12 rfl rfl)
theorem dX12_readMark_15 : decode cX12_readMark 15 = .ok (.iconst 1, 1) := dk_4 (dk_at dksX12_readMark_0 15 rfl rfl)
theorem dX12_readMark_16 : decode cX12_readMark 16 = .ok (.goto 4, 3) := dk_167 0 4 (dk_at dksX12_readMark_0 16 rfl rfl)
theorem dX12_readMark_19 : decode cX12_readMark 19 = .ok (.iconst 0, 1) := dk_3 (dk_at dksX12_readMark_0 19 rfl rfl)
theorem dX12_readMark_20 : decode cX12_readMark 20 = .ok (.iconst 1, 1) := dk_4 (dk_at dksX12_readMark_0 20 rfl rfl)
theorem dX12_readMark_21 : decode cX12_readMark 21 = .ok (.invokevirtual 23, 3) := dk_182 0 23 (dk_at dksX12_readMark_0 21 rfl rfl)
theorem dX12_readMark_24 : decode cX12_readMark 24 = .ok (.aload_n 0, 1) := dk_42 (dk_at dksX12_readMark_1 0 rfl rfl)
theorem dX12_readMark_25 : decode cX12_readMark 25 = .ok (.aload_n 1, 1) := dk_43 (dk_at dksX12_readMark_1 1 rfl rfl)
theorem dX12_readMark_26 : decode cX12_readMark 26 = .ok (.new 91, 3) := dk_187 0 91 (dk_at dksX12_readMark_1 2 rfl rfl)
theorem dX12_readMark_29 : decode cX12_readMark 29 = .ok (.dup, 1) := dk_89 (dk_at dksX12_readMark_1 5 rfl rfl)
theorem dX12_readMark_30 : decode cX12_readMark 30 = .ok (.iconst 0, 1) := dk_3 (dk_at dksX12_readMark_1 6 rfl rfl)
theorem dX12_readMark_31 : decode cX12_readMark 31 = .ok (.aload_n 2, 1) := dk_44 (dk_at dksX12_readMark_1 7 rfl rfl)
theorem dX12_readMark_32 : decode cX12_readMark 32 = .ok (.iconst 1, 1) := dk_4 (dk_at dksX12_readMark_1 8 rfl rfl)
theorem dX12_readMark_33 : decode cX12_readMark 33 = .ok (.iconst 0, 1) := dk_3 (dk_at dksX12_readMark_1 9 rfl rfl)
theorem dX12_readMark_34 : decode cX12_readMark 34 = .ok (.invokespecial 93, 3) := dk_183 0 93 (dk_at dksX12_readMark_1 10 rfl rfl)
theorem dX12_readMark_37 : decode cX12_readMark 37 = .ok (.invokevirtual 96, 3) := dk_182 0 96 (dk_at dksX12_readMark_1 13 rfl rfl)
theorem dX12_readMark_40 : decode cX12_readMark 40 = .ok (.ifCond .ne 7, 3) := dk_154 0 7 (dk_at dksX12_readMark_1 16 rfl rfl)
theorem dX12_readMark_43 : decode cX12_readMark 43 = .ok (.iconst 1, 1) := dk_4 (dk_at dksX12_readMark_1 19 rfl rfl)
theorem dX12_readMark_44 : decode cX12_readMark 44 = .ok (.goto 4, 3) := dk_167 0 4 (dk_at dksX12_readMark_1 20 rfl rfl)
theorem dX12_readMark_47 : decode cX12_readMark 47 = .ok (.iconst 0, 1) := dk_3 (dk_at dksX12_readMark_1 23 rfl rfl)
theorem dX12_readMark_48 : decode cX12_readMark 48 = .ok (.iconst 4, 1) := dk_7 (dk_at dksX12_readMark_2 0 rfl rfl)
theorem dX12_readMark_49 : decode cX12_readMark 49 = .ok (.invokevirtual 23, 3) := dk_182 0 23 (dk_at dksX12_readMark_2 1 rfl rfl)
theorem dX12_readMark_52 : decode cX12_readMark 52 = .ok (.aload_n 0, 1) := dk_42 (dk_at dksX12_readMark_2 4 rfl rfl)
theorem dX12_readMark_53 : decode cX12_readMark 53 = .ok (.invokevirtual 27, 3) := dk_182 0 27 (dk_at dksX12_readMark_2 5 rfl rfl)
theorem dX12_readMark_56 : decode cX12_readMark 56 = .ok (.aload_n 0, 1) := dk_42 (dk_at dksX12_readMark_2 8 rfl rfl)
theorem dX12_readMark_57 : decode cX12_readMark 57 = .ok (.iconst 1, 1) := dk_4 (dk_at dksX12_readMark_2 9 rfl rfl)
theorem dX12_readMark_58 : decode cX12_readMark 58 = .ok (.bipush 20, 2) := dk_16 20 (dk_at dksX12_readMark_2 10 rfl rfl)
theorem dX12_readMark_60 : decode cX12_readMark 60 = .ok (.invokevirtual 31, 3) := dk_182 0 31 (dk_at dksX12_readMark_2 12 rfl rfl)
theorem dX12_readMark_63 : decode cX12_readMark 63 = .ok (.istore_n 3, 1) := dk_62 (dk_at dksX12_readMark_2 15 rfl rfl)
theorem dX12_readMark_64 : decode cX12_readMark 64 = .ok (.aload_n 0, 1) := dk_42 (dk_at dksX12_readMark_2 16 rfl rfl)
theorem dX12_readMark_65 : decode cX12_readMark 65 = .ok (.iconst 3, 1) := dk_6 (dk_at dksX12_readMark_2 17 rfl rfl)
theorem dX12_readMark_66 : decode cX12_readMark 66 = .ok (.invokevirtual 40, 3) := dk_182 0 40 (dk_at dksX12_readMark_2 18 rfl rfl)
theorem dX12_readMark_69 : decode cX12_readMark 69 = .ok (.aload_n 1, 1) := dk_43 (dk_at dksX12_readMark_2 21 rfl rfl)
theorem dX12_readMark_70 : decode cX12_readMark 70 = .ok (.aload_n 2, 1) := dk_44 (dk_at dksX12_readMark_2 22 rfl rfl)
theorem dX12_readMark_71 : decode cX12_readMark 71 = .ok (.iload_n 3, 1) := dk_29 (dk_at dksX12_readMark_2 23 rfl rfl)
theorem dX12_readMark_72 : decode cX12_readMark 72 = .ok (.invokevirtual 100, 3) := dk_182 0 100 (dk_at dksX12_readMark_3 0 rfl rfl)
theorem dX12_readMark_75 : decode cX12_readMark 75 = .ok (.istore 4, 2) := dk_54 4 (dk_at dksX12_readMark_3 3 rfl rfl)
theorem dX12_readMark_77 : decode cX12_readMark 77 = .ok (.return_, 1) := dk_177 (dk_at dksX12_readMark_3 5 rfl rfl)
theorem q163 : (Jvm.Cond.initialized "SpokenMarks$Reader") ∈ lw_all := lw_g (lw_at lw_m1 44 rfl) rfl
theorem q601 : (Jvm.Cond.fieldLinkNest "SpokenMarks$Reader" (66 : Nat) "SpokenMarks$Catalogue" "marks" "Ljava/util/List;" "SpokenMarks") ∈ lw_tbl := lw_at lw_m3 2 rfl
theorem q606 : (Jvm.Cond.fieldLinkNest "SpokenMarks$Reader" (46 : Nat) "SpokenMarks$Catalogue" "rules" "Ljava/util/List;" "SpokenMarks") ∈ lw_tbl := lw_at lw_m3 7 rfl
theorem q699 : (Jvm.Cond.selects "SpokenMarks$Reader" ({ cls := "java/lang/Object", name := "getClass", desc := "()Ljava/lang/Class;" } : Jvm.MethodName) ({ cls := "java/lang/Object", name := "getClass", desc := "()Ljava/lang/Class;" } : Jvm.MethodName)) ∈ lw_all := lw_g (lw_at lw_m3 100 rfl) rfl
theorem q759 : (Jvm.Cond.selects "SpokenMarks$Reader" ({ cls := "java/lang/Object", name := "hashCode", desc := "()I" } : Jvm.MethodName) ({ cls := "java/lang/Object", name := "hashCode", desc := "()I" } : Jvm.MethodName)) ∈ lw_all := lw_g (lw_at lw_m3 160 rfl) rfl
theorem q1166 : (Jvm.Cond.selects "SpokenMarks$Reader" ({ cls := "java/lang/Object", name := "equals", desc := "(Ljava/lang/Object;)Z" } : Jvm.MethodName) ({ cls := "java/lang/Object", name := "equals", desc := "(Ljava/lang/Object;)Z" } : Jvm.MethodName)) ∈ lw_all := lw_g (lw_at lw_m5 87 rfl) rfl
theorem q2054 : (Jvm.Cond.instantiable "SpokenMarks$Reader" (7 : Nat)) ∈ lw_all := lw_g (lw_at lw_m9 15 rfl) rfl
theorem q2056 : (Jvm.Cond.instanceMethod ({ cls := "SpokenMarks$Reader", name := "<init>", desc := "([BI)V" } : Jvm.MethodName)) ∈ lw_all := lw_g (lw_at lw_m9 17 rfl) rfl
theorem q2057 : (Jvm.Cond.code ({ cls := "SpokenMarks$Reader", name := "<init>", desc := "([BI)V" } : Jvm.MethodName) prog_11_method_1_code (3 : Nat) (Option.none : Option Jvm.ClassFile.FieldType)) ∈ lw_all := lw_g (lw_at lw_m9 18 rfl) rfl
theorem q2058 : (Jvm.Cond.methodLink "SpokenMarks$Reader" (3 : Nat) ({ cls := "SpokenMarks$Scanner", name := "<init>", desc := "([BI)V" } : Jvm.MethodName)) ∈ lw_all := lw_g (lw_at lw_m9 19 rfl) rfl
theorem q2067 : (Jvm.Cond.selects "SpokenMarks$Reader" ({ cls := "SpokenMarks$Scanner", name := "advance", desc := "()V" } : Jvm.MethodName) ({ cls := "SpokenMarks$Scanner", name := "advance", desc := "()V" } : Jvm.MethodName)) ∈ lw_all := lw_g (lw_at lw_m9 28 rfl) rfl
theorem q2097 : (Jvm.Cond.fieldLink "SpokenMarks$Reader" (60 : Nat) "SpokenMarks$Reader" "kind" "I") ∈ lw_all := lw_g (lw_at lw_m9 58 rfl) rfl
theorem q2098 : (Jvm.Cond.sameField "SpokenMarks$Reader" "SpokenMarks$Scanner" "kind" "I") ∈ lw_all := lw_g (lw_at lw_m9 59 rfl) rfl
theorem q2101 : (Jvm.Cond.fieldLink "SpokenMarks$Reader" (9 : Nat) "SpokenMarks$Reader" "word" "Ljava/lang/String;") ∈ lw_all := lw_g (lw_at lw_m9 62 rfl) rfl
theorem q2102 : (Jvm.Cond.sameField "SpokenMarks$Reader" "SpokenMarks$Scanner" "word" "Ljava/lang/String;") ∈ lw_all := lw_g (lw_at lw_m9 63 rfl) rfl
theorem q2105 : (Jvm.Cond.laysFinal "SpokenMarks$Reader" "SpokenMarks$Scanner" "text" "[B") ∈ lw_all := lw_g (lw_at lw_m9 66 rfl) rfl
theorem q2107 : (Jvm.Cond.laysFinal "SpokenMarks$Reader" "SpokenMarks$Scanner" "end" "I") ∈ lw_all := lw_g (lw_at lw_m9 68 rfl) rfl
theorem q2109 : (Jvm.Cond.lays "SpokenMarks$Reader" "SpokenMarks$Scanner" "begin" "I") ∈ lw_all := lw_g (lw_at lw_m9 70 rfl) rfl
theorem q2111 : (Jvm.Cond.lays "SpokenMarks$Reader" "SpokenMarks$Scanner" "next" "I") ∈ lw_all := lw_g (lw_at lw_m9 72 rfl) rfl
theorem q2113 : (Jvm.Cond.lays "SpokenMarks$Reader" "SpokenMarks$Scanner" "value" "I") ∈ lw_all := lw_g (lw_at lw_m9 74 rfl) rfl
theorem q2115 : (Jvm.Cond.lays "SpokenMarks$Reader" "SpokenMarks$Scanner" "kind" "I") ∈ lw_all := lw_g (lw_at lw_m9 76 rfl) rfl
theorem q2117 : (Jvm.Cond.lays "SpokenMarks$Reader" "SpokenMarks$Scanner" "word" "Ljava/lang/String;") ∈ lw_all := lw_g (lw_at lw_m9 78 rfl) rfl
theorem q2119 : (Jvm.Cond.superclass "SpokenMarks$Reader" "SpokenMarks$Scanner") ∈ lw_all := lw_g (lw_at lw_m9 80 rfl) rfl
theorem q2121 : (Jvm.Cond.instanceMethod ({ cls := "SpokenMarks$Reader", name := "read", desc := "()LSpokenMarks$Catalogue;" } : Jvm.MethodName)) ∈ lw_all := lw_g (lw_at lw_m9 82 rfl) rfl
theorem q2122 : (Jvm.Cond.selects "SpokenMarks$Reader" ({ cls := "SpokenMarks$Reader", name := "read", desc := "()LSpokenMarks$Catalogue;" } : Jvm.MethodName) ({ cls := "SpokenMarks$Reader", name := "read", desc := "()LSpokenMarks$Catalogue;" } : Jvm.MethodName)) ∈ lw_all := lw_g (lw_at lw_m9 83 rfl) rfl
theorem q2123 : (Jvm.Cond.code ({ cls := "SpokenMarks$Reader", name := "read", desc := "()LSpokenMarks$Catalogue;" } : Jvm.MethodName) prog_11_method_2_code (3 : Nat) (Option.some (Jvm.ClassFile.FieldType.object "SpokenMarks$Catalogue"))) ∈ lw_all := lw_g (lw_at lw_m9 84 rfl) rfl
theorem q2124 : (Jvm.Cond.stringRef "SpokenMarks$Reader" (15 : Nat) "shelves") ∈ lw_tbl := lw_at lw_m9 85 rfl
theorem q2125 : (Jvm.Cond.methodLink "SpokenMarks$Reader" (17 : Nat) ({ cls := "java/lang/String", name := "equals", desc := "(Ljava/lang/Object;)Z" } : Jvm.MethodName)) ∈ lw_all := lw_g (lw_at lw_m9 86 rfl) rfl
theorem q2126 : (Jvm.Cond.methodLink "SpokenMarks$Reader" (23 : Nat) ({ cls := "SpokenMarks$Reader", name := "check", desc := "(ZI)V" } : Jvm.MethodName)) ∈ lw_all := lw_g (lw_at lw_m9 87 rfl) rfl
theorem q2127 : (Jvm.Cond.sameMethod "SpokenMarks$Reader" "SpokenMarks$Scanner" "check" "(ZI)V") ∈ lw_all := lw_g (lw_at lw_m9 88 rfl) rfl
theorem q2129 : (Jvm.Cond.selects "SpokenMarks$Reader" ({ cls := "SpokenMarks$Reader", name := "check", desc := "(ZI)V" } : Jvm.MethodName) ({ cls := "SpokenMarks$Scanner", name := "check", desc := "(ZI)V" } : Jvm.MethodName)) ∈ lw_all := lw_g (lw_at lw_m9 90 rfl) rfl
theorem q2160 : (Jvm.Cond.methodLink "SpokenMarks$Reader" (27 : Nat) ({ cls := "SpokenMarks$Reader", name := "advance", desc := "()V" } : Jvm.MethodName)) ∈ lw_all := lw_g (lw_at lw_m9 121 rfl) rfl
theorem q2161 : (Jvm.Cond.sameMethod "SpokenMarks$Reader" "SpokenMarks$Scanner" "advance" "()V") ∈ lw_all := lw_g (lw_at lw_m9 122 rfl) rfl
theorem q2163 : (Jvm.Cond.selects "SpokenMarks$Reader" ({ cls := "SpokenMarks$Reader", name := "advance", desc := "()V" } : Jvm.MethodName) ({ cls := "SpokenMarks$Scanner", name := "advance", desc := "()V" } : Jvm.MethodName)) ∈ lw_all := lw_g (lw_at lw_m9 124 rfl) rfl
theorem q2164 : (Jvm.Cond.methodLink "SpokenMarks$Reader" (31 : Nat) ({ cls := "SpokenMarks$Reader", name := "number", desc := "(II)I" } : Jvm.MethodName)) ∈ lw_all := lw_g (lw_at lw_m9 125 rfl) rfl
theorem q2165 : (Jvm.Cond.sameMethod "SpokenMarks$Reader" "SpokenMarks$Scanner" "number" "(II)I") ∈ lw_all := lw_g (lw_at lw_m9 126 rfl) rfl
theorem q2167 : (Jvm.Cond.selects "SpokenMarks$Reader" ({ cls := "SpokenMarks$Reader", name := "number", desc := "(II)I" } : Jvm.MethodName) ({ cls := "SpokenMarks$Scanner", name := "number", desc := "(II)I" } : Jvm.MethodName)) ∈ lw_all := lw_g (lw_at lw_m9 128 rfl) rfl
theorem q2172 : (Jvm.Cond.classLink "SpokenMarks$Reader" (35 : Nat) "SpokenMarks$Catalogue") ∈ lw_all := lw_g (lw_at lw_m9 133 rfl) rfl
theorem q2173 : (Jvm.Cond.methodLink "SpokenMarks$Reader" (37 : Nat) ({ cls := "SpokenMarks$Catalogue", name := "<init>", desc := "(II)V" } : Jvm.MethodName)) ∈ lw_all := lw_g (lw_at lw_m9 134 rfl) rfl
theorem q2174 : (Jvm.Cond.methodLink "SpokenMarks$Reader" (40 : Nat) ({ cls := "SpokenMarks$Reader", name := "symbol", desc := "(I)V" } : Jvm.MethodName)) ∈ lw_all := lw_g (lw_at lw_m9 135 rfl) rfl
theorem q2175 : (Jvm.Cond.sameMethod "SpokenMarks$Reader" "SpokenMarks$Scanner" "symbol" "(I)V") ∈ lw_all := lw_g (lw_at lw_m9 136 rfl) rfl
theorem q2177 : (Jvm.Cond.selects "SpokenMarks$Reader" ({ cls := "SpokenMarks$Reader", name := "symbol", desc := "(I)V" } : Jvm.MethodName) ({ cls := "SpokenMarks$Scanner", name := "symbol", desc := "(I)V" } : Jvm.MethodName)) ∈ lw_all := lw_g (lw_at lw_m9 138 rfl) rfl
theorem q2180 : (Jvm.Cond.stringRef "SpokenMarks$Reader" (44 : Nat) "say") ∈ lw_tbl := lw_at lw_m9 141 rfl
theorem q2181 : (Jvm.Cond.interfaceEntry "SpokenMarks$Reader" (50 : Nat)) ∈ lw_tbl := lw_at lw_m9 142 rfl
theorem q2182 : (Jvm.Cond.methodLink "SpokenMarks$Reader" (50 : Nat) ({ cls := "java/util/List", name := "size", desc := "()I" } : Jvm.MethodName)) ∈ lw_all := lw_g (lw_at lw_m9 143 rfl) rfl
theorem q2183 : (Jvm.Cond.methodLink "SpokenMarks$Reader" (56 : Nat) ({ cls := "SpokenMarks$Reader", name := "readRule", desc := "(LSpokenMarks$Catalogue;)V" } : Jvm.MethodName)) ∈ lw_all := lw_g (lw_at lw_m9 144 rfl) rfl
theorem q2184 : (Jvm.Cond.privateMethod ({ cls := "SpokenMarks$Reader", name := "readRule", desc := "(LSpokenMarks$Catalogue;)V" } : Jvm.MethodName)) ∈ lw_tbl := lw_at lw_m9 145 rfl
theorem q2185 : (Jvm.Cond.instanceMethod ({ cls := "SpokenMarks$Reader", name := "readRule", desc := "(LSpokenMarks$Catalogue;)V" } : Jvm.MethodName)) ∈ lw_all := lw_g (lw_at lw_m9 146 rfl) rfl
theorem q2186 : (Jvm.Cond.code ({ cls := "SpokenMarks$Reader", name := "readRule", desc := "(LSpokenMarks$Catalogue;)V" } : Jvm.MethodName) prog_11_method_3_code (3 : Nat) (Option.none : Option Jvm.ClassFile.FieldType)) ∈ lw_all := lw_g (lw_at lw_m9 147 rfl) rfl
theorem q2187 : (Jvm.Cond.methodLink "SpokenMarks$Reader" (72 : Nat) ({ cls := "SpokenMarks$Reader", name := "lookWord", desc := "()Ljava/lang/String;" } : Jvm.MethodName)) ∈ lw_all := lw_g (lw_at lw_m9 148 rfl) rfl
theorem q2188 : (Jvm.Cond.sameMethod "SpokenMarks$Reader" "SpokenMarks$Scanner" "lookWord" "()Ljava/lang/String;") ∈ lw_all := lw_g (lw_at lw_m9 149 rfl) rfl
theorem q2190 : (Jvm.Cond.selects "SpokenMarks$Reader" ({ cls := "SpokenMarks$Reader", name := "lookWord", desc := "()Ljava/lang/String;" } : Jvm.MethodName) ({ cls := "SpokenMarks$Scanner", name := "lookWord", desc := "()Ljava/lang/String;" } : Jvm.MethodName)) ∈ lw_all := lw_g (lw_at lw_m9 151 rfl) rfl
theorem q2194 : (Jvm.Cond.methodLink "SpokenMarks$Reader" (76 : Nat) ({ cls := "SpokenMarks$Catalogue", name := "ruleFor", desc := "(Ljava/lang/String;)I" } : Jvm.MethodName)) ∈ lw_all := lw_g (lw_at lw_m9 155 rfl) rfl
theorem q2195 : (Jvm.Cond.methodLink "SpokenMarks$Reader" (80 : Nat) ({ cls := "SpokenMarks$Reader", name := "rule", desc := "()LSpokenMarks$Rule;" } : Jvm.MethodName)) ∈ lw_all := lw_g (lw_at lw_m9 156 rfl) rfl
theorem q2196 : (Jvm.Cond.sameMethod "SpokenMarks$Reader" "SpokenMarks$Scanner" "rule" "()LSpokenMarks$Rule;") ∈ lw_all := lw_g (lw_at lw_m9 157 rfl) rfl
theorem q2198 : (Jvm.Cond.selects "SpokenMarks$Reader" ({ cls := "SpokenMarks$Reader", name := "rule", desc := "()LSpokenMarks$Rule;" } : Jvm.MethodName) ({ cls := "SpokenMarks$Scanner", name := "rule", desc := "()LSpokenMarks$Rule;" } : Jvm.MethodName)) ∈ lw_all := lw_g (lw_at lw_m9 159 rfl) rfl
theorem q2205 : (Jvm.Cond.selects "SpokenMarks$Reader" ({ cls := "SpokenMarks$Scanner", name := "word", desc := "()Ljava/lang/String;" } : Jvm.MethodName) ({ cls := "SpokenMarks$Scanner", name := "word", desc := "()Ljava/lang/String;" } : Jvm.MethodName)) ∈ lw_all := lw_g (lw_at lw_m9 166 rfl) rfl
theorem q2212 : (Jvm.Cond.methodLink "SpokenMarks$Reader" (84 : Nat) ({ cls := "SpokenMarks$Catalogue", name := "say", desc := "(LSpokenMarks$Rule;)I" } : Jvm.MethodName)) ∈ lw_all := lw_g (lw_at lw_m9 173 rfl) rfl
theorem q2213 : (Jvm.Cond.stringRef "SpokenMarks$Reader" (64 : Nat) "mark") ∈ lw_tbl := lw_at lw_m9 174 rfl
theorem q2214 : (Jvm.Cond.methodLink "SpokenMarks$Reader" (69 : Nat) ({ cls := "SpokenMarks$Reader", name := "readMark", desc := "(LSpokenMarks$Catalogue;)V" } : Jvm.MethodName)) ∈ lw_all := lw_g (lw_at lw_m9 175 rfl) rfl
theorem q2215 : (Jvm.Cond.privateMethod ({ cls := "SpokenMarks$Reader", name := "readMark", desc := "(LSpokenMarks$Catalogue;)V" } : Jvm.MethodName)) ∈ lw_tbl := lw_at lw_m9 176 rfl
theorem q2216 : (Jvm.Cond.instanceMethod ({ cls := "SpokenMarks$Reader", name := "readMark", desc := "(LSpokenMarks$Catalogue;)V" } : Jvm.MethodName)) ∈ lw_all := lw_g (lw_at lw_m9 177 rfl) rfl
theorem q2217 : (Jvm.Cond.code ({ cls := "SpokenMarks$Reader", name := "readMark", desc := "(LSpokenMarks$Catalogue;)V" } : Jvm.MethodName) prog_11_method_4_code (5 : Nat) (Option.none : Option Jvm.ClassFile.FieldType)) ∈ lw_all := lw_g (lw_at lw_m9 178 rfl) rfl
theorem q2218 : (Jvm.Cond.methodLink "SpokenMarks$Reader" (87 : Nat) ({ cls := "SpokenMarks$Reader", name := "parts", desc := "(LSpokenMarks$Catalogue;)Ljava/util/List;" } : Jvm.MethodName)) ∈ lw_all := lw_g (lw_at lw_m9 179 rfl) rfl
theorem q2219 : (Jvm.Cond.sameMethod "SpokenMarks$Reader" "SpokenMarks$Scanner" "parts" "(LSpokenMarks$Catalogue;)Ljava/util/List;") ∈ lw_all := lw_g (lw_at lw_m9 180 rfl) rfl
theorem q2221 : (Jvm.Cond.selects "SpokenMarks$Reader" ({ cls := "SpokenMarks$Reader", name := "parts", desc := "(LSpokenMarks$Catalogue;)Ljava/util/List;" } : Jvm.MethodName) ({ cls := "SpokenMarks$Scanner", name := "parts", desc := "(LSpokenMarks$Catalogue;)Ljava/util/List;" } : Jvm.MethodName)) ∈ lw_all := lw_g (lw_at lw_m9 182 rfl) rfl
theorem q2239 : (Jvm.Cond.classLink "SpokenMarks$Reader" (91 : Nat) "SpokenMarks$Mark") ∈ lw_all := lw_g (lw_at lw_m9 200 rfl) rfl
theorem q2240 : (Jvm.Cond.methodLink "SpokenMarks$Reader" (93 : Nat) ({ cls := "SpokenMarks$Mark", name := "<init>", desc := "(ILjava/util/List;II)V" } : Jvm.MethodName)) ∈ lw_all := lw_g (lw_at lw_m9 201 rfl) rfl
theorem q2241 : (Jvm.Cond.methodLink "SpokenMarks$Reader" (96 : Nat) ({ cls := "SpokenMarks$Catalogue", name := "isThere", desc := "(LSpokenMarks$Mark;)Z" } : Jvm.MethodName)) ∈ lw_all := lw_g (lw_at lw_m9 202 rfl) rfl
theorem q2242 : (Jvm.Cond.methodLink "SpokenMarks$Reader" (100 : Nat) ({ cls := "SpokenMarks$Catalogue", name := "add", desc := "(Ljava/util/List;I)I" } : Jvm.MethodName)) ∈ lw_all := lw_g (lw_at lw_m9 203 rfl) rfl
theorem q2417 : (Jvm.Cond.selects "SpokenMarks$Reader" ({ cls := "SpokenMarks$Scanner", name := "end", desc := "()V" } : Jvm.MethodName) ({ cls := "SpokenMarks$Scanner", name := "end", desc := "()V" } : Jvm.MethodName)) ∈ lw_all := lw_g (lw_at lw_m10 138 rfl) rfl
theorem q3391 : (Jvm.Cond.selects "SpokenMarks$Reader" ({ cls := "SpokenMarks$Scanner", name := "check", desc := "(ZI)V" } : Jvm.MethodName) ({ cls := "SpokenMarks$Scanner", name := "check", desc := "(ZI)V" } : Jvm.MethodName)) ∈ lw_all := lw_g (lw_at lw_m14 152 rfl) rfl
theorem q3395 : (Jvm.Cond.selects "SpokenMarks$Reader" ({ cls := "SpokenMarks$Scanner", name := "lookWord", desc := "()Ljava/lang/String;" } : Jvm.MethodName) ({ cls := "SpokenMarks$Scanner", name := "lookWord", desc := "()Ljava/lang/String;" } : Jvm.MethodName)) ∈ lw_all := lw_g (lw_at lw_m14 156 rfl) rfl
theorem q3399 : (Jvm.Cond.selects "SpokenMarks$Reader" ({ cls := "SpokenMarks$Scanner", name := "symbol", desc := "(I)V" } : Jvm.MethodName) ({ cls := "SpokenMarks$Scanner", name := "symbol", desc := "(I)V" } : Jvm.MethodName)) ∈ lw_all := lw_g (lw_at lw_m14 160 rfl) rfl
theorem q3404 : (Jvm.Cond.selects "SpokenMarks$Reader" ({ cls := "SpokenMarks$Scanner", name := "number", desc := "(II)I" } : Jvm.MethodName) ({ cls := "SpokenMarks$Scanner", name := "number", desc := "(II)I" } : Jvm.MethodName)) ∈ lw_all := lw_g (lw_at lw_m14 165 rfl) rfl
theorem q3408 : (Jvm.Cond.selects "SpokenMarks$Reader" ({ cls := "SpokenMarks$Scanner", name := "parts", desc := "(LSpokenMarks$Catalogue;)Ljava/util/List;" } : Jvm.MethodName) ({ cls := "SpokenMarks$Scanner", name := "parts", desc := "(LSpokenMarks$Catalogue;)Ljava/util/List;" } : Jvm.MethodName)) ∈ lw_all := lw_g (lw_at lw_m14 169 rfl) rfl
theorem q3412 : (Jvm.Cond.selects "SpokenMarks$Reader" ({ cls := "SpokenMarks$Scanner", name := "rule", desc := "()LSpokenMarks$Rule;" } : Jvm.MethodName) ({ cls := "SpokenMarks$Scanner", name := "rule", desc := "()LSpokenMarks$Rule;" } : Jvm.MethodName)) ∈ lw_all := lw_g (lw_at lw_m14 173 rfl) rfl
theorem q3457 : (Jvm.Cond.castable "SpokenMarks$Reader" "java/lang/Object") ∈ lw_tbl := lw_at lw_m14 218 rfl
theorem in_X12 : ∀ w ∈ wsX120, w ∈ lw_all := lw_in wsX120 [2105, 2107, 2109, 2111, 2113, 2115, 2117] (by decide +kernel) (by decide +kernel)
/-! SpokenMarks$TextException -/
set_option maxRecDepth 100000
def RX13 : String := "SpokenMarks$TextException"
def TX13 : u_T := fun k => match k with
  | 0 => ("java/lang/Throwable", "cause", "Ljava/lang/Throwable;", false)
  | 1 => ("java/lang/Throwable", "stackTrace", "[Ljava/lang/StackTraceElement;", false)
  | 2 => ("java/lang/Throwable", "suppressedExceptions", "Ljava/util/List;", false)
  | 3 => ("java/lang/Throwable", "detailMessage", "Ljava/lang/String;", false)
  | 4 => ("java/lang/Throwable", "backtrace", "Ljava/lang/Object;", false)
  | 5 => ("java/lang/Throwable", "depth", "I", false)
  | 6 => ("SpokenMarks$TextException", "place", "I", true)
  | _ => ("SpokenMarks$TextException", "code", "I", true)
def tyX13 : Nat → FieldType := fun k => match k with
  | 0 => .object "java/lang/Throwable"
  | 1 => .array (.object "java/lang/StackTraceElement")
  | 2 => .object "java/util/List"
  | 3 => .object "java/lang/String"
  | 4 => .object "java/lang/Object"
  | 5 => .int
  | 6 => .int
  | _ => .int
abbrev wsX130 : List Cond := u_ws RX13 TX13 8
theorem nmX13 : ∀ a, a < 8 → ∀ b, b < 8 → a ≠ b → (TX13 a).2.1 ≠ (TX13 b).2.1 := by decide +kernel
theorem tyX13_ok : ∀ k, k < 8 → parseFieldDescriptor (TX13 k).2.2.1 = some (tyX13 k) := by decide +kernel
abbrev cX13_init : ByteArray := prog_23_method_1_code
def yX13_init : MethodName := ⟨RX13, "<init>", "(II)V"⟩
def dkwX13_init_0 : List UInt8 := [42, 1, 1, 3, 3, 183, 0, 1, 42, 27, 181, 0, 7, 42, 28, 181, 0, 13, 177]
abbrev dktX13_init_0 : List UInt8 := dkwX13_init_0 ++ []
theorem dksX13_init_0 : cX13_init.data.toList.drop 0 = dktX13_init_0 := by decide +kernel
theorem dX13_init_0 : decode cX13_init 0 = .ok (.aload_n 0, 1) := dk_42 (dk_at dksX13_init_0 0 rfl rfl)
theorem dX13_init_1 : decode cX13_init 1 = .ok (.aconst_null, 1) := dk_1 (dk_at dksX13_init_0 1 rfl rfl)
theorem dX13_init_2 : decode cX13_init 2 = .ok (.aconst_null, 1) := dk_1 (dk_at dksX13_init_0 2 rfl rfl)
theorem dX13_init_3 : decode cX13_init 3 = .ok (.iconst 0, 1) := dk_3 (dk_at dksX13_init_0 3 rfl rfl)
theorem dX13_init_4 : decode cX13_init 4 = .ok (.iconst 0, 1) := dk_3 (dk_at dksX13_init_0 4 rfl rfl)
theorem dX13_init_5 : decode cX13_init 5 = .ok (.invokespecial 1, 3) := dk_183 0 1 (dk_at dksX13_init_0 5 rfl rfl)
theorem dX13_init_8 : decode cX13_init 8 = .ok (.aload_n 0, 1) := dk_42 (dk_at dksX13_init_0 8 rfl rfl)
theorem dX13_init_9 : decode cX13_init 9 = .ok (.iload_n 1, 1) := dk_27 (dk_at dksX13_init_0 9 rfl rfl)
theorem dX13_init_10 : decode cX13_init 10 = .ok (.putfield 7, 3) := dk_181 0 7 (dk_at dksX13_init_0 10 rfl rfl)
theorem dX13_init_13 : decode cX13_init 13 = .ok (.aload_n 0, 1) := dk_42 (dk_at dksX13_init_0 13 rfl rfl)
theorem dX13_init_14 : decode cX13_init 14 = .ok (.iload_n 2, 1) := dk_28 (dk_at dksX13_init_0 14 rfl rfl)
theorem dX13_init_15 : decode cX13_init 15 = .ok (.putfield 13, 3) := dk_181 0 13 (dk_at dksX13_init_0 15 rfl rfl)
theorem dX13_init_18 : decode cX13_init 18 = .ok (.return_, 1) := dk_177 (dk_at dksX13_init_0 18 rfl rfl)
theorem q164 : (Jvm.Cond.initialized "SpokenMarks$TextException") ∈ lw_all := lw_g (lw_at lw_m1 45 rfl) rfl
theorem q255 : (Jvm.Cond.selects "SpokenMarks$TextException" ({ cls := "java/lang/Throwable", name := "fillInStackTrace", desc := "()Ljava/lang/Throwable;" } : Jvm.MethodName) ({ cls := "java/lang/Throwable", name := "fillInStackTrace", desc := "()Ljava/lang/Throwable;" } : Jvm.MethodName)) ∈ lw_all := lw_g (lw_at lw_m1 136 rfl) rfl
theorem q710 : (Jvm.Cond.selects "SpokenMarks$TextException" ({ cls := "java/lang/Object", name := "getClass", desc := "()Ljava/lang/Class;" } : Jvm.MethodName) ({ cls := "java/lang/Object", name := "getClass", desc := "()Ljava/lang/Class;" } : Jvm.MethodName)) ∈ lw_all := lw_g (lw_at lw_m3 111 rfl) rfl
theorem q775 : (Jvm.Cond.selects "SpokenMarks$TextException" ({ cls := "java/lang/Object", name := "hashCode", desc := "()I" } : Jvm.MethodName) ({ cls := "java/lang/Object", name := "hashCode", desc := "()I" } : Jvm.MethodName)) ∈ lw_all := lw_g (lw_at lw_m3 176 rfl) rfl
theorem q1179 : (Jvm.Cond.selects "SpokenMarks$TextException" ({ cls := "java/lang/Object", name := "equals", desc := "(Ljava/lang/Object;)Z" } : Jvm.MethodName) ({ cls := "java/lang/Object", name := "equals", desc := "(Ljava/lang/Object;)Z" } : Jvm.MethodName)) ∈ lw_all := lw_g (lw_at lw_m5 100 rfl) rfl
theorem q2133 : (Jvm.Cond.instantiable "SpokenMarks$TextException" (8 : Nat)) ∈ lw_all := lw_g (lw_at lw_m9 94 rfl) rfl
theorem q2134 : (Jvm.Cond.castable "SpokenMarks$TextException" "SpokenMarks$TextException") ∈ lw_tbl := lw_at lw_m9 95 rfl
theorem q2135 : (Jvm.Cond.selects "SpokenMarks$TextException" ({ cls := "java/lang/Throwable", name := "fillInStackTrace", desc := "(I)Ljava/lang/Throwable;" } : Jvm.MethodName) ({ cls := "java/lang/Throwable", name := "fillInStackTrace", desc := "(I)Ljava/lang/Throwable;" } : Jvm.MethodName)) ∈ lw_all := lw_g (lw_at lw_m9 96 rfl) rfl
theorem q2136 : (Jvm.Cond.lays "SpokenMarks$TextException" "java/lang/Throwable" "cause" "Ljava/lang/Throwable;") ∈ lw_all := lw_g (lw_at lw_m9 97 rfl) rfl
theorem q2137 : (Jvm.Cond.lays "SpokenMarks$TextException" "java/lang/Throwable" "stackTrace" "[Ljava/lang/StackTraceElement;") ∈ lw_all := lw_g (lw_at lw_m9 98 rfl) rfl
theorem q2138 : (Jvm.Cond.lays "SpokenMarks$TextException" "java/lang/Throwable" "suppressedExceptions" "Ljava/util/List;") ∈ lw_all := lw_g (lw_at lw_m9 99 rfl) rfl
theorem q2139 : (Jvm.Cond.lays "SpokenMarks$TextException" "java/lang/Throwable" "detailMessage" "Ljava/lang/String;") ∈ lw_all := lw_g (lw_at lw_m9 100 rfl) rfl
theorem q2140 : (Jvm.Cond.lays "SpokenMarks$TextException" "java/lang/Throwable" "backtrace" "Ljava/lang/Object;") ∈ lw_all := lw_g (lw_at lw_m9 101 rfl) rfl
theorem q2142 : (Jvm.Cond.instanceMethod ({ cls := "SpokenMarks$TextException", name := "<init>", desc := "(II)V" } : Jvm.MethodName)) ∈ lw_all := lw_g (lw_at lw_m9 103 rfl) rfl
theorem q2143 : (Jvm.Cond.code ({ cls := "SpokenMarks$TextException", name := "<init>", desc := "(II)V" } : Jvm.MethodName) prog_23_method_1_code (3 : Nat) (Option.none : Option Jvm.ClassFile.FieldType)) ∈ lw_all := lw_g (lw_at lw_m9 104 rfl) rfl
theorem q2144 : (Jvm.Cond.methodLink "SpokenMarks$TextException" (1 : Nat) ({ cls := "java/lang/Exception", name := "<init>", desc := "(Ljava/lang/String;Ljava/lang/Throwable;ZZ)V" } : Jvm.MethodName)) ∈ lw_all := lw_g (lw_at lw_m9 105 rfl) rfl
theorem q2150 : (Jvm.Cond.fieldLink "SpokenMarks$TextException" (7 : Nat) "SpokenMarks$TextException" "place" "I") ∈ lw_all := lw_g (lw_at lw_m9 111 rfl) rfl
theorem q2152 : (Jvm.Cond.fieldLink "SpokenMarks$TextException" (13 : Nat) "SpokenMarks$TextException" "code" "I") ∈ lw_all := lw_g (lw_at lw_m9 113 rfl) rfl
theorem q2154 : (Jvm.Cond.laysFinal "SpokenMarks$TextException" "SpokenMarks$TextException" "place" "I") ∈ lw_all := lw_g (lw_at lw_m9 115 rfl) rfl
theorem q2155 : (Jvm.Cond.soleField "SpokenMarks$TextException" "place") ∈ lw_all := lw_g (lw_at lw_m9 116 rfl) rfl
theorem q2156 : (Jvm.Cond.laysFinal "SpokenMarks$TextException" "SpokenMarks$TextException" "code" "I") ∈ lw_all := lw_g (lw_at lw_m9 117 rfl) rfl
theorem q2157 : (Jvm.Cond.soleField "SpokenMarks$TextException" "code") ∈ lw_all := lw_g (lw_at lw_m9 118 rfl) rfl
theorem q2158 : (Jvm.Cond.lays "SpokenMarks$TextException" "java/lang/Throwable" "depth" "I") ∈ lw_all := lw_g (lw_at lw_m9 119 rfl) rfl
theorem q2159 : (Jvm.Cond.superclass "SpokenMarks$TextException" "java/lang/Exception") ∈ lw_all := lw_g (lw_at lw_m9 120 rfl) rfl
theorem q3458 : (Jvm.Cond.castable "SpokenMarks$TextException" "java/lang/Object") ∈ lw_tbl := lw_at lw_m14 219 rfl
theorem in_X13 : ∀ w ∈ wsX130, w ∈ lw_all := lw_in wsX130 [2136, 2137, 2138, 2139, 2140, 2158, 2154, 2156] (by decide +kernel) (by decide +kernel)
/-! SpokenMarks$Spoken -/
set_option maxRecDepth 100000
def RX3 : String := "SpokenMarks$Spoken"
abbrev cX3_init : ByteArray := prog_16_method_1_code
def yX3_init : MethodName := ⟨RX3, "<init>", "()V"⟩
theorem dX3_init_0 : decode cX3_init 0 = .ok (.aload_n 0, 1) := by decide +kernel
theorem dX3_init_1 : decode cX3_init 1 = .ok (.invokespecial 3, 3) := by decide +kernel
theorem dX3_init_4 : decode cX3_init 4 = .ok (.return_, 1) := by decide +kernel
abbrev cX3_compare : ByteArray := prog_16_method_5_code
def yX3_compare : MethodName := ⟨RX3, "compare", "(Ljava/lang/Object;Ljava/lang/Object;)I"⟩
def dkwX3_compare_0 : List UInt8 := [42, 43, 192, 0, 16, 44, 192, 0, 16, 182, 0, 42, 172]
abbrev dktX3_compare_0 : List UInt8 := dkwX3_compare_0 ++ []
theorem dksX3_compare_0 : cX3_compare.data.toList.drop 0 = dktX3_compare_0 := by decide +kernel
theorem dX3_compare_0 : decode cX3_compare 0 = .ok (.aload_n 0, 1) := dk_42 (dk_at dksX3_compare_0 0 rfl rfl)
theorem dX3_compare_1 : decode cX3_compare 1 = .ok (.aload_n 1, 1) := dk_43 (dk_at dksX3_compare_0 1 rfl rfl)
theorem dX3_compare_2 : decode cX3_compare 2 = .ok (.checkcast 16, 3) := dk_192 0 16 (dk_at dksX3_compare_0 2 rfl rfl)
theorem dX3_compare_5 : decode cX3_compare 5 = .ok (.aload_n 2, 1) := dk_44 (dk_at dksX3_compare_0 5 rfl rfl)
theorem dX3_compare_6 : decode cX3_compare 6 = .ok (.checkcast 16, 3) := dk_192 0 16 (dk_at dksX3_compare_0 6 rfl rfl)
theorem dX3_compare_9 : decode cX3_compare 9 = .ok (.invokevirtual 42, 3) := dk_182 0 42 (dk_at dksX3_compare_0 9 rfl rfl)
theorem dX3_compare_12 : decode cX3_compare 12 = .ok (.ireturn, 1) := dk_172 (dk_at dksX3_compare_0 12 rfl rfl)
abbrev cX3_compare_2 : ByteArray := prog_16_method_2_code
def yX3_compare_2 : MethodName := ⟨RX3, "compare", "(LSpokenMarks$Mark;LSpokenMarks$Mark;)I"⟩
def dkwX3_compare_2_0 : List UInt8 := [43, 44, 4, 184, 0, 9, 62, 29, 153, 0, 7, 29, 167, 0, 9, 43, 44, 3, 184, 0, 9, 172]
abbrev dktX3_compare_2_0 : List UInt8 := dkwX3_compare_2_0 ++ []
theorem dksX3_compare_2_0 : cX3_compare_2.data.toList.drop 0 = dktX3_compare_2_0 := by decide +kernel
theorem dX3_compare_2_0 : decode cX3_compare_2 0 = .ok (.aload_n 1, 1) := dk_43 (dk_at dksX3_compare_2_0 0 rfl rfl)
theorem dX3_compare_2_1 : decode cX3_compare_2 1 = .ok (.aload_n 2, 1) := dk_44 (dk_at dksX3_compare_2_0 1 rfl rfl)
theorem dX3_compare_2_2 : decode cX3_compare_2 2 = .ok (.iconst 1, 1) := dk_4 (dk_at dksX3_compare_2_0 2 rfl rfl)
theorem dX3_compare_2_3 : decode cX3_compare_2 3 = .ok (.invokestatic 9, 3) := dk_184 0 9 (dk_at dksX3_compare_2_0 3 rfl rfl)
theorem dX3_compare_2_6 : decode cX3_compare_2 6 = .ok (.istore_n 3, 1) := dk_62 (dk_at dksX3_compare_2_0 6 rfl rfl)
theorem dX3_compare_2_7 : decode cX3_compare_2 7 = .ok (.iload_n 3, 1) := dk_29 (dk_at dksX3_compare_2_0 7 rfl rfl)
theorem dX3_compare_2_8 : decode cX3_compare_2 8 = .ok (.ifCond .eq 7, 3) := dk_153 0 7 (dk_at dksX3_compare_2_0 8 rfl rfl)
theorem dX3_compare_2_11 : decode cX3_compare_2 11 = .ok (.iload_n 3, 1) := dk_29 (dk_at dksX3_compare_2_0 11 rfl rfl)
theorem dX3_compare_2_12 : decode cX3_compare_2 12 = .ok (.goto 9, 3) := dk_167 0 9 (dk_at dksX3_compare_2_0 12 rfl rfl)
theorem dX3_compare_2_15 : decode cX3_compare_2 15 = .ok (.aload_n 1, 1) := dk_43 (dk_at dksX3_compare_2_0 15 rfl rfl)
theorem dX3_compare_2_16 : decode cX3_compare_2 16 = .ok (.aload_n 2, 1) := dk_44 (dk_at dksX3_compare_2_0 16 rfl rfl)
theorem dX3_compare_2_17 : decode cX3_compare_2 17 = .ok (.iconst 0, 1) := dk_3 (dk_at dksX3_compare_2_0 17 rfl rfl)
theorem dX3_compare_2_18 : decode cX3_compare_2 18 = .ok (.invokestatic 9, 3) := dk_184 0 9 (dk_at dksX3_compare_2_0 18 rfl rfl)
theorem dX3_compare_2_21 : decode cX3_compare_2 21 = .ok (.ireturn, 1) := dk_172 (dk_at dksX3_compare_2_0 21 rfl rfl)
abbrev cX3_compare_3 : ByteArray := prog_16_method_3_code
def yX3_compare_3 : MethodName := ⟨RX3, "compare", "(LSpokenMarks$Mark;LSpokenMarks$Mark;Z)I"⟩
def dkwX3_compare_3_4 : List UInt8 := [185, 0, 21, 1, 0, 100, 172]
abbrev dktX3_compare_3_4 : List UInt8 := dkwX3_compare_3_4 ++ []
def dkwX3_compare_3_3 : List UInt8 := [21, 5, 172, 132, 4, 1, 167, 255, 205, 42, 180, 0, 15, 185, 0, 21, 1, 0, 43, 180, 0, 15]
abbrev dktX3_compare_3_3 : List UInt8 := dkwX3_compare_3_3 ++ dktX3_compare_3_4
def dkwX3_compare_3_2 : List UInt8 := [180, 0, 15, 21, 4, 185, 0, 33, 2, 0, 192, 0, 37, 28, 184, 0, 39, 54, 5, 21, 5, 153, 0, 6]
abbrev dktX3_compare_3_2 : List UInt8 := dkwX3_compare_3_2 ++ dktX3_compare_3_3
def dkwX3_compare_3_1 : List UInt8 := [54, 4, 21, 4, 29, 162, 0, 51, 42, 180, 0, 15, 21, 4, 185, 0, 33, 2, 0, 192, 0, 37, 43]
abbrev dktX3_compare_3_1 : List UInt8 := dkwX3_compare_3_1 ++ dktX3_compare_3_2
def dkwX3_compare_3_0 : List UInt8 := [42, 180, 0, 15, 185, 0, 21, 1, 0, 43, 180, 0, 15, 185, 0, 21, 1, 0, 184, 0, 27, 62, 3]
abbrev dktX3_compare_3_0 : List UInt8 := dkwX3_compare_3_0 ++ dktX3_compare_3_1
theorem dksX3_compare_3_0 : cX3_compare_3.data.toList.drop 0 = dktX3_compare_3_0 := by decide +kernel
theorem dksX3_compare_3_1 : cX3_compare_3.data.toList.drop 23 = dktX3_compare_3_1 := dk_seg dksX3_compare_3_0 23 rfl rfl
theorem dksX3_compare_3_2 : cX3_compare_3.data.toList.drop 46 = dktX3_compare_3_2 := dk_seg dksX3_compare_3_1 23 rfl rfl
theorem dksX3_compare_3_3 : cX3_compare_3.data.toList.drop 70 = dktX3_compare_3_3 := dk_seg dksX3_compare_3_2 24 rfl rfl
theorem dksX3_compare_3_4 : cX3_compare_3.data.toList.drop 92 = dktX3_compare_3_4 := dk_seg dksX3_compare_3_3 22 rfl rfl
theorem dX3_compare_3_0 : decode cX3_compare_3 0 = .ok (.aload_n 0, 1) := dk_42 (dk_at dksX3_compare_3_0 0 rfl rfl)
theorem dX3_compare_3_1 : decode cX3_compare_3 1 = .ok (.getfield 15, 3) := dk_180 0 15 (dk_at dksX3_compare_3_0 1 rfl rfl)
theorem dX3_compare_3_4 : decode cX3_compare_3 4 = .ok (.invokeinterface 21 1, 5) := by decide +kernel
theorem dX3_compare_3_9 : decode cX3_compare_3 9 = .ok (.aload_n 1, 1) := dk_43 (dk_at dksX3_compare_3_0 9 rfl rfl)
theorem dX3_compare_3_10 : decode cX3_compare_3 10 = .ok (.getfield 15, 3) := dk_180 0 15 (dk_at dksX3_compare_3_0 10 rfl rfl)
theorem dX3_compare_3_13 : decode cX3_compare_3 13 = .ok (.invokeinterface 21 1, 5) := by decide +kernel
theorem dX3_compare_3_18 : decode cX3_compare_3 18 = .ok (.invokestatic 27, 3) := dk_184 0 27 (dk_at dksX3_compare_3_0 18 rfl rfl)
theorem dX3_compare_3_21 : decode cX3_compare_3 21 = .ok (.istore_n 3, 1) := dk_62 (dk_at dksX3_compare_3_0 21 rfl rfl)
theorem dX3_compare_3_22 : decode cX3_compare_3 22 = .ok (.iconst 0, 1) := dk_3 (dk_at dksX3_compare_3_0 22 rfl rfl)
theorem dX3_compare_3_23 : decode cX3_compare_3 23 = .ok (.istore 4, 2) := dk_54 4 (dk_at dksX3_compare_3_1 0 rfl rfl)
theorem dX3_compare_3_25 : decode cX3_compare_3 25 = .ok (.iload 4, 2) := dk_21 4 (dk_at dksX3_compare_3_1 2 rfl rfl)
theorem dX3_compare_3_27 : decode cX3_compare_3 27 = .ok (.iload_n 3, 1) := dk_29 (dk_at dksX3_compare_3_1 4 rfl rfl)
theorem dX3_compare_3_28 : decode cX3_compare_3 28 = .ok (.if_icmp .ge 51, 3) := dk_162 0 51 (dk_at dksX3_compare_3_1 5 rfl rfl)
theorem dX3_compare_3_31 : decode cX3_compare_3 31 = .ok (.aload_n 0, 1) := dk_42 (dk_at dksX3_compare_3_1 8 rfl rfl)
theorem dX3_compare_3_32 : decode cX3_compare_3 32 = .ok (.getfield 15, 3) := dk_180 0 15 (dk_at dksX3_compare_3_1 9 rfl rfl)
theorem dX3_compare_3_35 : decode cX3_compare_3 35 = .ok (.iload 4, 2) := dk_21 4 (dk_at dksX3_compare_3_1 12 rfl rfl)
theorem dX3_compare_3_37 : decode cX3_compare_3 37 = .ok (.invokeinterface 33 2, 5) := by decide +kernel
theorem dX3_compare_3_42 : decode cX3_compare_3 42 = .ok (.checkcast 37, 3) := dk_192 0 37 (dk_at dksX3_compare_3_1 19 rfl rfl)
theorem dX3_compare_3_45 : decode cX3_compare_3 45 = .ok (.aload_n 1, 1) := dk_43 (dk_at dksX3_compare_3_1 22 rfl rfl)
theorem dX3_compare_3_46 : decode cX3_compare_3 46 = .ok (.getfield 15, 3) := dk_180 0 15 (dk_at dksX3_compare_3_2 0 rfl rfl)
theorem dX3_compare_3_49 : decode cX3_compare_3 49 = .ok (.iload 4, 2) := dk_21 4 (dk_at dksX3_compare_3_2 3 rfl rfl)
theorem dX3_compare_3_51 : decode cX3_compare_3 51 = .ok (.invokeinterface 33 2, 5) := by decide +kernel
theorem dX3_compare_3_56 : decode cX3_compare_3 56 = .ok (.checkcast 37, 3) := dk_192 0 37 (dk_at dksX3_compare_3_2 10 rfl rfl)
theorem dX3_compare_3_59 : decode cX3_compare_3 59 = .ok (.iload_n 2, 1) := dk_28 (dk_at dksX3_compare_3_2 13 rfl rfl)
theorem dX3_compare_3_60 : decode cX3_compare_3 60 = .ok (.invokestatic 39, 3) := dk_184 0 39 (dk_at dksX3_compare_3_2 14 rfl rfl)
theorem dX3_compare_3_63 : decode cX3_compare_3 63 = .ok (.istore 5, 2) := dk_54 5 (dk_at dksX3_compare_3_2 17 rfl rfl)
theorem dX3_compare_3_65 : decode cX3_compare_3 65 = .ok (.iload 5, 2) := dk_21 5 (dk_at dksX3_compare_3_2 19 rfl rfl)
theorem dX3_compare_3_67 : decode cX3_compare_3 67 = .ok (.ifCond .eq 6, 3) := dk_153 0 6 (dk_at dksX3_compare_3_2 21 rfl rfl)
theorem dX3_compare_3_70 : decode cX3_compare_3 70 = .ok (.iload 5, 2) := dk_21 5 (dk_at dksX3_compare_3_3 0 rfl rfl)
theorem dX3_compare_3_72 : decode cX3_compare_3 72 = .ok (.ireturn, 1) := dk_172 (dk_at dksX3_compare_3_3 2 rfl rfl)
theorem dX3_compare_3_73 : decode cX3_compare_3 73 = .ok (.iinc 4 1, 3) := dk_132 4 1 (dk_at dksX3_compare_3_3 3 rfl rfl)
theorem dX3_compare_3_76 : decode cX3_compare_3 76 = .ok (.goto (-51), 3) := dk_167 255 205 (dk_at dksX3_compare_3_3 6 rfl rfl)
theorem dX3_compare_3_79 : decode cX3_compare_3 79 = .ok (.aload_n 0, 1) := dk_42 (dk_at dksX3_compare_3_3 9 rfl rfl)
theorem dX3_compare_3_80 : decode cX3_compare_3 80 = .ok (.getfield 15, 3) := dk_180 0 15 (dk_at dksX3_compare_3_3 10 rfl rfl)
theorem dX3_compare_3_83 : decode cX3_compare_3 83 = .ok (.invokeinterface 21 1, 5) := by decide +kernel
theorem dX3_compare_3_88 : decode cX3_compare_3 88 = .ok (.aload_n 1, 1) := dk_43 (dk_at dksX3_compare_3_3 18 rfl rfl)
theorem dX3_compare_3_89 : decode cX3_compare_3 89 = .ok (.getfield 15, 3) := dk_180 0 15 (dk_at dksX3_compare_3_3 19 rfl rfl)
theorem dX3_compare_3_92 : decode cX3_compare_3 92 = .ok (.invokeinterface 21 1, 5) := by decide +kernel
theorem dX3_compare_3_97 : decode cX3_compare_3 97 = .ok (.isub, 1) := dk_100 (dk_at dksX3_compare_3_4 5 rfl rfl)
theorem dX3_compare_3_98 : decode cX3_compare_3 98 = .ok (.ireturn, 1) := dk_172 (dk_at dksX3_compare_3_4 6 rfl rfl)
abbrev cX3_differ : ByteArray := prog_16_method_4_code
def yX3_differ : MethodName := ⟨RX3, "differ", "(LSpokenMarks$Mark;LSpokenMarks$Mark;)I"⟩
def dkwX3_differ_4 : List UInt8 := [28, 172]
abbrev dktX3_differ_4 : List UInt8 := dkwX3_differ_4 ++ []
def dkwX3_differ_3 : List UInt8 := [180, 0, 15, 185, 0, 21, 1, 0, 43, 180, 0, 15, 185, 0, 21, 1, 0, 160, 0, 7, 2, 167, 0, 4]
abbrev dktX3_differ_3 : List UInt8 := dkwX3_differ_3 ++ dktX3_differ_4
def dkwX3_differ_2 : List UInt8 := [185, 0, 33, 2, 0, 192, 0, 37, 4, 184, 0, 39, 153, 0, 5, 29, 172, 132, 3, 1, 167, 255, 213, 42]
abbrev dktX3_differ_2 : List UInt8 := dkwX3_differ_2 ++ dktX3_differ_3
def dkwX3_differ_1 : List UInt8 := [29, 28, 162, 0, 44, 42, 180, 0, 15, 29, 185, 0, 33, 2, 0, 192, 0, 37, 43, 180, 0, 15, 29]
abbrev dktX3_differ_1 : List UInt8 := dkwX3_differ_1 ++ dktX3_differ_2
def dkwX3_differ_0 : List UInt8 := [42, 180, 0, 15, 185, 0, 21, 1, 0, 43, 180, 0, 15, 185, 0, 21, 1, 0, 184, 0, 27, 61, 3, 62]
abbrev dktX3_differ_0 : List UInt8 := dkwX3_differ_0 ++ dktX3_differ_1
theorem dksX3_differ_0 : cX3_differ.data.toList.drop 0 = dktX3_differ_0 := by decide +kernel
theorem dksX3_differ_1 : cX3_differ.data.toList.drop 24 = dktX3_differ_1 := dk_seg dksX3_differ_0 24 rfl rfl
theorem dksX3_differ_2 : cX3_differ.data.toList.drop 47 = dktX3_differ_2 := dk_seg dksX3_differ_1 23 rfl rfl
theorem dksX3_differ_3 : cX3_differ.data.toList.drop 71 = dktX3_differ_3 := dk_seg dksX3_differ_2 24 rfl rfl
theorem dksX3_differ_4 : cX3_differ.data.toList.drop 95 = dktX3_differ_4 := dk_seg dksX3_differ_3 24 rfl rfl
theorem dX3_differ_0 : decode cX3_differ 0 = .ok (.aload_n 0, 1) := dk_42 (dk_at dksX3_differ_0 0 rfl rfl)
theorem dX3_differ_1 : decode cX3_differ 1 = .ok (.getfield 15, 3) := dk_180 0 15 (dk_at dksX3_differ_0 1 rfl rfl)
theorem dX3_differ_4 : decode cX3_differ 4 = .ok (.invokeinterface 21 1, 5) := by decide +kernel
theorem dX3_differ_9 : decode cX3_differ 9 = .ok (.aload_n 1, 1) := dk_43 (dk_at dksX3_differ_0 9 rfl rfl)
theorem dX3_differ_10 : decode cX3_differ 10 = .ok (.getfield 15, 3) := dk_180 0 15 (dk_at dksX3_differ_0 10 rfl rfl)
theorem dX3_differ_13 : decode cX3_differ 13 = .ok (.invokeinterface 21 1, 5) := by decide +kernel
theorem dX3_differ_18 : decode cX3_differ 18 = .ok (.invokestatic 27, 3) := dk_184 0 27 (dk_at dksX3_differ_0 18 rfl rfl)
theorem dX3_differ_21 : decode cX3_differ 21 = .ok (.istore_n 2, 1) := dk_61 (dk_at dksX3_differ_0 21 rfl rfl)
theorem dX3_differ_22 : decode cX3_differ 22 = .ok (.iconst 0, 1) := dk_3 (dk_at dksX3_differ_0 22 rfl rfl)
theorem dX3_differ_23 : decode cX3_differ 23 = .ok (.istore_n 3, 1) := dk_62 (dk_at dksX3_differ_0 23 rfl rfl)
theorem dX3_differ_24 : decode cX3_differ 24 = .ok (.iload_n 3, 1) := dk_29 (dk_at dksX3_differ_1 0 rfl rfl)
theorem dX3_differ_25 : decode cX3_differ 25 = .ok (.iload_n 2, 1) := dk_28 (dk_at dksX3_differ_1 1 rfl rfl)
theorem dX3_differ_26 : decode cX3_differ 26 = .ok (.if_icmp .ge 44, 3) := dk_162 0 44 (dk_at dksX3_differ_1 2 rfl rfl)
theorem dX3_differ_29 : decode cX3_differ 29 = .ok (.aload_n 0, 1) := dk_42 (dk_at dksX3_differ_1 5 rfl rfl)
theorem dX3_differ_30 : decode cX3_differ 30 = .ok (.getfield 15, 3) := dk_180 0 15 (dk_at dksX3_differ_1 6 rfl rfl)
theorem dX3_differ_33 : decode cX3_differ 33 = .ok (.iload_n 3, 1) := dk_29 (dk_at dksX3_differ_1 9 rfl rfl)
theorem dX3_differ_34 : decode cX3_differ 34 = .ok (.invokeinterface 33 2, 5) := by decide +kernel
theorem dX3_differ_39 : decode cX3_differ 39 = .ok (.checkcast 37, 3) := dk_192 0 37 (dk_at dksX3_differ_1 15 rfl rfl)
theorem dX3_differ_42 : decode cX3_differ 42 = .ok (.aload_n 1, 1) := dk_43 (dk_at dksX3_differ_1 18 rfl rfl)
theorem dX3_differ_43 : decode cX3_differ 43 = .ok (.getfield 15, 3) := dk_180 0 15 (dk_at dksX3_differ_1 19 rfl rfl)
theorem dX3_differ_46 : decode cX3_differ 46 = .ok (.iload_n 3, 1) := dk_29 (dk_at dksX3_differ_1 22 rfl rfl)
theorem dX3_differ_47 : decode cX3_differ 47 = .ok (.invokeinterface 33 2, 5) := by decide +kernel
theorem dX3_differ_52 : decode cX3_differ 52 = .ok (.checkcast 37, 3) := dk_192 0 37 (dk_at dksX3_differ_2 5 rfl rfl)
theorem dX3_differ_55 : decode cX3_differ 55 = .ok (.iconst 1, 1) := dk_4 (dk_at dksX3_differ_2 8 rfl rfl)
theorem dX3_differ_56 : decode cX3_differ 56 = .ok (.invokestatic 39, 3) := dk_184 0 39 (dk_at dksX3_differ_2 9 rfl rfl)
theorem dX3_differ_59 : decode cX3_differ 59 = .ok (.ifCond .eq 5, 3) := dk_153 0 5 (dk_at dksX3_differ_2 12 rfl rfl)
theorem dX3_differ_62 : decode cX3_differ 62 = .ok (.iload_n 3, 1) := dk_29 (dk_at dksX3_differ_2 15 rfl rfl)
theorem dX3_differ_63 : decode cX3_differ 63 = .ok (.ireturn, 1) := dk_172 (dk_at dksX3_differ_2 16 rfl rfl)
theorem dX3_differ_64 : decode cX3_differ 64 = .ok (.iinc 3 1, 3) := dk_132 3 1 (dk_at dksX3_differ_2 17 rfl rfl)
theorem dX3_differ_67 : decode cX3_differ 67 = .ok (.goto (-43), 3) := dk_167 255 213 (dk_at dksX3_differ_2 20 rfl rfl)
theorem dX3_differ_70 : decode cX3_differ 70 = .ok (.aload_n 0, 1) := dk_42 (dk_at dksX3_differ_2 23 rfl rfl)
theorem dX3_differ_71 : decode cX3_differ 71 = .ok (.getfield 15, 3) := dk_180 0 15 (dk_at dksX3_differ_3 0 rfl rfl)
theorem dX3_differ_74 : decode cX3_differ 74 = .ok (.invokeinterface 21 1, 5) := by decide +kernel
theorem dX3_differ_79 : decode cX3_differ 79 = .ok (.aload_n 1, 1) := dk_43 (dk_at dksX3_differ_3 8 rfl rfl)
theorem dX3_differ_80 : decode cX3_differ 80 = .ok (.getfield 15, 3) := dk_180 0 15 (dk_at dksX3_differ_3 9 rfl rfl)
theorem dX3_differ_83 : decode cX3_differ 83 = .ok (.invokeinterface 21 1, 5) := by decide +kernel
theorem dX3_differ_88 : decode cX3_differ 88 = .ok (.if_icmp .ne 7, 3) := dk_160 0 7 (dk_at dksX3_differ_3 17 rfl rfl)
theorem dX3_differ_91 : decode cX3_differ 91 = .ok (.iconst (-1), 1) := dk_2 (dk_at dksX3_differ_3 20 rfl rfl)
theorem dX3_differ_92 : decode cX3_differ 92 = .ok (.goto 4, 3) := dk_167 0 4 (dk_at dksX3_differ_3 21 rfl rfl)
theorem dX3_differ_95 : decode cX3_differ 95 = .ok (.iload_n 2, 1) := dk_28 (dk_at dksX3_differ_4 0 rfl rfl)
theorem dX3_differ_96 : decode cX3_differ 96 = .ok (.ireturn, 1) := dk_172 (dk_at dksX3_differ_4 1 rfl rfl)
theorem q144 : (Jvm.Cond.initialized "SpokenMarks$Spoken") ∈ lw_all := lw_g (lw_at lw_m1 25 rfl) rfl
theorem q583 : (Jvm.Cond.instantiable "SpokenMarks$Spoken" (0 : Nat)) ∈ lw_all := lw_g (lw_at lw_m2 224 rfl) rfl
theorem q585 : (Jvm.Cond.instanceMethod ({ cls := "SpokenMarks$Spoken", name := "<init>", desc := "()V" } : Jvm.MethodName)) ∈ lw_all := lw_g (lw_at lw_m2 226 rfl) rfl
theorem q586 : (Jvm.Cond.code ({ cls := "SpokenMarks$Spoken", name := "<init>", desc := "()V" } : Jvm.MethodName) prog_16_method_1_code (1 : Nat) (Option.none : Option Jvm.ClassFile.FieldType)) ∈ lw_all := lw_g (lw_at lw_m2 227 rfl) rfl
theorem q587 : (Jvm.Cond.methodLink "SpokenMarks$Spoken" (3 : Nat) ({ cls := "java/lang/Object", name := "<init>", desc := "()V" } : Jvm.MethodName)) ∈ lw_all := lw_g (lw_at lw_m2 228 rfl) rfl
theorem q588 : (Jvm.Cond.superclass "SpokenMarks$Spoken" "java/lang/Object") ∈ lw_all := lw_g (lw_at lw_m2 229 rfl) rfl
theorem q704 : (Jvm.Cond.selects "SpokenMarks$Spoken" ({ cls := "java/lang/Object", name := "getClass", desc := "()Ljava/lang/Class;" } : Jvm.MethodName) ({ cls := "java/lang/Object", name := "getClass", desc := "()Ljava/lang/Class;" } : Jvm.MethodName)) ∈ lw_all := lw_g (lw_at lw_m3 105 rfl) rfl
theorem q764 : (Jvm.Cond.selects "SpokenMarks$Spoken" ({ cls := "java/lang/Object", name := "hashCode", desc := "()I" } : Jvm.MethodName) ({ cls := "java/lang/Object", name := "hashCode", desc := "()I" } : Jvm.MethodName)) ∈ lw_all := lw_g (lw_at lw_m3 165 rfl) rfl
theorem q1171 : (Jvm.Cond.selects "SpokenMarks$Spoken" ({ cls := "java/lang/Object", name := "equals", desc := "(Ljava/lang/Object;)Z" } : Jvm.MethodName) ({ cls := "java/lang/Object", name := "equals", desc := "(Ljava/lang/Object;)Z" } : Jvm.MethodName)) ∈ lw_all := lw_g (lw_at lw_m5 92 rfl) rfl
theorem q1540 : (Jvm.Cond.fieldLinkNest "SpokenMarks$Spoken" (15 : Nat) "SpokenMarks$Mark" "parts" "Ljava/util/List;" "SpokenMarks") ∈ lw_tbl := lw_at lw_m6 221 rfl
theorem q1593 : (Jvm.Cond.castable "SpokenMarks$Spoken" "java/util/Comparator") ∈ lw_tbl := lw_at lw_m7 34 rfl
theorem q1594 : (Jvm.Cond.selects "SpokenMarks$Spoken" ({ cls := "java/util/Comparator", name := "compare", desc := "(Ljava/lang/Object;Ljava/lang/Object;)I" } : Jvm.MethodName) ({ cls := "SpokenMarks$Spoken", name := "compare", desc := "(Ljava/lang/Object;Ljava/lang/Object;)I" } : Jvm.MethodName)) ∈ lw_all := lw_g (lw_at lw_m7 35 rfl) rfl
theorem q1595 : (Jvm.Cond.unhidden "SpokenMarks$Spoken" "compare" "(Ljava/lang/Object;Ljava/lang/Object;)I") ∈ lw_tbl := lw_at lw_m7 36 rfl
theorem q1596 : (Jvm.Cond.instanceMethod ({ cls := "SpokenMarks$Spoken", name := "compare", desc := "(Ljava/lang/Object;Ljava/lang/Object;)I" } : Jvm.MethodName)) ∈ lw_all := lw_g (lw_at lw_m7 37 rfl) rfl
theorem q1597 : (Jvm.Cond.publicMethod ({ cls := "SpokenMarks$Spoken", name := "compare", desc := "(Ljava/lang/Object;Ljava/lang/Object;)I" } : Jvm.MethodName)) ∈ lw_tbl := lw_at lw_m7 38 rfl
theorem q1598 : (Jvm.Cond.code ({ cls := "SpokenMarks$Spoken", name := "compare", desc := "(Ljava/lang/Object;Ljava/lang/Object;)I" } : Jvm.MethodName) prog_16_method_5_code (3 : Nat) (Option.some Jvm.ClassFile.FieldType.int)) ∈ lw_all := lw_g (lw_at lw_m7 39 rfl) rfl
theorem q1599 : (Jvm.Cond.classLink "SpokenMarks$Spoken" (16 : Nat) "SpokenMarks$Mark") ∈ lw_all := lw_g (lw_at lw_m7 40 rfl) rfl
theorem q1600 : (Jvm.Cond.methodLink "SpokenMarks$Spoken" (42 : Nat) ({ cls := "SpokenMarks$Spoken", name := "compare", desc := "(LSpokenMarks$Mark;LSpokenMarks$Mark;)I" } : Jvm.MethodName)) ∈ lw_all := lw_g (lw_at lw_m7 41 rfl) rfl
theorem q1601 : (Jvm.Cond.instanceMethod ({ cls := "SpokenMarks$Spoken", name := "compare", desc := "(LSpokenMarks$Mark;LSpokenMarks$Mark;)I" } : Jvm.MethodName)) ∈ lw_all := lw_g (lw_at lw_m7 42 rfl) rfl
theorem q1602 : (Jvm.Cond.selects "SpokenMarks$Spoken" ({ cls := "SpokenMarks$Spoken", name := "compare", desc := "(LSpokenMarks$Mark;LSpokenMarks$Mark;)I" } : Jvm.MethodName) ({ cls := "SpokenMarks$Spoken", name := "compare", desc := "(LSpokenMarks$Mark;LSpokenMarks$Mark;)I" } : Jvm.MethodName)) ∈ lw_all := lw_g (lw_at lw_m7 43 rfl) rfl
theorem q1603 : (Jvm.Cond.code ({ cls := "SpokenMarks$Spoken", name := "compare", desc := "(LSpokenMarks$Mark;LSpokenMarks$Mark;)I" } : Jvm.MethodName) prog_16_method_2_code (4 : Nat) (Option.some Jvm.ClassFile.FieldType.int)) ∈ lw_all := lw_g (lw_at lw_m7 44 rfl) rfl
theorem q1604 : (Jvm.Cond.methodLink "SpokenMarks$Spoken" (9 : Nat) ({ cls := "SpokenMarks$Spoken", name := "compare", desc := "(LSpokenMarks$Mark;LSpokenMarks$Mark;Z)I" } : Jvm.MethodName)) ∈ lw_all := lw_g (lw_at lw_m7 45 rfl) rfl
theorem q1605 : (Jvm.Cond.static ({ cls := "SpokenMarks$Spoken", name := "compare", desc := "(LSpokenMarks$Mark;LSpokenMarks$Mark;Z)I" } : Jvm.MethodName)) ∈ lw_all := lw_g (lw_at lw_m7 46 rfl) rfl
theorem q1606 : (Jvm.Cond.code ({ cls := "SpokenMarks$Spoken", name := "compare", desc := "(LSpokenMarks$Mark;LSpokenMarks$Mark;Z)I" } : Jvm.MethodName) prog_16_method_3_code (6 : Nat) (Option.some Jvm.ClassFile.FieldType.int)) ∈ lw_all := lw_g (lw_at lw_m7 47 rfl) rfl
theorem q1607 : (Jvm.Cond.interfaceEntry "SpokenMarks$Spoken" (21 : Nat)) ∈ lw_tbl := lw_at lw_m7 48 rfl
theorem q1608 : (Jvm.Cond.methodLink "SpokenMarks$Spoken" (21 : Nat) ({ cls := "java/util/List", name := "size", desc := "()I" } : Jvm.MethodName)) ∈ lw_all := lw_g (lw_at lw_m7 49 rfl) rfl
theorem q1609 : (Jvm.Cond.methodLink "SpokenMarks$Spoken" (27 : Nat) ({ cls := "java/lang/Math", name := "min", desc := "(II)I" } : Jvm.MethodName)) ∈ lw_all := lw_g (lw_at lw_m7 50 rfl) rfl
theorem q1610 : (Jvm.Cond.interfaceEntry "SpokenMarks$Spoken" (33 : Nat)) ∈ lw_tbl := lw_at lw_m7 51 rfl
theorem q1611 : (Jvm.Cond.methodLink "SpokenMarks$Spoken" (33 : Nat) ({ cls := "java/util/List", name := "get", desc := "(I)Ljava/lang/Object;" } : Jvm.MethodName)) ∈ lw_all := lw_g (lw_at lw_m7 52 rfl) rfl
theorem q1612 : (Jvm.Cond.classLink "SpokenMarks$Spoken" (37 : Nat) "SpokenMarks$Part") ∈ lw_all := lw_g (lw_at lw_m7 53 rfl) rfl
theorem q1613 : (Jvm.Cond.methodLink "SpokenMarks$Spoken" (39 : Nat) ({ cls := "SpokenMarks$Part", name := "compare", desc := "(LSpokenMarks$Part;LSpokenMarks$Part;Z)I" } : Jvm.MethodName)) ∈ lw_all := lw_g (lw_at lw_m7 54 rfl) rfl
theorem q1763 : (Jvm.Cond.static ({ cls := "SpokenMarks$Spoken", name := "differ", desc := "(LSpokenMarks$Mark;LSpokenMarks$Mark;)I" } : Jvm.MethodName)) ∈ lw_all := lw_g (lw_at lw_m7 204 rfl) rfl
theorem q1764 : (Jvm.Cond.code ({ cls := "SpokenMarks$Spoken", name := "differ", desc := "(LSpokenMarks$Mark;LSpokenMarks$Mark;)I" } : Jvm.MethodName) prog_16_method_4_code (4 : Nat) (Option.some Jvm.ClassFile.FieldType.int)) ∈ lw_all := lw_g (lw_at lw_m7 205 rfl) rfl
theorem q3441 : (Jvm.Cond.castable "SpokenMarks$Spoken" "java/lang/Object") ∈ lw_tbl := lw_at lw_m14 202 rfl
/-! SpokenMarks$Rule -/
set_option maxRecDepth 100000
def RX4 : String := "SpokenMarks$Rule"
def TX4 : u_T := fun k => match k with
  | 0 => ("SpokenMarks$Rule", "first", "Ljava/lang/String;", true)
  | _ => ("SpokenMarks$Rule", "second", "Ljava/lang/String;", true)
def tyX4 : Nat → FieldType := fun k => match k with
  | 0 => .object "java/lang/String"
  | _ => .object "java/lang/String"
abbrev wsX40 : List Cond := u_ws RX4 TX4 2
theorem nmX4 : ∀ a, a < 2 → ∀ b, b < 2 → a ≠ b → (TX4 a).2.1 ≠ (TX4 b).2.1 := by decide +kernel
theorem tyX4_ok : ∀ k, k < 2 → parseFieldDescriptor (TX4 k).2.2.1 = some (tyX4 k) := by decide +kernel
abbrev cX4_init : ByteArray := prog_12_method_1_code
def yX4_init : MethodName := ⟨RX4, "<init>", "(Ljava/lang/String;Ljava/lang/String;)V"⟩
def dkwX4_init_0 : List UInt8 := [42, 183, 0, 1, 42, 43, 181, 0, 7, 42, 44, 181, 0, 13, 177]
abbrev dktX4_init_0 : List UInt8 := dkwX4_init_0 ++ []
theorem dksX4_init_0 : cX4_init.data.toList.drop 0 = dktX4_init_0 := by decide +kernel
theorem dX4_init_0 : decode cX4_init 0 = .ok (.aload_n 0, 1) := dk_42 (dk_at dksX4_init_0 0 rfl rfl)
theorem dX4_init_1 : decode cX4_init 1 = .ok (.invokespecial 1, 3) := dk_183 0 1 (dk_at dksX4_init_0 1 rfl rfl)
theorem dX4_init_4 : decode cX4_init 4 = .ok (.aload_n 0, 1) := dk_42 (dk_at dksX4_init_0 4 rfl rfl)
theorem dX4_init_5 : decode cX4_init 5 = .ok (.aload_n 1, 1) := dk_43 (dk_at dksX4_init_0 5 rfl rfl)
theorem dX4_init_6 : decode cX4_init 6 = .ok (.putfield 7, 3) := dk_181 0 7 (dk_at dksX4_init_0 6 rfl rfl)
theorem dX4_init_9 : decode cX4_init 9 = .ok (.aload_n 0, 1) := dk_42 (dk_at dksX4_init_0 9 rfl rfl)
theorem dX4_init_10 : decode cX4_init 10 = .ok (.aload_n 2, 1) := dk_44 (dk_at dksX4_init_0 10 rfl rfl)
theorem dX4_init_11 : decode cX4_init 11 = .ok (.putfield 13, 3) := dk_181 0 13 (dk_at dksX4_init_0 11 rfl rfl)
theorem dX4_init_14 : decode cX4_init 14 = .ok (.return_, 1) := dk_177 (dk_at dksX4_init_0 14 rfl rfl)
theorem q145 : (Jvm.Cond.initialized "SpokenMarks$Rule") ∈ lw_all := lw_g (lw_at lw_m1 26 rfl) rfl
theorem q637 : (Jvm.Cond.instantiable "SpokenMarks$Rule" (2 : Nat)) ∈ lw_all := lw_g (lw_at lw_m3 38 rfl) rfl
theorem q641 : (Jvm.Cond.instanceMethod ({ cls := "SpokenMarks$Rule", name := "<init>", desc := "(Ljava/lang/String;Ljava/lang/String;)V" } : Jvm.MethodName)) ∈ lw_all := lw_g (lw_at lw_m3 42 rfl) rfl
theorem q642 : (Jvm.Cond.code ({ cls := "SpokenMarks$Rule", name := "<init>", desc := "(Ljava/lang/String;Ljava/lang/String;)V" } : Jvm.MethodName) prog_12_method_1_code (3 : Nat) (Option.none : Option Jvm.ClassFile.FieldType)) ∈ lw_all := lw_g (lw_at lw_m3 43 rfl) rfl
theorem q643 : (Jvm.Cond.methodLink "SpokenMarks$Rule" (1 : Nat) ({ cls := "java/lang/Object", name := "<init>", desc := "()V" } : Jvm.MethodName)) ∈ lw_all := lw_g (lw_at lw_m3 44 rfl) rfl
theorem q644 : (Jvm.Cond.fieldLink "SpokenMarks$Rule" (7 : Nat) "SpokenMarks$Rule" "first" "Ljava/lang/String;") ∈ lw_all := lw_g (lw_at lw_m3 45 rfl) rfl
theorem q648 : (Jvm.Cond.fieldLink "SpokenMarks$Rule" (13 : Nat) "SpokenMarks$Rule" "second" "Ljava/lang/String;") ∈ lw_all := lw_g (lw_at lw_m3 49 rfl) rfl
theorem q651 : (Jvm.Cond.laysFinal "SpokenMarks$Rule" "SpokenMarks$Rule" "first" "Ljava/lang/String;") ∈ lw_all := lw_g (lw_at lw_m3 52 rfl) rfl
theorem q652 : (Jvm.Cond.soleField "SpokenMarks$Rule" "first") ∈ lw_all := lw_g (lw_at lw_m3 53 rfl) rfl
theorem q653 : (Jvm.Cond.laysFinal "SpokenMarks$Rule" "SpokenMarks$Rule" "second" "Ljava/lang/String;") ∈ lw_all := lw_g (lw_at lw_m3 54 rfl) rfl
theorem q654 : (Jvm.Cond.soleField "SpokenMarks$Rule" "second") ∈ lw_all := lw_g (lw_at lw_m3 55 rfl) rfl
theorem q655 : (Jvm.Cond.superclass "SpokenMarks$Rule" "java/lang/Object") ∈ lw_all := lw_g (lw_at lw_m3 56 rfl) rfl
theorem q700 : (Jvm.Cond.selects "SpokenMarks$Rule" ({ cls := "java/lang/Object", name := "getClass", desc := "()Ljava/lang/Class;" } : Jvm.MethodName) ({ cls := "java/lang/Object", name := "getClass", desc := "()Ljava/lang/Class;" } : Jvm.MethodName)) ∈ lw_all := lw_g (lw_at lw_m3 101 rfl) rfl
theorem q760 : (Jvm.Cond.selects "SpokenMarks$Rule" ({ cls := "java/lang/Object", name := "hashCode", desc := "()I" } : Jvm.MethodName) ({ cls := "java/lang/Object", name := "hashCode", desc := "()I" } : Jvm.MethodName)) ∈ lw_all := lw_g (lw_at lw_m3 161 rfl) rfl
theorem q1167 : (Jvm.Cond.selects "SpokenMarks$Rule" ({ cls := "java/lang/Object", name := "equals", desc := "(Ljava/lang/Object;)Z" } : Jvm.MethodName) ({ cls := "java/lang/Object", name := "equals", desc := "(Ljava/lang/Object;)Z" } : Jvm.MethodName)) ∈ lw_all := lw_g (lw_at lw_m5 88 rfl) rfl
theorem q3442 : (Jvm.Cond.castable "SpokenMarks$Rule" "java/lang/Object") ∈ lw_tbl := lw_at lw_m14 203 rfl
theorem in_X4 : ∀ w ∈ wsX40, w ∈ lw_all := lw_in wsX40 [651, 653] (by decide +kernel) (by decide +kernel)
/-! SpokenMarks$Mark -/
set_option maxRecDepth 100000
def RX5 : String := "SpokenMarks$Mark"
def TX5 : u_T := fun k => match k with
  | 0 => ("SpokenMarks$Mark", "id", "I", true)
  | 1 => ("SpokenMarks$Mark", "parts", "Ljava/util/List;", true)
  | 2 => ("SpokenMarks$Mark", "width", "I", false)
  | _ => ("SpokenMarks$Mark", "place", "I", false)
def tyX5 : Nat → FieldType := fun k => match k with
  | 0 => .int
  | 1 => .object "java/util/List"
  | 2 => .int
  | _ => .int
abbrev wsX50 : List Cond := u_ws RX5 TX5 4
theorem nmX5 : ∀ a, a < 4 → ∀ b, b < 4 → a ≠ b → (TX5 a).2.1 ≠ (TX5 b).2.1 := by decide +kernel
theorem tyX5_ok : ∀ k, k < 4 → parseFieldDescriptor (TX5 k).2.2.1 = some (tyX5 k) := by decide +kernel
abbrev cX5_init : ByteArray := prog_8_method_1_code
def yX5_init : MethodName := ⟨RX5, "<init>", "(ILjava/util/List;II)V"⟩
def dkwX5_init_1 : List UInt8 := [181, 0, 20, 177]
abbrev dktX5_init_1 : List UInt8 := dkwX5_init_1 ++ []
def dkwX5_init_0 : List UInt8 := [42, 183, 0, 1, 42, 27, 181, 0, 7, 42, 44, 181, 0, 13, 42, 29, 181, 0, 17, 42, 21, 4]
abbrev dktX5_init_0 : List UInt8 := dkwX5_init_0 ++ dktX5_init_1
theorem dksX5_init_0 : cX5_init.data.toList.drop 0 = dktX5_init_0 := by decide +kernel
theorem dksX5_init_1 : cX5_init.data.toList.drop 22 = dktX5_init_1 := dk_seg dksX5_init_0 22 rfl rfl
theorem dX5_init_0 : decode cX5_init 0 = .ok (.aload_n 0, 1) := dk_42 (dk_at dksX5_init_0 0 rfl rfl)
theorem dX5_init_1 : decode cX5_init 1 = .ok (.invokespecial 1, 3) := dk_183 0 1 (dk_at dksX5_init_0 1 rfl rfl)
theorem dX5_init_4 : decode cX5_init 4 = .ok (.aload_n 0, 1) := dk_42 (dk_at dksX5_init_0 4 rfl rfl)
theorem dX5_init_5 : decode cX5_init 5 = .ok (.iload_n 1, 1) := dk_27 (dk_at dksX5_init_0 5 rfl rfl)
theorem dX5_init_6 : decode cX5_init 6 = .ok (.putfield 7, 3) := dk_181 0 7 (dk_at dksX5_init_0 6 rfl rfl)
theorem dX5_init_9 : decode cX5_init 9 = .ok (.aload_n 0, 1) := dk_42 (dk_at dksX5_init_0 9 rfl rfl)
theorem dX5_init_10 : decode cX5_init 10 = .ok (.aload_n 2, 1) := dk_44 (dk_at dksX5_init_0 10 rfl rfl)
theorem dX5_init_11 : decode cX5_init 11 = .ok (.putfield 13, 3) := dk_181 0 13 (dk_at dksX5_init_0 11 rfl rfl)
theorem dX5_init_14 : decode cX5_init 14 = .ok (.aload_n 0, 1) := dk_42 (dk_at dksX5_init_0 14 rfl rfl)
theorem dX5_init_15 : decode cX5_init 15 = .ok (.iload_n 3, 1) := dk_29 (dk_at dksX5_init_0 15 rfl rfl)
theorem dX5_init_16 : decode cX5_init 16 = .ok (.putfield 17, 3) := dk_181 0 17 (dk_at dksX5_init_0 16 rfl rfl)
theorem dX5_init_19 : decode cX5_init 19 = .ok (.aload_n 0, 1) := dk_42 (dk_at dksX5_init_0 19 rfl rfl)
theorem dX5_init_20 : decode cX5_init 20 = .ok (.iload 4, 2) := dk_21 4 (dk_at dksX5_init_0 20 rfl rfl)
theorem dX5_init_22 : decode cX5_init 22 = .ok (.putfield 20, 3) := dk_181 0 20 (dk_at dksX5_init_1 0 rfl rfl)
theorem dX5_init_25 : decode cX5_init 25 = .ok (.return_, 1) := dk_177 (dk_at dksX5_init_1 3 rfl rfl)
abbrev cX5_copy : ByteArray := prog_8_method_2_code
def yX5_copy : MethodName := ⟨RX5, "copy", "()LSpokenMarks$Mark;"⟩
def dkwX5_copy_0 : List UInt8 := [187, 0, 8, 89, 42, 180, 0, 7, 42, 180, 0, 13, 42, 180, 0, 17, 42, 180, 0, 20, 183, 0, 23, 176]
abbrev dktX5_copy_0 : List UInt8 := dkwX5_copy_0 ++ []
theorem dksX5_copy_0 : cX5_copy.data.toList.drop 0 = dktX5_copy_0 := by decide +kernel
theorem dX5_copy_0 : decode cX5_copy 0 = .ok (.new 8, 3) := dk_187 0 8 (dk_at dksX5_copy_0 0 rfl rfl)
theorem dX5_copy_3 : decode cX5_copy 3 = .ok (.dup, 1) := dk_89 (dk_at dksX5_copy_0 3 rfl rfl)
theorem dX5_copy_4 : decode cX5_copy 4 = .ok (.aload_n 0, 1) := dk_42 (dk_at dksX5_copy_0 4 rfl rfl)
theorem dX5_copy_5 : decode cX5_copy 5 = .ok (.getfield 7, 3) := dk_180 0 7 (dk_at dksX5_copy_0 5 rfl rfl)
theorem dX5_copy_8 : decode cX5_copy 8 = .ok (.aload_n 0, 1) := dk_42 (dk_at dksX5_copy_0 8 rfl rfl)
theorem dX5_copy_9 : decode cX5_copy 9 = .ok (.getfield 13, 3) := dk_180 0 13 (dk_at dksX5_copy_0 9 rfl rfl)
theorem dX5_copy_12 : decode cX5_copy 12 = .ok (.aload_n 0, 1) := dk_42 (dk_at dksX5_copy_0 12 rfl rfl)
theorem dX5_copy_13 : decode cX5_copy 13 = .ok (.getfield 17, 3) := dk_180 0 17 (dk_at dksX5_copy_0 13 rfl rfl)
theorem dX5_copy_16 : decode cX5_copy 16 = .ok (.aload_n 0, 1) := dk_42 (dk_at dksX5_copy_0 16 rfl rfl)
theorem dX5_copy_17 : decode cX5_copy 17 = .ok (.getfield 20, 3) := dk_180 0 20 (dk_at dksX5_copy_0 17 rfl rfl)
theorem dX5_copy_20 : decode cX5_copy 20 = .ok (.invokespecial 23, 3) := dk_183 0 23 (dk_at dksX5_copy_0 20 rfl rfl)
theorem dX5_copy_23 : decode cX5_copy 23 = .ok (.areturn, 1) := dk_176 (dk_at dksX5_copy_0 23 rfl rfl)
abbrev cX5_words : ByteArray := prog_8_method_3_code
def yX5_words : MethodName := ⟨RX5, "words", "()I"⟩
def dkwX5_words_1 : List UInt8 := [185, 0, 32, 2, 0, 193, 0, 36, 184, 0, 38, 96, 60, 132, 2, 1, 167, 255, 221, 27, 172]
abbrev dktX5_words_1 : List UInt8 := dkwX5_words_1 ++ []
def dkwX5_words_0 : List UInt8 := [3, 60, 3, 61, 28, 42, 180, 0, 13, 185, 0, 26, 1, 0, 162, 0, 28, 27, 42, 180, 0, 13, 28]
abbrev dktX5_words_0 : List UInt8 := dkwX5_words_0 ++ dktX5_words_1
theorem dksX5_words_0 : cX5_words.data.toList.drop 0 = dktX5_words_0 := by decide +kernel
theorem dksX5_words_1 : cX5_words.data.toList.drop 23 = dktX5_words_1 := dk_seg dksX5_words_0 23 rfl rfl
theorem dX5_words_0 : decode cX5_words 0 = .ok (.iconst 0, 1) := dk_3 (dk_at dksX5_words_0 0 rfl rfl)
theorem dX5_words_1 : decode cX5_words 1 = .ok (.istore_n 1, 1) := dk_60 (dk_at dksX5_words_0 1 rfl rfl)
theorem dX5_words_2 : decode cX5_words 2 = .ok (.iconst 0, 1) := dk_3 (dk_at dksX5_words_0 2 rfl rfl)
theorem dX5_words_3 : decode cX5_words 3 = .ok (.istore_n 2, 1) := dk_61 (dk_at dksX5_words_0 3 rfl rfl)
theorem dX5_words_4 : decode cX5_words 4 = .ok (.iload_n 2, 1) := dk_28 (dk_at dksX5_words_0 4 rfl rfl)
theorem dX5_words_5 : decode cX5_words 5 = .ok (.aload_n 0, 1) := dk_42 (dk_at dksX5_words_0 5 rfl rfl)
theorem dX5_words_6 : decode cX5_words 6 = .ok (.getfield 13, 3) := dk_180 0 13 (dk_at dksX5_words_0 6 rfl rfl)
theorem dX5_words_9 : decode cX5_words 9 = .ok (.invokeinterface 26 1, 5) := by decide +kernel
theorem dX5_words_14 : decode cX5_words 14 = .ok (.if_icmp .ge 28, 3) := dk_162 0 28 (dk_at dksX5_words_0 14 rfl rfl)
theorem dX5_words_17 : decode cX5_words 17 = .ok (.iload_n 1, 1) := dk_27 (dk_at dksX5_words_0 17 rfl rfl)
theorem dX5_words_18 : decode cX5_words 18 = .ok (.aload_n 0, 1) := dk_42 (dk_at dksX5_words_0 18 rfl rfl)
theorem dX5_words_19 : decode cX5_words 19 = .ok (.getfield 13, 3) := dk_180 0 13 (dk_at dksX5_words_0 19 rfl rfl)
theorem dX5_words_22 : decode cX5_words 22 = .ok (.iload_n 2, 1) := dk_28 (dk_at dksX5_words_0 22 rfl rfl)
theorem dX5_words_23 : decode cX5_words 23 = .ok (.invokeinterface 32 2, 5) := by decide +kernel
theorem dX5_words_28 : decode cX5_words 28 = .ok (.instanceof 36, 3) := dk_193 0 36 (dk_at dksX5_words_1 5 rfl rfl)
theorem dX5_words_31 : decode cX5_words 31 = .ok (.invokestatic 38, 3) := dk_184 0 38 (dk_at dksX5_words_1 8 rfl rfl)
theorem dX5_words_34 : decode cX5_words 34 = .ok (.iadd, 1) := dk_96 (dk_at dksX5_words_1 11 rfl rfl)
theorem dX5_words_35 : decode cX5_words 35 = .ok (.istore_n 1, 1) := dk_60 (dk_at dksX5_words_1 12 rfl rfl)
theorem dX5_words_36 : decode cX5_words 36 = .ok (.iinc 2 1, 3) := dk_132 2 1 (dk_at dksX5_words_1 13 rfl rfl)
theorem dX5_words_39 : decode cX5_words 39 = .ok (.goto (-35), 3) := dk_167 255 221 (dk_at dksX5_words_1 16 rfl rfl)
theorem dX5_words_42 : decode cX5_words 42 = .ok (.iload_n 1, 1) := dk_27 (dk_at dksX5_words_1 19 rfl rfl)
theorem dX5_words_43 : decode cX5_words 43 = .ok (.ireturn, 1) := dk_172 (dk_at dksX5_words_1 20 rfl rfl)
abbrev cX5_hasEar : ByteArray := prog_8_method_4_code
def yX5_hasEar : MethodName := ⟨RX5, "hasEar", "(Ljava/lang/String;)Z"⟩
def dkwX5_hasEar_2 : List UInt8 := [180, 0, 44, 43, 182, 0, 48, 153, 0, 5, 4, 172, 132, 2, 1, 167, 255, 201, 3, 172]
abbrev dktX5_hasEar_2 : List UInt8 := dkwX5_hasEar_2 ++ []
def dkwX5_hasEar_1 : List UInt8 := [185, 0, 32, 2, 0, 58, 4, 25, 4, 193, 0, 36, 153, 0, 22, 25, 4, 192, 0, 36, 78, 45]
abbrev dktX5_hasEar_1 : List UInt8 := dkwX5_hasEar_1 ++ dktX5_hasEar_2
def dkwX5_hasEar_0 : List UInt8 := [3, 61, 28, 42, 180, 0, 13, 185, 0, 26, 1, 0, 162, 0, 48, 42, 180, 0, 13, 28]
abbrev dktX5_hasEar_0 : List UInt8 := dkwX5_hasEar_0 ++ dktX5_hasEar_1
theorem dksX5_hasEar_0 : cX5_hasEar.data.toList.drop 0 = dktX5_hasEar_0 := by decide +kernel
theorem dksX5_hasEar_1 : cX5_hasEar.data.toList.drop 20 = dktX5_hasEar_1 := dk_seg dksX5_hasEar_0 20 rfl rfl
theorem dksX5_hasEar_2 : cX5_hasEar.data.toList.drop 42 = dktX5_hasEar_2 := dk_seg dksX5_hasEar_1 22 rfl rfl
theorem dX5_hasEar_0 : decode cX5_hasEar 0 = .ok (.iconst 0, 1) := dk_3 (dk_at dksX5_hasEar_0 0 rfl rfl)
theorem dX5_hasEar_1 : decode cX5_hasEar 1 = .ok (.istore_n 2, 1) := dk_61 (dk_at dksX5_hasEar_0 1 rfl rfl)
theorem dX5_hasEar_2 : decode cX5_hasEar 2 = .ok (.iload_n 2, 1) := dk_28 (dk_at dksX5_hasEar_0 2 rfl rfl)
theorem dX5_hasEar_3 : decode cX5_hasEar 3 = .ok (.aload_n 0, 1) := dk_42 (dk_at dksX5_hasEar_0 3 rfl rfl)
theorem dX5_hasEar_4 : decode cX5_hasEar 4 = .ok (.getfield 13, 3) := dk_180 0 13 (dk_at dksX5_hasEar_0 4 rfl rfl)
theorem dX5_hasEar_7 : decode cX5_hasEar 7 = .ok (.invokeinterface 26 1, 5) := by decide +kernel
theorem dX5_hasEar_12 : decode cX5_hasEar 12 = .ok (.if_icmp .ge 48, 3) := dk_162 0 48 (dk_at dksX5_hasEar_0 12 rfl rfl)
theorem dX5_hasEar_15 : decode cX5_hasEar 15 = .ok (.aload_n 0, 1) := dk_42 (dk_at dksX5_hasEar_0 15 rfl rfl)
theorem dX5_hasEar_16 : decode cX5_hasEar 16 = .ok (.getfield 13, 3) := dk_180 0 13 (dk_at dksX5_hasEar_0 16 rfl rfl)
theorem dX5_hasEar_19 : decode cX5_hasEar 19 = .ok (.iload_n 2, 1) := dk_28 (dk_at dksX5_hasEar_0 19 rfl rfl)
theorem dX5_hasEar_20 : decode cX5_hasEar 20 = .ok (.invokeinterface 32 2, 5) := by decide +kernel
theorem dX5_hasEar_25 : decode cX5_hasEar 25 = .ok (.astore 4, 2) := dk_58 4 (dk_at dksX5_hasEar_1 5 rfl rfl)
theorem dX5_hasEar_27 : decode cX5_hasEar 27 = .ok (.aload 4, 2) := dk_25 4 (dk_at dksX5_hasEar_1 7 rfl rfl)
theorem dX5_hasEar_29 : decode cX5_hasEar 29 = .ok (.instanceof 36, 3) := dk_193 0 36 (dk_at dksX5_hasEar_1 9 rfl rfl)
theorem dX5_hasEar_32 : decode cX5_hasEar 32 = .ok (.ifCond .eq 22, 3) := dk_153 0 22 (dk_at dksX5_hasEar_1 12 rfl rfl)
theorem dX5_hasEar_35 : decode cX5_hasEar 35 = .ok (.aload 4, 2) := dk_25 4 (dk_at dksX5_hasEar_1 15 rfl rfl)
theorem dX5_hasEar_37 : decode cX5_hasEar 37 = .ok (.checkcast 36, 3) := dk_192 0 36 (dk_at dksX5_hasEar_1 17 rfl rfl)
theorem dX5_hasEar_40 : decode cX5_hasEar 40 = .ok (.astore_n 3, 1) := dk_78 (dk_at dksX5_hasEar_1 20 rfl rfl)
theorem dX5_hasEar_41 : decode cX5_hasEar 41 = .ok (.aload_n 3, 1) := dk_45 (dk_at dksX5_hasEar_1 21 rfl rfl)
theorem dX5_hasEar_42 : decode cX5_hasEar 42 = .ok (.getfield 44, 3) := dk_180 0 44 (dk_at dksX5_hasEar_2 0 rfl rfl)
theorem dX5_hasEar_45 : decode cX5_hasEar 45 = .ok (.aload_n 1, 1) := dk_43 (dk_at dksX5_hasEar_2 3 rfl rfl)
theorem dX5_hasEar_46 : decode cX5_hasEar 46 = .ok (.invokevirtual 48, 3) := dk_182 0 48 (dk_at dksX5_hasEar_2 4 rfl rfl)
theorem dX5_hasEar_49 : decode cX5_hasEar 49 = .ok (.ifCond .eq 5, 3) := dk_153 0 5 (dk_at dksX5_hasEar_2 7 rfl rfl)
theorem dX5_hasEar_52 : decode cX5_hasEar 52 = .ok (.iconst 1, 1) := dk_4 (dk_at dksX5_hasEar_2 10 rfl rfl)
theorem dX5_hasEar_53 : decode cX5_hasEar 53 = .ok (.ireturn, 1) := dk_172 (dk_at dksX5_hasEar_2 11 rfl rfl)
theorem dX5_hasEar_54 : decode cX5_hasEar 54 = .ok (.iinc 2 1, 3) := dk_132 2 1 (dk_at dksX5_hasEar_2 12 rfl rfl)
theorem dX5_hasEar_57 : decode cX5_hasEar 57 = .ok (.goto (-55), 3) := dk_167 255 201 (dk_at dksX5_hasEar_2 15 rfl rfl)
theorem dX5_hasEar_60 : decode cX5_hasEar 60 = .ok (.iconst 0, 1) := dk_3 (dk_at dksX5_hasEar_2 18 rfl rfl)
theorem dX5_hasEar_61 : decode cX5_hasEar 61 = .ok (.ireturn, 1) := dk_172 (dk_at dksX5_hasEar_2 19 rfl rfl)
theorem q154 : (Jvm.Cond.initialized "SpokenMarks$Mark") ∈ lw_all := lw_g (lw_at lw_m1 35 rfl) rfl
theorem q698 : (Jvm.Cond.selects "SpokenMarks$Mark" ({ cls := "java/lang/Object", name := "getClass", desc := "()Ljava/lang/Class;" } : Jvm.MethodName) ({ cls := "java/lang/Object", name := "getClass", desc := "()Ljava/lang/Class;" } : Jvm.MethodName)) ∈ lw_all := lw_g (lw_at lw_m3 99 rfl) rfl
theorem q758 : (Jvm.Cond.selects "SpokenMarks$Mark" ({ cls := "java/lang/Object", name := "hashCode", desc := "()I" } : Jvm.MethodName) ({ cls := "java/lang/Object", name := "hashCode", desc := "()I" } : Jvm.MethodName)) ∈ lw_all := lw_g (lw_at lw_m3 159 rfl) rfl
theorem q1165 : (Jvm.Cond.selects "SpokenMarks$Mark" ({ cls := "java/lang/Object", name := "equals", desc := "(Ljava/lang/Object;)Z" } : Jvm.MethodName) ({ cls := "java/lang/Object", name := "equals", desc := "(Ljava/lang/Object;)Z" } : Jvm.MethodName)) ∈ lw_all := lw_g (lw_at lw_m5 86 rfl) rfl
theorem q1386 : (Jvm.Cond.instantiable "SpokenMarks$Mark" (4 : Nat)) ∈ lw_all := lw_g (lw_at lw_m6 67 rfl) rfl
theorem q1525 : (Jvm.Cond.fieldLinkNest "SpokenMarks$Mark" (44 : Nat) "SpokenMarks$Word" "ear" "Ljava/lang/String;" "SpokenMarks") ∈ lw_tbl := lw_at lw_m6 206 rfl
theorem q1533 : (Jvm.Cond.instanceMethod ({ cls := "SpokenMarks$Mark", name := "<init>", desc := "(ILjava/util/List;II)V" } : Jvm.MethodName)) ∈ lw_all := lw_g (lw_at lw_m6 214 rfl) rfl
theorem q1534 : (Jvm.Cond.code ({ cls := "SpokenMarks$Mark", name := "<init>", desc := "(ILjava/util/List;II)V" } : Jvm.MethodName) prog_8_method_1_code (5 : Nat) (Option.none : Option Jvm.ClassFile.FieldType)) ∈ lw_all := lw_g (lw_at lw_m6 215 rfl) rfl
theorem q1535 : (Jvm.Cond.methodLink "SpokenMarks$Mark" (1 : Nat) ({ cls := "java/lang/Object", name := "<init>", desc := "()V" } : Jvm.MethodName)) ∈ lw_all := lw_g (lw_at lw_m6 216 rfl) rfl
theorem q1536 : (Jvm.Cond.fieldLink "SpokenMarks$Mark" (7 : Nat) "SpokenMarks$Mark" "id" "I") ∈ lw_all := lw_g (lw_at lw_m6 217 rfl) rfl
theorem q1539 : (Jvm.Cond.fieldLink "SpokenMarks$Mark" (13 : Nat) "SpokenMarks$Mark" "parts" "Ljava/util/List;") ∈ lw_all := lw_g (lw_at lw_m6 220 rfl) rfl
theorem q1543 : (Jvm.Cond.fieldLink "SpokenMarks$Mark" (17 : Nat) "SpokenMarks$Mark" "width" "I") ∈ lw_all := lw_g (lw_at lw_m6 224 rfl) rfl
theorem q1547 : (Jvm.Cond.fieldLink "SpokenMarks$Mark" (20 : Nat) "SpokenMarks$Mark" "place" "I") ∈ lw_all := lw_g (lw_at lw_m6 228 rfl) rfl
theorem q1550 : (Jvm.Cond.laysFinal "SpokenMarks$Mark" "SpokenMarks$Mark" "id" "I") ∈ lw_all := lw_g (lw_at lw_m6 231 rfl) rfl
theorem q1551 : (Jvm.Cond.soleField "SpokenMarks$Mark" "id") ∈ lw_all := lw_g (lw_at lw_m6 232 rfl) rfl
theorem q1552 : (Jvm.Cond.laysFinal "SpokenMarks$Mark" "SpokenMarks$Mark" "parts" "Ljava/util/List;") ∈ lw_all := lw_g (lw_at lw_m6 233 rfl) rfl
theorem q1553 : (Jvm.Cond.soleField "SpokenMarks$Mark" "parts") ∈ lw_all := lw_g (lw_at lw_m6 234 rfl) rfl
theorem q1554 : (Jvm.Cond.lays "SpokenMarks$Mark" "SpokenMarks$Mark" "width" "I") ∈ lw_all := lw_g (lw_at lw_m6 235 rfl) rfl
theorem q1555 : (Jvm.Cond.soleField "SpokenMarks$Mark" "width") ∈ lw_all := lw_g (lw_at lw_m6 236 rfl) rfl
theorem q1556 : (Jvm.Cond.lays "SpokenMarks$Mark" "SpokenMarks$Mark" "place" "I") ∈ lw_all := lw_g (lw_at lw_m6 237 rfl) rfl
theorem q1557 : (Jvm.Cond.soleField "SpokenMarks$Mark" "place") ∈ lw_all := lw_g (lw_at lw_m6 238 rfl) rfl
theorem q1558 : (Jvm.Cond.superclass "SpokenMarks$Mark" "java/lang/Object") ∈ lw_all := lw_g (lw_at lw_m6 239 rfl) rfl
theorem q1801 : (Jvm.Cond.instanceMethod ({ cls := "SpokenMarks$Mark", name := "copy", desc := "()LSpokenMarks$Mark;" } : Jvm.MethodName)) ∈ lw_all := lw_g (lw_at lw_m8 2 rfl) rfl
theorem q1802 : (Jvm.Cond.selects "SpokenMarks$Mark" ({ cls := "SpokenMarks$Mark", name := "copy", desc := "()LSpokenMarks$Mark;" } : Jvm.MethodName) ({ cls := "SpokenMarks$Mark", name := "copy", desc := "()LSpokenMarks$Mark;" } : Jvm.MethodName)) ∈ lw_all := lw_g (lw_at lw_m8 3 rfl) rfl
theorem q1803 : (Jvm.Cond.code ({ cls := "SpokenMarks$Mark", name := "copy", desc := "()LSpokenMarks$Mark;" } : Jvm.MethodName) prog_8_method_2_code (1 : Nat) (Option.some (Jvm.ClassFile.FieldType.object "SpokenMarks$Mark"))) ∈ lw_all := lw_g (lw_at lw_m8 4 rfl) rfl
theorem q1804 : (Jvm.Cond.classLink "SpokenMarks$Mark" (8 : Nat) "SpokenMarks$Mark") ∈ lw_all := lw_g (lw_at lw_m8 5 rfl) rfl
theorem q1805 : (Jvm.Cond.methodLink "SpokenMarks$Mark" (23 : Nat) ({ cls := "SpokenMarks$Mark", name := "<init>", desc := "(ILjava/util/List;II)V" } : Jvm.MethodName)) ∈ lw_all := lw_g (lw_at lw_m8 6 rfl) rfl
theorem q2290 : (Jvm.Cond.instanceMethod ({ cls := "SpokenMarks$Mark", name := "words", desc := "()I" } : Jvm.MethodName)) ∈ lw_all := lw_g (lw_at lw_m10 11 rfl) rfl
theorem q2291 : (Jvm.Cond.selects "SpokenMarks$Mark" ({ cls := "SpokenMarks$Mark", name := "words", desc := "()I" } : Jvm.MethodName) ({ cls := "SpokenMarks$Mark", name := "words", desc := "()I" } : Jvm.MethodName)) ∈ lw_all := lw_g (lw_at lw_m10 12 rfl) rfl
theorem q2292 : (Jvm.Cond.code ({ cls := "SpokenMarks$Mark", name := "words", desc := "()I" } : Jvm.MethodName) prog_8_method_3_code (3 : Nat) (Option.some Jvm.ClassFile.FieldType.int)) ∈ lw_all := lw_g (lw_at lw_m10 13 rfl) rfl
theorem q2293 : (Jvm.Cond.interfaceEntry "SpokenMarks$Mark" (26 : Nat)) ∈ lw_tbl := lw_at lw_m10 14 rfl
theorem q2294 : (Jvm.Cond.methodLink "SpokenMarks$Mark" (26 : Nat) ({ cls := "java/util/List", name := "size", desc := "()I" } : Jvm.MethodName)) ∈ lw_all := lw_g (lw_at lw_m10 15 rfl) rfl
theorem q2295 : (Jvm.Cond.interfaceEntry "SpokenMarks$Mark" (32 : Nat)) ∈ lw_tbl := lw_at lw_m10 16 rfl
theorem q2296 : (Jvm.Cond.methodLink "SpokenMarks$Mark" (32 : Nat) ({ cls := "java/util/List", name := "get", desc := "(I)Ljava/lang/Object;" } : Jvm.MethodName)) ∈ lw_all := lw_g (lw_at lw_m10 17 rfl) rfl
theorem q2297 : (Jvm.Cond.classLink "SpokenMarks$Mark" (36 : Nat) "SpokenMarks$Word") ∈ lw_all := lw_g (lw_at lw_m10 18 rfl) rfl
theorem q2298 : (Jvm.Cond.methodLinkNest "SpokenMarks$Mark" (38 : Nat) ({ cls := "SpokenMarks", name := "bit", desc := "(Z)I" } : Jvm.MethodName) "SpokenMarks") ∈ lw_tbl := lw_at lw_m10 19 rfl
theorem q2427 : (Jvm.Cond.instanceMethod ({ cls := "SpokenMarks$Mark", name := "hasEar", desc := "(Ljava/lang/String;)Z" } : Jvm.MethodName)) ∈ lw_all := lw_g (lw_at lw_m10 148 rfl) rfl
theorem q2428 : (Jvm.Cond.selects "SpokenMarks$Mark" ({ cls := "SpokenMarks$Mark", name := "hasEar", desc := "(Ljava/lang/String;)Z" } : Jvm.MethodName) ({ cls := "SpokenMarks$Mark", name := "hasEar", desc := "(Ljava/lang/String;)Z" } : Jvm.MethodName)) ∈ lw_all := lw_g (lw_at lw_m10 149 rfl) rfl
theorem q2429 : (Jvm.Cond.code ({ cls := "SpokenMarks$Mark", name := "hasEar", desc := "(Ljava/lang/String;)Z" } : Jvm.MethodName) prog_8_method_4_code (5 : Nat) (Option.some Jvm.ClassFile.FieldType.boolean)) ∈ lw_all := lw_g (lw_at lw_m10 150 rfl) rfl
theorem q2430 : (Jvm.Cond.methodLink "SpokenMarks$Mark" (48 : Nat) ({ cls := "java/lang/String", name := "equals", desc := "(Ljava/lang/Object;)Z" } : Jvm.MethodName)) ∈ lw_all := lw_g (lw_at lw_m10 151 rfl) rfl
theorem q3448 : (Jvm.Cond.castable "SpokenMarks$Mark" "java/lang/Object") ∈ lw_tbl := lw_at lw_m14 209 rfl
theorem in_X5 : ∀ w ∈ wsX50, w ∈ lw_all := lw_in wsX50 [1550, 1552, 1554, 1556] (by decide +kernel) (by decide +kernel)
/-! SpokenMarks$Word -/
set_option maxRecDepth 100000
def RX6 : String := "SpokenMarks$Word"
def TX6 : u_T := fun k => match k with
  | 0 => ("SpokenMarks$Word", "letters", "Ljava/lang/String;", true)
  | _ => ("SpokenMarks$Word", "ear", "Ljava/lang/String;", true)
def tyX6 : Nat → FieldType := fun k => match k with
  | 0 => .object "java/lang/String"
  | _ => .object "java/lang/String"
abbrev wsX60 : List Cond := u_ws RX6 TX6 2
theorem nmX6 : ∀ a, a < 2 → ∀ b, b < 2 → a ≠ b → (TX6 a).2.1 ≠ (TX6 b).2.1 := by decide +kernel
theorem tyX6_ok : ∀ k, k < 2 → parseFieldDescriptor (TX6 k).2.2.1 = some (tyX6 k) := by decide +kernel
abbrev cX6_init : ByteArray := prog_26_method_1_code
def yX6_init : MethodName := ⟨RX6, "<init>", "(Ljava/lang/String;Ljava/lang/String;)V"⟩
def dkwX6_init_0 : List UInt8 := [42, 183, 0, 1, 42, 43, 181, 0, 7, 42, 44, 181, 0, 13, 177]
abbrev dktX6_init_0 : List UInt8 := dkwX6_init_0 ++ []
theorem dksX6_init_0 : cX6_init.data.toList.drop 0 = dktX6_init_0 := by decide +kernel
theorem dX6_init_0 : decode cX6_init 0 = .ok (.aload_n 0, 1) := dk_42 (dk_at dksX6_init_0 0 rfl rfl)
theorem dX6_init_1 : decode cX6_init 1 = .ok (.invokespecial 1, 3) := dk_183 0 1 (dk_at dksX6_init_0 1 rfl rfl)
theorem dX6_init_4 : decode cX6_init 4 = .ok (.aload_n 0, 1) := dk_42 (dk_at dksX6_init_0 4 rfl rfl)
theorem dX6_init_5 : decode cX6_init 5 = .ok (.aload_n 1, 1) := dk_43 (dk_at dksX6_init_0 5 rfl rfl)
theorem dX6_init_6 : decode cX6_init 6 = .ok (.putfield 7, 3) := dk_181 0 7 (dk_at dksX6_init_0 6 rfl rfl)
theorem dX6_init_9 : decode cX6_init 9 = .ok (.aload_n 0, 1) := dk_42 (dk_at dksX6_init_0 9 rfl rfl)
theorem dX6_init_10 : decode cX6_init 10 = .ok (.aload_n 2, 1) := dk_44 (dk_at dksX6_init_0 10 rfl rfl)
theorem dX6_init_11 : decode cX6_init 11 = .ok (.putfield 13, 3) := dk_181 0 13 (dk_at dksX6_init_0 11 rfl rfl)
theorem dX6_init_14 : decode cX6_init 14 = .ok (.return_, 1) := dk_177 (dk_at dksX6_init_0 14 rfl rfl)
theorem q155 : (Jvm.Cond.initialized "SpokenMarks$Word") ∈ lw_all := lw_g (lw_at lw_m1 36 rfl) rfl
theorem q713 : (Jvm.Cond.selects "SpokenMarks$Word" ({ cls := "java/lang/Object", name := "getClass", desc := "()Ljava/lang/Class;" } : Jvm.MethodName) ({ cls := "java/lang/Object", name := "getClass", desc := "()Ljava/lang/Class;" } : Jvm.MethodName)) ∈ lw_all := lw_g (lw_at lw_m3 114 rfl) rfl
theorem q778 : (Jvm.Cond.selects "SpokenMarks$Word" ({ cls := "java/lang/Object", name := "hashCode", desc := "()I" } : Jvm.MethodName) ({ cls := "java/lang/Object", name := "hashCode", desc := "()I" } : Jvm.MethodName)) ∈ lw_all := lw_g (lw_at lw_m3 179 rfl) rfl
theorem q1182 : (Jvm.Cond.selects "SpokenMarks$Word" ({ cls := "java/lang/Object", name := "equals", desc := "(Ljava/lang/Object;)Z" } : Jvm.MethodName) ({ cls := "java/lang/Object", name := "equals", desc := "(Ljava/lang/Object;)Z" } : Jvm.MethodName)) ∈ lw_all := lw_g (lw_at lw_m5 103 rfl) rfl
theorem q1397 : (Jvm.Cond.instantiable "SpokenMarks$Word" (2 : Nat)) ∈ lw_all := lw_g (lw_at lw_m6 78 rfl) rfl
theorem q1516 : (Jvm.Cond.instanceMethod ({ cls := "SpokenMarks$Word", name := "<init>", desc := "(Ljava/lang/String;Ljava/lang/String;)V" } : Jvm.MethodName)) ∈ lw_all := lw_g (lw_at lw_m6 197 rfl) rfl
theorem q1517 : (Jvm.Cond.code ({ cls := "SpokenMarks$Word", name := "<init>", desc := "(Ljava/lang/String;Ljava/lang/String;)V" } : Jvm.MethodName) prog_26_method_1_code (3 : Nat) (Option.none : Option Jvm.ClassFile.FieldType)) ∈ lw_all := lw_g (lw_at lw_m6 198 rfl) rfl
theorem q1518 : (Jvm.Cond.methodLink "SpokenMarks$Word" (1 : Nat) ({ cls := "java/lang/Object", name := "<init>", desc := "()V" } : Jvm.MethodName)) ∈ lw_all := lw_g (lw_at lw_m6 199 rfl) rfl
theorem q1519 : (Jvm.Cond.fieldLink "SpokenMarks$Word" (7 : Nat) "SpokenMarks$Word" "letters" "Ljava/lang/String;") ∈ lw_all := lw_g (lw_at lw_m6 200 rfl) rfl
theorem q1523 : (Jvm.Cond.fieldLink "SpokenMarks$Word" (13 : Nat) "SpokenMarks$Word" "ear" "Ljava/lang/String;") ∈ lw_all := lw_g (lw_at lw_m6 204 rfl) rfl
theorem q1527 : (Jvm.Cond.laysFinal "SpokenMarks$Word" "SpokenMarks$Word" "letters" "Ljava/lang/String;") ∈ lw_all := lw_g (lw_at lw_m6 208 rfl) rfl
theorem q1528 : (Jvm.Cond.soleField "SpokenMarks$Word" "letters") ∈ lw_all := lw_g (lw_at lw_m6 209 rfl) rfl
theorem q1529 : (Jvm.Cond.laysFinal "SpokenMarks$Word" "SpokenMarks$Word" "ear" "Ljava/lang/String;") ∈ lw_all := lw_g (lw_at lw_m6 210 rfl) rfl
theorem q1530 : (Jvm.Cond.soleField "SpokenMarks$Word" "ear") ∈ lw_all := lw_g (lw_at lw_m6 211 rfl) rfl
theorem q1531 : (Jvm.Cond.superclass "SpokenMarks$Word" "java/lang/Object") ∈ lw_all := lw_g (lw_at lw_m6 212 rfl) rfl
theorem q3423 : (Jvm.Cond.castable "SpokenMarks$Word" "SpokenMarks$Part") ∈ lw_tbl := lw_at lw_m14 184 rfl
theorem q3449 : (Jvm.Cond.castable "SpokenMarks$Word" "java/lang/Object") ∈ lw_tbl := lw_at lw_m14 210 rfl
theorem in_X6 : ∀ w ∈ wsX60, w ∈ lw_all := lw_in wsX60 [1527, 1529] (by decide +kernel) (by decide +kernel)
/-! SpokenMarks$Step -/
set_option maxRecDepth 100000
def RX7 : String := "SpokenMarks$Step"
abbrev cX7_earOf : ByteArray := prog_17_method_6_code
def yX7_earOf : MethodName := ⟨RX7, "earOf", "(Ljava/lang/String;)Ljava/lang/String;"⟩
def dkwX7_earOf_2 : List UInt8 := [76, 132, 4, 1, 167, 255, 216, 43, 176]
abbrev dktX7_earOf_2 : List UInt8 := dkwX7_earOf_2 ++ []
def dkwX7_earOf_1 : List UInt8 := [187, 0, 55, 89, 16, 8, 183, 0, 64, 58, 6, 25, 5, 43, 25, 6, 182, 0, 67, 25, 6, 182, 0, 71]
abbrev dktX7_earOf_1 : List UInt8 := dkwX7_earOf_1 ++ dktX7_earOf_2
def dkwX7_earOf_0 : List UInt8 := [42, 76, 184, 0, 60, 77, 44, 190, 62, 3, 54, 4, 21, 4, 29, 162, 0, 40, 44, 21, 4, 50, 58, 5]
abbrev dktX7_earOf_0 : List UInt8 := dkwX7_earOf_0 ++ dktX7_earOf_1
theorem dksX7_earOf_0 : cX7_earOf.data.toList.drop 0 = dktX7_earOf_0 := by decide +kernel
theorem dksX7_earOf_1 : cX7_earOf.data.toList.drop 24 = dktX7_earOf_1 := dk_seg dksX7_earOf_0 24 rfl rfl
theorem dksX7_earOf_2 : cX7_earOf.data.toList.drop 48 = dktX7_earOf_2 := dk_seg dksX7_earOf_1 24 rfl rfl
theorem dX7_earOf_0 : decode cX7_earOf 0 = .ok (.aload_n 0, 1) := dk_42 (dk_at dksX7_earOf_0 0 rfl rfl)
theorem dX7_earOf_1 : decode cX7_earOf 1 = .ok (.astore_n 1, 1) := dk_76 (dk_at dksX7_earOf_0 1 rfl rfl)
theorem dX7_earOf_2 : decode cX7_earOf 2 = .ok (.invokestatic 60, 3) := dk_184 0 60 (dk_at dksX7_earOf_0 2 rfl rfl)
theorem dX7_earOf_5 : decode cX7_earOf 5 = .ok (.astore_n 2, 1) := dk_77 (dk_at dksX7_earOf_0 5 rfl rfl)
theorem dX7_earOf_6 : decode cX7_earOf 6 = .ok (.aload_n 2, 1) := dk_44 (dk_at dksX7_earOf_0 6 rfl rfl)
theorem dX7_earOf_7 : decode cX7_earOf 7 = .ok (.arraylength, 1) := dk_190 (dk_at dksX7_earOf_0 7 rfl rfl)
theorem dX7_earOf_8 : decode cX7_earOf 8 = .ok (.istore_n 3, 1) := dk_62 (dk_at dksX7_earOf_0 8 rfl rfl)
theorem dX7_earOf_9 : decode cX7_earOf 9 = .ok (.iconst 0, 1) := dk_3 (dk_at dksX7_earOf_0 9 rfl rfl)
theorem dX7_earOf_10 : decode cX7_earOf 10 = .ok (.istore 4, 2) := dk_54 4 (dk_at dksX7_earOf_0 10 rfl rfl)
theorem dX7_earOf_12 : decode cX7_earOf 12 = .ok (.iload 4, 2) := dk_21 4 (dk_at dksX7_earOf_0 12 rfl rfl)
theorem dX7_earOf_14 : decode cX7_earOf 14 = .ok (.iload_n 3, 1) := dk_29 (dk_at dksX7_earOf_0 14 rfl rfl)
theorem dX7_earOf_15 : decode cX7_earOf 15 = .ok (.if_icmp .ge 40, 3) := dk_162 0 40 (dk_at dksX7_earOf_0 15 rfl rfl)
theorem dX7_earOf_18 : decode cX7_earOf 18 = .ok (.aload_n 2, 1) := dk_44 (dk_at dksX7_earOf_0 18 rfl rfl)
theorem dX7_earOf_19 : decode cX7_earOf 19 = .ok (.iload 4, 2) := dk_21 4 (dk_at dksX7_earOf_0 19 rfl rfl)
theorem dX7_earOf_21 : decode cX7_earOf 21 = .ok (.aaload, 1) := dk_50 (dk_at dksX7_earOf_0 21 rfl rfl)
theorem dX7_earOf_22 : decode cX7_earOf 22 = .ok (.astore 5, 2) := dk_58 5 (dk_at dksX7_earOf_0 22 rfl rfl)
theorem dX7_earOf_24 : decode cX7_earOf 24 = .ok (.new 55, 3) := dk_187 0 55 (dk_at dksX7_earOf_1 0 rfl rfl)
theorem dX7_earOf_27 : decode cX7_earOf 27 = .ok (.dup, 1) := dk_89 (dk_at dksX7_earOf_1 3 rfl rfl)
theorem dX7_earOf_28 : decode cX7_earOf 28 = .ok (.bipush 8, 2) := dk_16 8 (dk_at dksX7_earOf_1 4 rfl rfl)
theorem dX7_earOf_30 : decode cX7_earOf 30 = .ok (.invokespecial 64, 3) := dk_183 0 64 (dk_at dksX7_earOf_1 6 rfl rfl)
theorem dX7_earOf_33 : decode cX7_earOf 33 = .ok (.astore 6, 2) := dk_58 6 (dk_at dksX7_earOf_1 9 rfl rfl)
theorem dX7_earOf_35 : decode cX7_earOf 35 = .ok (.aload 5, 2) := dk_25 5 (dk_at dksX7_earOf_1 11 rfl rfl)
theorem dX7_earOf_37 : decode cX7_earOf 37 = .ok (.aload_n 1, 1) := dk_43 (dk_at dksX7_earOf_1 13 rfl rfl)
theorem dX7_earOf_38 : decode cX7_earOf 38 = .ok (.aload 6, 2) := dk_25 6 (dk_at dksX7_earOf_1 14 rfl rfl)
theorem dX7_earOf_40 : decode cX7_earOf 40 = .ok (.invokevirtual 67, 3) := dk_182 0 67 (dk_at dksX7_earOf_1 16 rfl rfl)
theorem dX7_earOf_43 : decode cX7_earOf 43 = .ok (.aload 6, 2) := dk_25 6 (dk_at dksX7_earOf_1 19 rfl rfl)
theorem dX7_earOf_45 : decode cX7_earOf 45 = .ok (.invokevirtual 71, 3) := dk_182 0 71 (dk_at dksX7_earOf_1 21 rfl rfl)
theorem dX7_earOf_48 : decode cX7_earOf 48 = .ok (.astore_n 1, 1) := dk_76 (dk_at dksX7_earOf_2 0 rfl rfl)
theorem dX7_earOf_49 : decode cX7_earOf 49 = .ok (.iinc 4 1, 3) := dk_132 4 1 (dk_at dksX7_earOf_2 1 rfl rfl)
theorem dX7_earOf_52 : decode cX7_earOf 52 = .ok (.goto (-40), 3) := dk_167 255 216 (dk_at dksX7_earOf_2 4 rfl rfl)
theorem dX7_earOf_55 : decode cX7_earOf 55 = .ok (.aload_n 1, 1) := dk_43 (dk_at dksX7_earOf_2 7 rfl rfl)
theorem dX7_earOf_56 : decode cX7_earOf 56 = .ok (.areturn, 1) := dk_176 (dk_at dksX7_earOf_2 8 rfl rfl)
abbrev cX7_values : ByteArray := prog_17_method_1_code
def yX7_values : MethodName := ⟨RX7, "values", "()[LSpokenMarks$Step;"⟩
def dkwX7_values_0 : List UInt8 := [178, 0, 21, 182, 0, 25, 192, 0, 26, 176]
abbrev dktX7_values_0 : List UInt8 := dkwX7_values_0 ++ []
theorem dksX7_values_0 : cX7_values.data.toList.drop 0 = dktX7_values_0 := by decide +kernel
theorem dX7_values_0 : decode cX7_values 0 = .ok (.getstatic 21, 3) := dk_178 0 21 (dk_at dksX7_values_0 0 rfl rfl)
theorem dX7_values_3 : decode cX7_values 3 = .ok (.invokevirtual 25, 3) := dk_182 0 25 (dk_at dksX7_values_0 3 rfl rfl)
theorem dX7_values_6 : decode cX7_values 6 = .ok (.checkcast 26, 3) := dk_192 0 26 (dk_at dksX7_values_0 6 rfl rfl)
theorem dX7_values_9 : decode cX7_values 9 = .ok (.areturn, 1) := dk_176 (dk_at dksX7_values_0 9 rfl rfl)
abbrev cX7_pairs : ByteArray := prog_17_method_5_code
def yX7_pairs : MethodName := ⟨RX7, "pairs", "(Ljava/lang/String;Ljava/lang/StringBuilder;Ljava/lang/String;C)V"⟩
def dkwX7_pairs_2 : List UInt8 := [5, 167, 0, 4, 4, 96, 54, 4, 167, 255, 203, 177]
abbrev dktX7_pairs_2 : List UInt8 := dkwX7_pairs_2 ++ []
def dkwX7_pairs_1 : List UInt8 := [153, 0, 7, 29, 167, 0, 9, 42, 21, 4, 182, 0, 50, 182, 0, 54, 87, 21, 4, 21, 5, 153, 0, 7]
abbrev dktX7_pairs_1 : List UInt8 := dkwX7_pairs_1 ++ dktX7_pairs_2
def dkwX7_pairs_0 : List UInt8 := [3, 54, 4, 21, 4, 42, 182, 0, 40, 162, 0, 50, 42, 44, 21, 4, 182, 0, 46, 54, 5, 43, 21, 5]
abbrev dktX7_pairs_0 : List UInt8 := dkwX7_pairs_0 ++ dktX7_pairs_1
theorem dksX7_pairs_0 : cX7_pairs.data.toList.drop 0 = dktX7_pairs_0 := by decide +kernel
theorem dksX7_pairs_1 : cX7_pairs.data.toList.drop 24 = dktX7_pairs_1 := dk_seg dksX7_pairs_0 24 rfl rfl
theorem dksX7_pairs_2 : cX7_pairs.data.toList.drop 48 = dktX7_pairs_2 := dk_seg dksX7_pairs_1 24 rfl rfl
theorem dX7_pairs_0 : decode cX7_pairs 0 = .ok (.iconst 0, 1) := dk_3 (dk_at dksX7_pairs_0 0 rfl rfl)
theorem dX7_pairs_1 : decode cX7_pairs 1 = .ok (.istore 4, 2) := dk_54 4 (dk_at dksX7_pairs_0 1 rfl rfl)
theorem dX7_pairs_3 : decode cX7_pairs 3 = .ok (.iload 4, 2) := dk_21 4 (dk_at dksX7_pairs_0 3 rfl rfl)
theorem dX7_pairs_5 : decode cX7_pairs 5 = .ok (.aload_n 0, 1) := dk_42 (dk_at dksX7_pairs_0 5 rfl rfl)
theorem dX7_pairs_6 : decode cX7_pairs 6 = .ok (.invokevirtual 40, 3) := dk_182 0 40 (dk_at dksX7_pairs_0 6 rfl rfl)
theorem dX7_pairs_9 : decode cX7_pairs 9 = .ok (.if_icmp .ge 50, 3) := dk_162 0 50 (dk_at dksX7_pairs_0 9 rfl rfl)
theorem dX7_pairs_12 : decode cX7_pairs 12 = .ok (.aload_n 0, 1) := dk_42 (dk_at dksX7_pairs_0 12 rfl rfl)
theorem dX7_pairs_13 : decode cX7_pairs 13 = .ok (.aload_n 2, 1) := dk_44 (dk_at dksX7_pairs_0 13 rfl rfl)
theorem dX7_pairs_14 : decode cX7_pairs 14 = .ok (.iload 4, 2) := dk_21 4 (dk_at dksX7_pairs_0 14 rfl rfl)
theorem dX7_pairs_16 : decode cX7_pairs 16 = .ok (.invokevirtual 46, 3) := dk_182 0 46 (dk_at dksX7_pairs_0 16 rfl rfl)
theorem dX7_pairs_19 : decode cX7_pairs 19 = .ok (.istore 5, 2) := dk_54 5 (dk_at dksX7_pairs_0 19 rfl rfl)
theorem dX7_pairs_21 : decode cX7_pairs 21 = .ok (.aload_n 1, 1) := dk_43 (dk_at dksX7_pairs_0 21 rfl rfl)
theorem dX7_pairs_22 : decode cX7_pairs 22 = .ok (.iload 5, 2) := dk_21 5 (dk_at dksX7_pairs_0 22 rfl rfl)
theorem dX7_pairs_24 : decode cX7_pairs 24 = .ok (.ifCond .eq 7, 3) := dk_153 0 7 (dk_at dksX7_pairs_1 0 rfl rfl)
theorem dX7_pairs_27 : decode cX7_pairs 27 = .ok (.iload_n 3, 1) := dk_29 (dk_at dksX7_pairs_1 3 rfl rfl)
theorem dX7_pairs_28 : decode cX7_pairs 28 = .ok (.goto 9, 3) := dk_167 0 9 (dk_at dksX7_pairs_1 4 rfl rfl)
theorem dX7_pairs_31 : decode cX7_pairs 31 = .ok (.aload_n 0, 1) := dk_42 (dk_at dksX7_pairs_1 7 rfl rfl)
theorem dX7_pairs_32 : decode cX7_pairs 32 = .ok (.iload 4, 2) := dk_21 4 (dk_at dksX7_pairs_1 8 rfl rfl)
theorem dX7_pairs_34 : decode cX7_pairs 34 = .ok (.invokevirtual 50, 3) := dk_182 0 50 (dk_at dksX7_pairs_1 10 rfl rfl)
theorem dX7_pairs_37 : decode cX7_pairs 37 = .ok (.invokevirtual 54, 3) := dk_182 0 54 (dk_at dksX7_pairs_1 13 rfl rfl)
theorem dX7_pairs_40 : decode cX7_pairs 40 = .ok (.pop, 1) := dk_87 (dk_at dksX7_pairs_1 16 rfl rfl)
theorem dX7_pairs_41 : decode cX7_pairs 41 = .ok (.iload 4, 2) := dk_21 4 (dk_at dksX7_pairs_1 17 rfl rfl)
theorem dX7_pairs_43 : decode cX7_pairs 43 = .ok (.iload 5, 2) := dk_21 5 (dk_at dksX7_pairs_1 19 rfl rfl)
theorem dX7_pairs_45 : decode cX7_pairs 45 = .ok (.ifCond .eq 7, 3) := dk_153 0 7 (dk_at dksX7_pairs_1 21 rfl rfl)
theorem dX7_pairs_48 : decode cX7_pairs 48 = .ok (.iconst 2, 1) := dk_5 (dk_at dksX7_pairs_2 0 rfl rfl)
theorem dX7_pairs_49 : decode cX7_pairs 49 = .ok (.goto 4, 3) := dk_167 0 4 (dk_at dksX7_pairs_2 1 rfl rfl)
theorem dX7_pairs_52 : decode cX7_pairs 52 = .ok (.iconst 1, 1) := dk_4 (dk_at dksX7_pairs_2 4 rfl rfl)
theorem dX7_pairs_53 : decode cX7_pairs 53 = .ok (.iadd, 1) := dk_96 (dk_at dksX7_pairs_2 5 rfl rfl)
theorem dX7_pairs_54 : decode cX7_pairs 54 = .ok (.istore 4, 2) := dk_54 4 (dk_at dksX7_pairs_2 6 rfl rfl)
theorem dX7_pairs_56 : decode cX7_pairs 56 = .ok (.goto (-53), 3) := dk_167 255 203 (dk_at dksX7_pairs_2 8 rfl rfl)
theorem dX7_pairs_59 : decode cX7_pairs 59 = .ok (.return_, 1) := dk_177 (dk_at dksX7_pairs_2 11 rfl rfl)
theorem q157 : (Jvm.Cond.initialized "SpokenMarks$Step") ∈ lw_all := lw_g (lw_at lw_m1 38 rfl) rfl
theorem q1421 : (Jvm.Cond.static ({ cls := "SpokenMarks$Step", name := "earOf", desc := "(Ljava/lang/String;)Ljava/lang/String;" } : Jvm.MethodName)) ∈ lw_all := lw_g (lw_at lw_m6 102 rfl) rfl
theorem q1422 : (Jvm.Cond.code ({ cls := "SpokenMarks$Step", name := "earOf", desc := "(Ljava/lang/String;)Ljava/lang/String;" } : Jvm.MethodName) prog_17_method_6_code (7 : Nat) (Option.some (Jvm.ClassFile.FieldType.object "java/lang/String"))) ∈ lw_all := lw_g (lw_at lw_m6 103 rfl) rfl
theorem q1423 : (Jvm.Cond.methodLink "SpokenMarks$Step" (60 : Nat) ({ cls := "SpokenMarks$Step", name := "values", desc := "()[LSpokenMarks$Step;" } : Jvm.MethodName)) ∈ lw_all := lw_g (lw_at lw_m6 104 rfl) rfl
theorem q1424 : (Jvm.Cond.static ({ cls := "SpokenMarks$Step", name := "values", desc := "()[LSpokenMarks$Step;" } : Jvm.MethodName)) ∈ lw_all := lw_g (lw_at lw_m6 105 rfl) rfl
theorem q1425 : (Jvm.Cond.code ({ cls := "SpokenMarks$Step", name := "values", desc := "()[LSpokenMarks$Step;" } : Jvm.MethodName) prog_17_method_1_code (0 : Nat) (Option.some (Jvm.ClassFile.FieldType.array (Jvm.ClassFile.FieldType.object "SpokenMarks$Step")))) ∈ lw_all := lw_g (lw_at lw_m6 106 rfl) rfl
theorem q1426 : (Jvm.Cond.fieldLink "SpokenMarks$Step" (21 : Nat) "SpokenMarks$Step" "$VALUES" "[LSpokenMarks$Step;") ∈ lw_all := lw_g (lw_at lw_m6 107 rfl) rfl
theorem q1427 : (Jvm.Cond.laysStatic "SpokenMarks$Step" "$VALUES" "[LSpokenMarks$Step;") ∈ lw_tbl := lw_at lw_m6 108 rfl
theorem q1428 : (Jvm.Cond.methodLink "SpokenMarks$Step" (25 : Nat) ({ cls := "[LSpokenMarks$Step;", name := "clone", desc := "()Ljava/lang/Object;" } : Jvm.MethodName)) ∈ lw_all := lw_g (lw_at lw_m6 109 rfl) rfl
theorem q1433 : (Jvm.Cond.classLink "SpokenMarks$Step" (26 : Nat) "[LSpokenMarks$Step;") ∈ lw_all := lw_g (lw_at lw_m6 114 rfl) rfl
theorem q1434 : (Jvm.Cond.classLink "SpokenMarks$Step" (55 : Nat) "java/lang/StringBuilder") ∈ lw_all := lw_g (lw_at lw_m6 115 rfl) rfl
theorem q1435 : (Jvm.Cond.methodLink "SpokenMarks$Step" (64 : Nat) ({ cls := "java/lang/StringBuilder", name := "<init>", desc := "(I)V" } : Jvm.MethodName)) ∈ lw_all := lw_g (lw_at lw_m6 116 rfl) rfl
theorem q1438 : (Jvm.Cond.methodLink "SpokenMarks$Step" (67 : Nat) ({ cls := "SpokenMarks$Step", name := "hear", desc := "(Ljava/lang/String;Ljava/lang/StringBuilder;)V" } : Jvm.MethodName)) ∈ lw_all := lw_g (lw_at lw_m6 119 rfl) rfl
theorem q1439 : (Jvm.Cond.declares ({ cls := "SpokenMarks$Step", name := "hear", desc := "(Ljava/lang/String;Ljava/lang/StringBuilder;)V" } : Jvm.MethodName)) ∈ lw_tbl := lw_at lw_m6 120 rfl
theorem q1440 : (Jvm.Cond.sameMethod "SpokenMarks$Step" "SpokenMarks$Step" "hear" "(Ljava/lang/String;Ljava/lang/StringBuilder;)V") ∈ lw_all := lw_g (lw_at lw_m6 121 rfl) rfl
theorem q1446 : (Jvm.Cond.static ({ cls := "SpokenMarks$Step", name := "pairs", desc := "(Ljava/lang/String;Ljava/lang/StringBuilder;Ljava/lang/String;C)V" } : Jvm.MethodName)) ∈ lw_all := lw_g (lw_at lw_m6 127 rfl) rfl
theorem q1447 : (Jvm.Cond.code ({ cls := "SpokenMarks$Step", name := "pairs", desc := "(Ljava/lang/String;Ljava/lang/StringBuilder;Ljava/lang/String;C)V" } : Jvm.MethodName) prog_17_method_5_code (6 : Nat) (Option.none : Option Jvm.ClassFile.FieldType)) ∈ lw_all := lw_g (lw_at lw_m6 128 rfl) rfl
theorem q1448 : (Jvm.Cond.methodLink "SpokenMarks$Step" (40 : Nat) ({ cls := "java/lang/String", name := "length", desc := "()I" } : Jvm.MethodName)) ∈ lw_all := lw_g (lw_at lw_m6 129 rfl) rfl
theorem q1449 : (Jvm.Cond.methodLink "SpokenMarks$Step" (46 : Nat) ({ cls := "java/lang/String", name := "startsWith", desc := "(Ljava/lang/String;I)Z" } : Jvm.MethodName)) ∈ lw_all := lw_g (lw_at lw_m6 130 rfl) rfl
theorem q1458 : (Jvm.Cond.methodLink "SpokenMarks$Step" (50 : Nat) ({ cls := "java/lang/String", name := "charAt", desc := "(I)C" } : Jvm.MethodName)) ∈ lw_all := lw_g (lw_at lw_m6 139 rfl) rfl
theorem q1478 : (Jvm.Cond.methodLink "SpokenMarks$Step" (54 : Nat) ({ cls := "java/lang/StringBuilder", name := "append", desc := "(C)Ljava/lang/StringBuilder;" } : Jvm.MethodName)) ∈ lw_all := lw_g (lw_at lw_m6 159 rfl) rfl
theorem q1514 : (Jvm.Cond.methodLink "SpokenMarks$Step" (71 : Nat) ({ cls := "java/lang/StringBuilder", name := "toString", desc := "()Ljava/lang/String;" } : Jvm.MethodName)) ∈ lw_all := lw_g (lw_at lw_m6 195 rfl) rfl
theorem q3432 : (Jvm.Cond.castable "SpokenMarks$Step" "java/lang/Object") ∈ lw_tbl := lw_at lw_m14 193 rfl
theorem q3488 : (Jvm.Cond.laysStatic "SpokenMarks$Step" "PAIR_PH" "LSpokenMarks$Step;") ∈ lw_tbl := lw_at lw_m15 9 rfl
theorem q3489 : (Jvm.Cond.laysStatic "SpokenMarks$Step" "PAIR_CK" "LSpokenMarks$Step;") ∈ lw_tbl := lw_at lw_m15 10 rfl
theorem q3490 : (Jvm.Cond.laysStatic "SpokenMarks$Step" "LETTERS" "LSpokenMarks$Step;") ∈ lw_tbl := lw_at lw_m15 11 rfl
theorem q3491 : (Jvm.Cond.laysStatic "SpokenMarks$Step" "SILENT" "LSpokenMarks$Step;") ∈ lw_tbl := lw_at lw_m15 12 rfl
theorem q3492 : (Jvm.Cond.laysStatic "SpokenMarks$Step" "RUNS" "LSpokenMarks$Step;") ∈ lw_tbl := lw_at lw_m15 13 rfl
/-! SpokenMarks$Part -/
set_option maxRecDepth 100000
def RX8 : String := "SpokenMarks$Part"
abbrev cX8_compare : ByteArray := prog_10_method_1_code
def yX8_compare : MethodName := ⟨RX8, "compare", "(LSpokenMarks$Part;LSpokenMarks$Part;Z)I"⟩
def dkwX8_compare_3 : List UInt8 := [180, 0, 15, 182, 0, 19, 167, 0, 15, 25, 4, 180, 0, 25, 45, 180, 0, 25, 182, 0, 19, 172, 4, 172]
abbrev dktX8_compare_3 : List UInt8 := dkwX8_compare_3 ++ []
def dkwX8_compare_2 : List UInt8 := [153, 0, 46, 43, 192, 0, 13, 78, 42, 192, 0, 13, 58, 4, 28, 153, 0, 18, 25, 4, 180, 0, 15, 45]
abbrev dktX8_compare_2 : List UInt8 := dkwX8_compare_2 ++ dktX8_compare_3
def dkwX8_compare_1 : List UInt8 := [58, 4, 45, 180, 0, 3, 25, 4, 180, 0, 3, 184, 0, 7, 167, 0, 4, 2, 172, 43, 193, 0, 13]
abbrev dktX8_compare_1 : List UInt8 := dkwX8_compare_1 ++ dktX8_compare_2
def dkwX8_compare_0 : List UInt8 := [42, 193, 0, 1, 153, 0, 38, 42, 192, 0, 1, 78, 43, 193, 0, 1, 153, 0, 24, 43, 192, 0, 1]
abbrev dktX8_compare_0 : List UInt8 := dkwX8_compare_0 ++ dktX8_compare_1
theorem dksX8_compare_0 : cX8_compare.data.toList.drop 0 = dktX8_compare_0 := by decide +kernel
theorem dksX8_compare_1 : cX8_compare.data.toList.drop 23 = dktX8_compare_1 := dk_seg dksX8_compare_0 23 rfl rfl
theorem dksX8_compare_2 : cX8_compare.data.toList.drop 46 = dktX8_compare_2 := dk_seg dksX8_compare_1 23 rfl rfl
theorem dksX8_compare_3 : cX8_compare.data.toList.drop 70 = dktX8_compare_3 := dk_seg dksX8_compare_2 24 rfl rfl
theorem dX8_compare_0 : decode cX8_compare 0 = .ok (.aload_n 0, 1) := dk_42 (dk_at dksX8_compare_0 0 rfl rfl)
theorem dX8_compare_1 : decode cX8_compare 1 = .ok (.instanceof 1, 3) := dk_193 0 1 (dk_at dksX8_compare_0 1 rfl rfl)
theorem dX8_compare_4 : decode cX8_compare 4 = .ok (.ifCond .eq 38, 3) := dk_153 0 38 (dk_at dksX8_compare_0 4 rfl rfl)
theorem dX8_compare_7 : decode cX8_compare 7 = .ok (.aload_n 0, 1) := dk_42 (dk_at dksX8_compare_0 7 rfl rfl)
theorem dX8_compare_8 : decode cX8_compare 8 = .ok (.checkcast 1, 3) := dk_192 0 1 (dk_at dksX8_compare_0 8 rfl rfl)
theorem dX8_compare_11 : decode cX8_compare 11 = .ok (.astore_n 3, 1) := dk_78 (dk_at dksX8_compare_0 11 rfl rfl)
theorem dX8_compare_12 : decode cX8_compare 12 = .ok (.aload_n 1, 1) := dk_43 (dk_at dksX8_compare_0 12 rfl rfl)
theorem dX8_compare_13 : decode cX8_compare 13 = .ok (.instanceof 1, 3) := dk_193 0 1 (dk_at dksX8_compare_0 13 rfl rfl)
theorem dX8_compare_16 : decode cX8_compare 16 = .ok (.ifCond .eq 24, 3) := dk_153 0 24 (dk_at dksX8_compare_0 16 rfl rfl)
theorem dX8_compare_19 : decode cX8_compare 19 = .ok (.aload_n 1, 1) := dk_43 (dk_at dksX8_compare_0 19 rfl rfl)
theorem dX8_compare_20 : decode cX8_compare 20 = .ok (.checkcast 1, 3) := dk_192 0 1 (dk_at dksX8_compare_0 20 rfl rfl)
theorem dX8_compare_23 : decode cX8_compare 23 = .ok (.astore 4, 2) := dk_58 4 (dk_at dksX8_compare_1 0 rfl rfl)
theorem dX8_compare_25 : decode cX8_compare 25 = .ok (.aload_n 3, 1) := dk_45 (dk_at dksX8_compare_1 2 rfl rfl)
theorem dX8_compare_26 : decode cX8_compare 26 = .ok (.getfield 3, 3) := dk_180 0 3 (dk_at dksX8_compare_1 3 rfl rfl)
theorem dX8_compare_29 : decode cX8_compare 29 = .ok (.aload 4, 2) := dk_25 4 (dk_at dksX8_compare_1 6 rfl rfl)
theorem dX8_compare_31 : decode cX8_compare 31 = .ok (.getfield 3, 3) := dk_180 0 3 (dk_at dksX8_compare_1 8 rfl rfl)
theorem dX8_compare_34 : decode cX8_compare 34 = .ok (.invokestatic 7, 3) := dk_184 0 7 (dk_at dksX8_compare_1 11 rfl rfl)
theorem dX8_compare_37 : decode cX8_compare 37 = .ok (.goto 4, 3) := dk_167 0 4 (dk_at dksX8_compare_1 14 rfl rfl)
theorem dX8_compare_40 : decode cX8_compare 40 = .ok (.iconst (-1), 1) := dk_2 (dk_at dksX8_compare_1 17 rfl rfl)
theorem dX8_compare_41 : decode cX8_compare 41 = .ok (.ireturn, 1) := dk_172 (dk_at dksX8_compare_1 18 rfl rfl)
theorem dX8_compare_42 : decode cX8_compare 42 = .ok (.aload_n 1, 1) := dk_43 (dk_at dksX8_compare_1 19 rfl rfl)
theorem dX8_compare_43 : decode cX8_compare 43 = .ok (.instanceof 13, 3) := dk_193 0 13 (dk_at dksX8_compare_1 20 rfl rfl)
theorem dX8_compare_46 : decode cX8_compare 46 = .ok (.ifCond .eq 46, 3) := dk_153 0 46 (dk_at dksX8_compare_2 0 rfl rfl)
theorem dX8_compare_49 : decode cX8_compare 49 = .ok (.aload_n 1, 1) := dk_43 (dk_at dksX8_compare_2 3 rfl rfl)
theorem dX8_compare_50 : decode cX8_compare 50 = .ok (.checkcast 13, 3) := dk_192 0 13 (dk_at dksX8_compare_2 4 rfl rfl)
theorem dX8_compare_53 : decode cX8_compare 53 = .ok (.astore_n 3, 1) := dk_78 (dk_at dksX8_compare_2 7 rfl rfl)
theorem dX8_compare_54 : decode cX8_compare 54 = .ok (.aload_n 0, 1) := dk_42 (dk_at dksX8_compare_2 8 rfl rfl)
theorem dX8_compare_55 : decode cX8_compare 55 = .ok (.checkcast 13, 3) := dk_192 0 13 (dk_at dksX8_compare_2 9 rfl rfl)
theorem dX8_compare_58 : decode cX8_compare 58 = .ok (.astore 4, 2) := dk_58 4 (dk_at dksX8_compare_2 12 rfl rfl)
theorem dX8_compare_60 : decode cX8_compare 60 = .ok (.iload_n 2, 1) := dk_28 (dk_at dksX8_compare_2 14 rfl rfl)
theorem dX8_compare_61 : decode cX8_compare 61 = .ok (.ifCond .eq 18, 3) := dk_153 0 18 (dk_at dksX8_compare_2 15 rfl rfl)
theorem dX8_compare_64 : decode cX8_compare 64 = .ok (.aload 4, 2) := dk_25 4 (dk_at dksX8_compare_2 18 rfl rfl)
theorem dX8_compare_66 : decode cX8_compare 66 = .ok (.getfield 15, 3) := dk_180 0 15 (dk_at dksX8_compare_2 20 rfl rfl)
theorem dX8_compare_69 : decode cX8_compare 69 = .ok (.aload_n 3, 1) := dk_45 (dk_at dksX8_compare_2 23 rfl rfl)
theorem dX8_compare_70 : decode cX8_compare 70 = .ok (.getfield 15, 3) := dk_180 0 15 (dk_at dksX8_compare_3 0 rfl rfl)
theorem dX8_compare_73 : decode cX8_compare 73 = .ok (.invokevirtual 19, 3) := dk_182 0 19 (dk_at dksX8_compare_3 3 rfl rfl)
theorem dX8_compare_76 : decode cX8_compare 76 = .ok (.goto 15, 3) := dk_167 0 15 (dk_at dksX8_compare_3 6 rfl rfl)
theorem dX8_compare_79 : decode cX8_compare 79 = .ok (.aload 4, 2) := dk_25 4 (dk_at dksX8_compare_3 9 rfl rfl)
theorem dX8_compare_81 : decode cX8_compare 81 = .ok (.getfield 25, 3) := dk_180 0 25 (dk_at dksX8_compare_3 11 rfl rfl)
theorem dX8_compare_84 : decode cX8_compare 84 = .ok (.aload_n 3, 1) := dk_45 (dk_at dksX8_compare_3 14 rfl rfl)
theorem dX8_compare_85 : decode cX8_compare 85 = .ok (.getfield 25, 3) := dk_180 0 25 (dk_at dksX8_compare_3 15 rfl rfl)
theorem dX8_compare_88 : decode cX8_compare 88 = .ok (.invokevirtual 19, 3) := dk_182 0 19 (dk_at dksX8_compare_3 18 rfl rfl)
theorem dX8_compare_91 : decode cX8_compare 91 = .ok (.ireturn, 1) := dk_172 (dk_at dksX8_compare_3 21 rfl rfl)
theorem dX8_compare_92 : decode cX8_compare 92 = .ok (.iconst 1, 1) := dk_4 (dk_at dksX8_compare_3 22 rfl rfl)
theorem dX8_compare_93 : decode cX8_compare 93 = .ok (.ireturn, 1) := dk_172 (dk_at dksX8_compare_3 23 rfl rfl)
theorem q159 : (Jvm.Cond.initialized "SpokenMarks$Part") ∈ lw_all := lw_g (lw_at lw_m1 40 rfl) rfl
theorem q1520 : (Jvm.Cond.fieldLinkNest "SpokenMarks$Part" (25 : Nat) "SpokenMarks$Word" "letters" "Ljava/lang/String;" "SpokenMarks") ∈ lw_tbl := lw_at lw_m6 201 rfl
theorem q1524 : (Jvm.Cond.fieldLinkNest "SpokenMarks$Part" (15 : Nat) "SpokenMarks$Word" "ear" "Ljava/lang/String;" "SpokenMarks") ∈ lw_tbl := lw_at lw_m6 205 rfl
theorem q1614 : (Jvm.Cond.static ({ cls := "SpokenMarks$Part", name := "compare", desc := "(LSpokenMarks$Part;LSpokenMarks$Part;Z)I" } : Jvm.MethodName)) ∈ lw_all := lw_g (lw_at lw_m7 55 rfl) rfl
theorem q1615 : (Jvm.Cond.code ({ cls := "SpokenMarks$Part", name := "compare", desc := "(LSpokenMarks$Part;LSpokenMarks$Part;Z)I" } : Jvm.MethodName) prog_10_method_1_code (5 : Nat) (Option.some Jvm.ClassFile.FieldType.int)) ∈ lw_all := lw_g (lw_at lw_m7 56 rfl) rfl
theorem q1616 : (Jvm.Cond.classLink "SpokenMarks$Part" (1 : Nat) "SpokenMarks$Figure") ∈ lw_all := lw_g (lw_at lw_m7 57 rfl) rfl
theorem q1617 : (Jvm.Cond.methodLink "SpokenMarks$Part" (7 : Nat) ({ cls := "java/lang/Integer", name := "compare", desc := "(II)I" } : Jvm.MethodName)) ∈ lw_all := lw_g (lw_at lw_m7 58 rfl) rfl
theorem q1620 : (Jvm.Cond.classLink "SpokenMarks$Part" (13 : Nat) "SpokenMarks$Word") ∈ lw_all := lw_g (lw_at lw_m7 61 rfl) rfl
theorem q1621 : (Jvm.Cond.methodLink "SpokenMarks$Part" (19 : Nat) ({ cls := "java/lang/String", name := "compareTo", desc := "(Ljava/lang/String;)I" } : Jvm.MethodName)) ∈ lw_all := lw_g (lw_at lw_m7 62 rfl) rfl
theorem q1664 : (Jvm.Cond.fieldLinkNest "SpokenMarks$Part" (3 : Nat) "SpokenMarks$Figure" "number" "I" "SpokenMarks") ∈ lw_tbl := lw_at lw_m7 105 rfl
/-! SpokenMarks$Figure -/
set_option maxRecDepth 100000
def RX9 : String := "SpokenMarks$Figure"
def TX9 : u_T := fun k => match k with
  | _ => ("SpokenMarks$Figure", "number", "I", true)
def tyX9 : Nat → FieldType := fun k => match k with
  | _ => .int
abbrev wsX90 : List Cond := u_ws RX9 TX9 1
theorem nmX9 : ∀ a, a < 1 → ∀ b, b < 1 → a ≠ b → (TX9 a).2.1 ≠ (TX9 b).2.1 := by decide +kernel
theorem tyX9_ok : ∀ k, k < 1 → parseFieldDescriptor (TX9 k).2.2.1 = some (tyX9 k) := by decide +kernel
abbrev cX9_init : ByteArray := prog_7_method_1_code
def yX9_init : MethodName := ⟨RX9, "<init>", "(I)V"⟩
def dkwX9_init_0 : List UInt8 := [42, 183, 0, 1, 42, 27, 181, 0, 7, 177]
abbrev dktX9_init_0 : List UInt8 := dkwX9_init_0 ++ []
theorem dksX9_init_0 : cX9_init.data.toList.drop 0 = dktX9_init_0 := by decide +kernel
theorem dX9_init_0 : decode cX9_init 0 = .ok (.aload_n 0, 1) := dk_42 (dk_at dksX9_init_0 0 rfl rfl)
theorem dX9_init_1 : decode cX9_init 1 = .ok (.invokespecial 1, 3) := dk_183 0 1 (dk_at dksX9_init_0 1 rfl rfl)
theorem dX9_init_4 : decode cX9_init 4 = .ok (.aload_n 0, 1) := dk_42 (dk_at dksX9_init_0 4 rfl rfl)
theorem dX9_init_5 : decode cX9_init 5 = .ok (.iload_n 1, 1) := dk_27 (dk_at dksX9_init_0 5 rfl rfl)
theorem dX9_init_6 : decode cX9_init 6 = .ok (.putfield 7, 3) := dk_181 0 7 (dk_at dksX9_init_0 6 rfl rfl)
theorem dX9_init_9 : decode cX9_init 9 = .ok (.return_, 1) := dk_177 (dk_at dksX9_init_0 9 rfl rfl)
theorem q160 : (Jvm.Cond.initialized "SpokenMarks$Figure") ∈ lw_all := lw_g (lw_at lw_m1 41 rfl) rfl
theorem q697 : (Jvm.Cond.selects "SpokenMarks$Figure" ({ cls := "java/lang/Object", name := "getClass", desc := "()Ljava/lang/Class;" } : Jvm.MethodName) ({ cls := "java/lang/Object", name := "getClass", desc := "()Ljava/lang/Class;" } : Jvm.MethodName)) ∈ lw_all := lw_g (lw_at lw_m3 98 rfl) rfl
theorem q757 : (Jvm.Cond.selects "SpokenMarks$Figure" ({ cls := "java/lang/Object", name := "hashCode", desc := "()I" } : Jvm.MethodName) ({ cls := "java/lang/Object", name := "hashCode", desc := "()I" } : Jvm.MethodName)) ∈ lw_all := lw_g (lw_at lw_m3 158 rfl) rfl
theorem q1164 : (Jvm.Cond.selects "SpokenMarks$Figure" ({ cls := "java/lang/Object", name := "equals", desc := "(Ljava/lang/Object;)Z" } : Jvm.MethodName) ({ cls := "java/lang/Object", name := "equals", desc := "(Ljava/lang/Object;)Z" } : Jvm.MethodName)) ∈ lw_all := lw_g (lw_at lw_m5 85 rfl) rfl
theorem q1658 : (Jvm.Cond.instantiable "SpokenMarks$Figure" (1 : Nat)) ∈ lw_all := lw_g (lw_at lw_m7 99 rfl) rfl
theorem q1660 : (Jvm.Cond.instanceMethod ({ cls := "SpokenMarks$Figure", name := "<init>", desc := "(I)V" } : Jvm.MethodName)) ∈ lw_all := lw_g (lw_at lw_m7 101 rfl) rfl
theorem q1661 : (Jvm.Cond.code ({ cls := "SpokenMarks$Figure", name := "<init>", desc := "(I)V" } : Jvm.MethodName) prog_7_method_1_code (2 : Nat) (Option.none : Option Jvm.ClassFile.FieldType)) ∈ lw_all := lw_g (lw_at lw_m7 102 rfl) rfl
theorem q1662 : (Jvm.Cond.methodLink "SpokenMarks$Figure" (1 : Nat) ({ cls := "java/lang/Object", name := "<init>", desc := "()V" } : Jvm.MethodName)) ∈ lw_all := lw_g (lw_at lw_m7 103 rfl) rfl
theorem q1663 : (Jvm.Cond.fieldLink "SpokenMarks$Figure" (7 : Nat) "SpokenMarks$Figure" "number" "I") ∈ lw_all := lw_g (lw_at lw_m7 104 rfl) rfl
theorem q1666 : (Jvm.Cond.laysFinal "SpokenMarks$Figure" "SpokenMarks$Figure" "number" "I") ∈ lw_all := lw_g (lw_at lw_m7 107 rfl) rfl
theorem q1667 : (Jvm.Cond.soleField "SpokenMarks$Figure" "number") ∈ lw_all := lw_g (lw_at lw_m7 108 rfl) rfl
theorem q1668 : (Jvm.Cond.superclass "SpokenMarks$Figure" "java/lang/Object") ∈ lw_all := lw_g (lw_at lw_m7 109 rfl) rfl
theorem q3422 : (Jvm.Cond.castable "SpokenMarks$Figure" "SpokenMarks$Part") ∈ lw_tbl := lw_at lw_m14 183 rfl
theorem q3455 : (Jvm.Cond.castable "SpokenMarks$Figure" "java/lang/Object") ∈ lw_tbl := lw_at lw_m14 216 rfl
theorem in_X9 : ∀ w ∈ wsX90, w ∈ lw_all := lw_in wsX90 [1666] (by decide +kernel) (by decide +kernel)
/-! SpokenMarks$Order -/
set_option maxRecDepth 100000
def RX14 : String := "SpokenMarks$Order"
abbrev cX14_init : ByteArray := prog_9_method_1_code
def yX14_init : MethodName := ⟨RX14, "<init>", "()V"⟩
theorem dX14_init_0 : decode cX14_init 0 = .ok (.aload_n 0, 1) := by decide +kernel
theorem dX14_init_1 : decode cX14_init 1 = .ok (.invokespecial 1, 3) := by decide +kernel
theorem dX14_init_4 : decode cX14_init 4 = .ok (.return_, 1) := by decide +kernel
theorem q165 : (Jvm.Cond.initialized "SpokenMarks$Order") ∈ lw_all := lw_g (lw_at lw_m1 46 rfl) rfl
theorem q1783 : (Jvm.Cond.instanceMethod ({ cls := "SpokenMarks$Order", name := "<init>", desc := "()V" } : Jvm.MethodName)) ∈ lw_all := lw_g (lw_at lw_m7 224 rfl) rfl
theorem q1784 : (Jvm.Cond.code ({ cls := "SpokenMarks$Order", name := "<init>", desc := "()V" } : Jvm.MethodName) prog_9_method_1_code (1 : Nat) (Option.none : Option Jvm.ClassFile.FieldType)) ∈ lw_all := lw_g (lw_at lw_m7 225 rfl) rfl
theorem q1785 : (Jvm.Cond.methodLink "SpokenMarks$Order" (1 : Nat) ({ cls := "java/lang/Object", name := "<init>", desc := "()V" } : Jvm.MethodName)) ∈ lw_all := lw_g (lw_at lw_m7 226 rfl) rfl
theorem q1813 : (Jvm.Cond.declares ({ cls := "SpokenMarks$Order", name := "does", desc := "(LSpokenMarks$Catalogue;)I" } : Jvm.MethodName)) ∈ lw_tbl := lw_at lw_m8 14 rfl
theorem q1814 : (Jvm.Cond.sameMethod "SpokenMarks$Order" "SpokenMarks$Order" "does" "(LSpokenMarks$Catalogue;)I") ∈ lw_all := lw_g (lw_at lw_m8 15 rfl) rfl
/-! SpokenMarks$Adding -/
set_option maxRecDepth 100000
def RX15 : String := "SpokenMarks$Adding"
def TX15 : u_T := fun k => match k with
  | 0 => ("SpokenMarks$Adding", "parts", "Ljava/util/List;", true)
  | _ => ("SpokenMarks$Adding", "width", "I", true)
def tyX15 : Nat → FieldType := fun k => match k with
  | 0 => .object "java/util/List"
  | _ => .int
abbrev wsX150 : List Cond := u_ws RX15 TX15 2
theorem nmX15 : ∀ a, a < 2 → ∀ b, b < 2 → a ≠ b → (TX15 a).2.1 ≠ (TX15 b).2.1 := by decide +kernel
theorem tyX15_ok : ∀ k, k < 2 → parseFieldDescriptor (TX15 k).2.2.1 = some (tyX15 k) := by decide +kernel
abbrev cX15_does : ByteArray := prog_2_method_2_code
def yX15_does : MethodName := ⟨RX15, "does", "(LSpokenMarks$Catalogue;)I"⟩
def dkwX15_does_2 : List UInt8 := [16, 253, 167, 0, 12, 43, 44, 42, 180, 0, 15, 182, 0, 43, 172]
abbrev dktX15_does_2 : List UInt8 := dkwX15_does_2 ++ []
def dkwX15_does_1 : List UInt8 := [182, 0, 30, 153, 0, 6, 16, 254, 172, 43, 180, 0, 34, 185, 0, 37, 1, 0, 16, 40, 160, 0, 8]
abbrev dktX15_does_1 : List UInt8 := dkwX15_does_1 ++ dktX15_does_2
def dkwX15_does_0 : List UInt8 := [43, 42, 180, 0, 9, 182, 0, 19, 77, 43, 187, 0, 25, 89, 3, 44, 42, 180, 0, 15, 3, 183, 0, 27]
abbrev dktX15_does_0 : List UInt8 := dkwX15_does_0 ++ dktX15_does_1
theorem dksX15_does_0 : cX15_does.data.toList.drop 0 = dktX15_does_0 := by decide +kernel
theorem dksX15_does_1 : cX15_does.data.toList.drop 24 = dktX15_does_1 := dk_seg dksX15_does_0 24 rfl rfl
theorem dksX15_does_2 : cX15_does.data.toList.drop 47 = dktX15_does_2 := dk_seg dksX15_does_1 23 rfl rfl
theorem dX15_does_0 : decode cX15_does 0 = .ok (.aload_n 1, 1) := dk_43 (dk_at dksX15_does_0 0 rfl rfl)
theorem dX15_does_1 : decode cX15_does 1 = .ok (.aload_n 0, 1) := dk_42 (dk_at dksX15_does_0 1 rfl rfl)
theorem dX15_does_2 : decode cX15_does 2 = .ok (.getfield 9, 3) := dk_180 0 9 (dk_at dksX15_does_0 2 rfl rfl)
theorem dX15_does_5 : decode cX15_does 5 = .ok (.invokevirtual 19, 3) := dk_182 0 19 (dk_at dksX15_does_0 5 rfl rfl)
theorem dX15_does_8 : decode cX15_does 8 = .ok (.astore_n 2, 1) := dk_77 (dk_at dksX15_does_0 8 rfl rfl)
theorem dX15_does_9 : decode cX15_does 9 = .ok (.aload_n 1, 1) := dk_43 (dk_at dksX15_does_0 9 rfl rfl)
theorem dX15_does_10 : decode cX15_does 10 = .ok (.new 25, 3) := dk_187 0 25 (dk_at dksX15_does_0 10 rfl rfl)
theorem dX15_does_13 : decode cX15_does 13 = .ok (.dup, 1) := dk_89 (dk_at dksX15_does_0 13 rfl rfl)
theorem dX15_does_14 : decode cX15_does 14 = .ok (.iconst 0, 1) := dk_3 (dk_at dksX15_does_0 14 rfl rfl)
theorem dX15_does_15 : decode cX15_does 15 = .ok (.aload_n 2, 1) := dk_44 (dk_at dksX15_does_0 15 rfl rfl)
theorem dX15_does_16 : decode cX15_does 16 = .ok (.aload_n 0, 1) := dk_42 (dk_at dksX15_does_0 16 rfl rfl)
theorem dX15_does_17 : decode cX15_does 17 = .ok (.getfield 15, 3) := dk_180 0 15 (dk_at dksX15_does_0 17 rfl rfl)
theorem dX15_does_20 : decode cX15_does 20 = .ok (.iconst 0, 1) := dk_3 (dk_at dksX15_does_0 20 rfl rfl)
theorem dX15_does_21 : decode cX15_does 21 = .ok (.invokespecial 27, 3) := dk_183 0 27 (dk_at dksX15_does_0 21 rfl rfl)
theorem dX15_does_24 : decode cX15_does 24 = .ok (.invokevirtual 30, 3) := dk_182 0 30 (dk_at dksX15_does_1 0 rfl rfl)
theorem dX15_does_27 : decode cX15_does 27 = .ok (.ifCond .eq 6, 3) := dk_153 0 6 (dk_at dksX15_does_1 3 rfl rfl)
theorem dX15_does_30 : decode cX15_does 30 = .ok (.bipush (-2), 2) := dk_16 254 (dk_at dksX15_does_1 6 rfl rfl)
theorem dX15_does_32 : decode cX15_does 32 = .ok (.ireturn, 1) := dk_172 (dk_at dksX15_does_1 8 rfl rfl)
theorem dX15_does_33 : decode cX15_does 33 = .ok (.aload_n 1, 1) := dk_43 (dk_at dksX15_does_1 9 rfl rfl)
theorem dX15_does_34 : decode cX15_does 34 = .ok (.getfield 34, 3) := dk_180 0 34 (dk_at dksX15_does_1 10 rfl rfl)
theorem dX15_does_37 : decode cX15_does 37 = .ok (.invokeinterface 37 1, 5) := by decide +kernel
theorem dX15_does_42 : decode cX15_does 42 = .ok (.bipush 40, 2) := dk_16 40 (dk_at dksX15_does_1 18 rfl rfl)
theorem dX15_does_44 : decode cX15_does 44 = .ok (.if_icmp .ne 8, 3) := dk_160 0 8 (dk_at dksX15_does_1 20 rfl rfl)
theorem dX15_does_47 : decode cX15_does 47 = .ok (.bipush (-3), 2) := dk_16 253 (dk_at dksX15_does_2 0 rfl rfl)
theorem dX15_does_49 : decode cX15_does 49 = .ok (.goto 12, 3) := dk_167 0 12 (dk_at dksX15_does_2 2 rfl rfl)
theorem dX15_does_52 : decode cX15_does 52 = .ok (.aload_n 1, 1) := dk_43 (dk_at dksX15_does_2 5 rfl rfl)
theorem dX15_does_53 : decode cX15_does 53 = .ok (.aload_n 2, 1) := dk_44 (dk_at dksX15_does_2 6 rfl rfl)
theorem dX15_does_54 : decode cX15_does 54 = .ok (.aload_n 0, 1) := dk_42 (dk_at dksX15_does_2 7 rfl rfl)
theorem dX15_does_55 : decode cX15_does 55 = .ok (.getfield 15, 3) := dk_180 0 15 (dk_at dksX15_does_2 8 rfl rfl)
theorem dX15_does_58 : decode cX15_does 58 = .ok (.invokevirtual 43, 3) := dk_182 0 43 (dk_at dksX15_does_2 11 rfl rfl)
theorem dX15_does_61 : decode cX15_does 61 = .ok (.ireturn, 1) := dk_172 (dk_at dksX15_does_2 14 rfl rfl)
abbrev cX15_init : ByteArray := prog_2_method_1_code
def yX15_init : MethodName := ⟨RX15, "<init>", "(Ljava/util/List;I)V"⟩
def dkwX15_init_0 : List UInt8 := [42, 183, 0, 3, 42, 43, 181, 0, 9, 42, 28, 181, 0, 15, 177]
abbrev dktX15_init_0 : List UInt8 := dkwX15_init_0 ++ []
theorem dksX15_init_0 : cX15_init.data.toList.drop 0 = dktX15_init_0 := by decide +kernel
theorem dX15_init_0 : decode cX15_init 0 = .ok (.aload_n 0, 1) := dk_42 (dk_at dksX15_init_0 0 rfl rfl)
theorem dX15_init_1 : decode cX15_init 1 = .ok (.invokespecial 3, 3) := dk_183 0 3 (dk_at dksX15_init_0 1 rfl rfl)
theorem dX15_init_4 : decode cX15_init 4 = .ok (.aload_n 0, 1) := dk_42 (dk_at dksX15_init_0 4 rfl rfl)
theorem dX15_init_5 : decode cX15_init 5 = .ok (.aload_n 1, 1) := dk_43 (dk_at dksX15_init_0 5 rfl rfl)
theorem dX15_init_6 : decode cX15_init 6 = .ok (.putfield 9, 3) := dk_181 0 9 (dk_at dksX15_init_0 6 rfl rfl)
theorem dX15_init_9 : decode cX15_init 9 = .ok (.aload_n 0, 1) := dk_42 (dk_at dksX15_init_0 9 rfl rfl)
theorem dX15_init_10 : decode cX15_init 10 = .ok (.iload_n 2, 1) := dk_28 (dk_at dksX15_init_0 10 rfl rfl)
theorem dX15_init_11 : decode cX15_init 11 = .ok (.putfield 15, 3) := dk_181 0 15 (dk_at dksX15_init_0 11 rfl rfl)
theorem dX15_init_14 : decode cX15_init 14 = .ok (.return_, 1) := dk_177 (dk_at dksX15_init_0 14 rfl rfl)
theorem q166 : (Jvm.Cond.initialized "SpokenMarks$Adding") ∈ lw_all := lw_g (lw_at lw_m1 47 rfl) rfl
theorem q600 : (Jvm.Cond.fieldLinkNest "SpokenMarks$Adding" (34 : Nat) "SpokenMarks$Catalogue" "marks" "Ljava/util/List;" "SpokenMarks") ∈ lw_tbl := lw_at lw_m3 1 rfl
theorem q692 : (Jvm.Cond.selects "SpokenMarks$Adding" ({ cls := "java/lang/Object", name := "getClass", desc := "()Ljava/lang/Class;" } : Jvm.MethodName) ({ cls := "java/lang/Object", name := "getClass", desc := "()Ljava/lang/Class;" } : Jvm.MethodName)) ∈ lw_all := lw_g (lw_at lw_m3 93 rfl) rfl
theorem q752 : (Jvm.Cond.selects "SpokenMarks$Adding" ({ cls := "java/lang/Object", name := "hashCode", desc := "()I" } : Jvm.MethodName) ({ cls := "java/lang/Object", name := "hashCode", desc := "()I" } : Jvm.MethodName)) ∈ lw_all := lw_g (lw_at lw_m3 153 rfl) rfl
theorem q1159 : (Jvm.Cond.selects "SpokenMarks$Adding" ({ cls := "java/lang/Object", name := "equals", desc := "(Ljava/lang/Object;)Z" } : Jvm.MethodName) ({ cls := "java/lang/Object", name := "equals", desc := "(Ljava/lang/Object;)Z" } : Jvm.MethodName)) ∈ lw_all := lw_g (lw_at lw_m5 80 rfl) rfl
theorem q1815 : (Jvm.Cond.selects "SpokenMarks$Adding" ({ cls := "SpokenMarks$Order", name := "does", desc := "(LSpokenMarks$Catalogue;)I" } : Jvm.MethodName) ({ cls := "SpokenMarks$Adding", name := "does", desc := "(LSpokenMarks$Catalogue;)I" } : Jvm.MethodName)) ∈ lw_all := lw_g (lw_at lw_m8 16 rfl) rfl
theorem q1816 : (Jvm.Cond.instanceMethod ({ cls := "SpokenMarks$Adding", name := "does", desc := "(LSpokenMarks$Catalogue;)I" } : Jvm.MethodName)) ∈ lw_all := lw_g (lw_at lw_m8 17 rfl) rfl
theorem q1817 : (Jvm.Cond.code ({ cls := "SpokenMarks$Adding", name := "does", desc := "(LSpokenMarks$Catalogue;)I" } : Jvm.MethodName) prog_2_method_2_code (3 : Nat) (Option.some Jvm.ClassFile.FieldType.int)) ∈ lw_all := lw_g (lw_at lw_m8 18 rfl) rfl
theorem q1818 : (Jvm.Cond.methodLinkNest "SpokenMarks$Adding" (19 : Nat) ({ cls := "SpokenMarks$Catalogue", name := "heardAnew", desc := "(Ljava/util/List;)Ljava/util/List;" } : Jvm.MethodName) "SpokenMarks") ∈ lw_tbl := lw_at lw_m8 19 rfl
theorem q1819 : (Jvm.Cond.classLink "SpokenMarks$Adding" (25 : Nat) "SpokenMarks$Mark") ∈ lw_all := lw_g (lw_at lw_m8 20 rfl) rfl
theorem q1820 : (Jvm.Cond.methodLink "SpokenMarks$Adding" (27 : Nat) ({ cls := "SpokenMarks$Mark", name := "<init>", desc := "(ILjava/util/List;II)V" } : Jvm.MethodName)) ∈ lw_all := lw_g (lw_at lw_m8 21 rfl) rfl
theorem q1821 : (Jvm.Cond.methodLink "SpokenMarks$Adding" (30 : Nat) ({ cls := "SpokenMarks$Catalogue", name := "isThere", desc := "(LSpokenMarks$Mark;)Z" } : Jvm.MethodName)) ∈ lw_all := lw_g (lw_at lw_m8 22 rfl) rfl
theorem q1825 : (Jvm.Cond.interfaceEntry "SpokenMarks$Adding" (37 : Nat)) ∈ lw_tbl := lw_at lw_m8 26 rfl
theorem q1826 : (Jvm.Cond.methodLink "SpokenMarks$Adding" (37 : Nat) ({ cls := "java/util/List", name := "size", desc := "()I" } : Jvm.MethodName)) ∈ lw_all := lw_g (lw_at lw_m8 27 rfl) rfl
theorem q1827 : (Jvm.Cond.methodLink "SpokenMarks$Adding" (43 : Nat) ({ cls := "SpokenMarks$Catalogue", name := "add", desc := "(Ljava/util/List;I)I" } : Jvm.MethodName)) ∈ lw_all := lw_g (lw_at lw_m8 28 rfl) rfl
theorem q2500 : (Jvm.Cond.instantiable "SpokenMarks$Adding" (2 : Nat)) ∈ lw_all := lw_g (lw_at lw_m10 221 rfl) rfl
theorem q2502 : (Jvm.Cond.instanceMethod ({ cls := "SpokenMarks$Adding", name := "<init>", desc := "(Ljava/util/List;I)V" } : Jvm.MethodName)) ∈ lw_all := lw_g (lw_at lw_m10 223 rfl) rfl
theorem q2503 : (Jvm.Cond.code ({ cls := "SpokenMarks$Adding", name := "<init>", desc := "(Ljava/util/List;I)V" } : Jvm.MethodName) prog_2_method_1_code (3 : Nat) (Option.none : Option Jvm.ClassFile.FieldType)) ∈ lw_all := lw_g (lw_at lw_m10 224 rfl) rfl
theorem q2504 : (Jvm.Cond.methodLinkNest "SpokenMarks$Adding" (3 : Nat) ({ cls := "SpokenMarks$Order", name := "<init>", desc := "()V" } : Jvm.MethodName) "SpokenMarks") ∈ lw_tbl := lw_at lw_m10 225 rfl
theorem q2505 : (Jvm.Cond.fieldLink "SpokenMarks$Adding" (9 : Nat) "SpokenMarks$Adding" "parts" "Ljava/util/List;") ∈ lw_all := lw_g (lw_at lw_m10 226 rfl) rfl
theorem q2506 : (Jvm.Cond.fieldLink "SpokenMarks$Adding" (15 : Nat) "SpokenMarks$Adding" "width" "I") ∈ lw_all := lw_g (lw_at lw_m10 227 rfl) rfl
theorem q2507 : (Jvm.Cond.laysFinal "SpokenMarks$Adding" "SpokenMarks$Adding" "parts" "Ljava/util/List;") ∈ lw_all := lw_g (lw_at lw_m10 228 rfl) rfl
theorem q2508 : (Jvm.Cond.soleField "SpokenMarks$Adding" "parts") ∈ lw_all := lw_g (lw_at lw_m10 229 rfl) rfl
theorem q2509 : (Jvm.Cond.laysFinal "SpokenMarks$Adding" "SpokenMarks$Adding" "width" "I") ∈ lw_all := lw_g (lw_at lw_m10 230 rfl) rfl
theorem q2510 : (Jvm.Cond.soleField "SpokenMarks$Adding" "width") ∈ lw_all := lw_g (lw_at lw_m10 231 rfl) rfl
theorem q2511 : (Jvm.Cond.superclass "SpokenMarks$Adding" "SpokenMarks$Order") ∈ lw_all := lw_g (lw_at lw_m10 232 rfl) rfl
theorem q3424 : (Jvm.Cond.castable "SpokenMarks$Adding" "SpokenMarks$Order") ∈ lw_tbl := lw_at lw_m14 185 rfl
theorem q3460 : (Jvm.Cond.castable "SpokenMarks$Adding" "java/lang/Object") ∈ lw_tbl := lw_at lw_m14 221 rfl
theorem in_X15 : ∀ w ∈ wsX150, w ∈ lw_all := lw_in wsX150 [2507, 2509] (by decide +kernel) (by decide +kernel)
/-! SpokenMarks$Dropping -/
set_option maxRecDepth 100000
def RX16 : String := "SpokenMarks$Dropping"
def TX16 : u_T := fun k => match k with
  | _ => ("SpokenMarks$Dropping", "id", "I", true)
def tyX16 : Nat → FieldType := fun k => match k with
  | _ => .int
abbrev wsX160 : List Cond := u_ws RX16 TX16 1
theorem nmX16 : ∀ a, a < 1 → ∀ b, b < 1 → a ≠ b → (TX16 a).2.1 ≠ (TX16 b).2.1 := by decide +kernel
theorem tyX16_ok : ∀ k, k < 1 → parseFieldDescriptor (TX16 k).2.2.1 = some (tyX16 k) := by decide +kernel
abbrev cX16_does : ByteArray := prog_6_method_2_code
def yX16_does : MethodName := ⟨RX16, "does", "(LSpokenMarks$Catalogue;)I"⟩
def dkwX16_does_1 : List UInt8 := [185, 0, 25, 2, 0, 192, 0, 31, 78, 43, 180, 0, 21, 185, 0, 33, 1, 0, 172]
abbrev dktX16_does_1 : List UInt8 := dkwX16_does_1 ++ []
def dkwX16_does_0 : List UInt8 := [43, 42, 180, 0, 9, 182, 0, 15, 61, 28, 2, 160, 0, 5, 2, 172, 43, 180, 0, 21, 28]
abbrev dktX16_does_0 : List UInt8 := dkwX16_does_0 ++ dktX16_does_1
theorem dksX16_does_0 : cX16_does.data.toList.drop 0 = dktX16_does_0 := by decide +kernel
theorem dksX16_does_1 : cX16_does.data.toList.drop 21 = dktX16_does_1 := dk_seg dksX16_does_0 21 rfl rfl
theorem dX16_does_0 : decode cX16_does 0 = .ok (.aload_n 1, 1) := dk_43 (dk_at dksX16_does_0 0 rfl rfl)
theorem dX16_does_1 : decode cX16_does 1 = .ok (.aload_n 0, 1) := dk_42 (dk_at dksX16_does_0 1 rfl rfl)
theorem dX16_does_2 : decode cX16_does 2 = .ok (.getfield 9, 3) := dk_180 0 9 (dk_at dksX16_does_0 2 rfl rfl)
theorem dX16_does_5 : decode cX16_does 5 = .ok (.invokevirtual 15, 3) := dk_182 0 15 (dk_at dksX16_does_0 5 rfl rfl)
theorem dX16_does_8 : decode cX16_does 8 = .ok (.istore_n 2, 1) := dk_61 (dk_at dksX16_does_0 8 rfl rfl)
theorem dX16_does_9 : decode cX16_does 9 = .ok (.iload_n 2, 1) := dk_28 (dk_at dksX16_does_0 9 rfl rfl)
theorem dX16_does_10 : decode cX16_does 10 = .ok (.iconst (-1), 1) := dk_2 (dk_at dksX16_does_0 10 rfl rfl)
theorem dX16_does_11 : decode cX16_does 11 = .ok (.if_icmp .ne 5, 3) := dk_160 0 5 (dk_at dksX16_does_0 11 rfl rfl)
theorem dX16_does_14 : decode cX16_does 14 = .ok (.iconst (-1), 1) := dk_2 (dk_at dksX16_does_0 14 rfl rfl)
theorem dX16_does_15 : decode cX16_does 15 = .ok (.ireturn, 1) := dk_172 (dk_at dksX16_does_0 15 rfl rfl)
theorem dX16_does_16 : decode cX16_does 16 = .ok (.aload_n 1, 1) := dk_43 (dk_at dksX16_does_0 16 rfl rfl)
theorem dX16_does_17 : decode cX16_does 17 = .ok (.getfield 21, 3) := dk_180 0 21 (dk_at dksX16_does_0 17 rfl rfl)
theorem dX16_does_20 : decode cX16_does 20 = .ok (.iload_n 2, 1) := dk_28 (dk_at dksX16_does_0 20 rfl rfl)
theorem dX16_does_21 : decode cX16_does 21 = .ok (.invokeinterface 25 2, 5) := by decide +kernel
theorem dX16_does_26 : decode cX16_does 26 = .ok (.checkcast 31, 3) := dk_192 0 31 (dk_at dksX16_does_1 5 rfl rfl)
theorem dX16_does_29 : decode cX16_does 29 = .ok (.astore_n 3, 1) := dk_78 (dk_at dksX16_does_1 8 rfl rfl)
theorem dX16_does_30 : decode cX16_does 30 = .ok (.aload_n 1, 1) := dk_43 (dk_at dksX16_does_1 9 rfl rfl)
theorem dX16_does_31 : decode cX16_does 31 = .ok (.getfield 21, 3) := dk_180 0 21 (dk_at dksX16_does_1 10 rfl rfl)
theorem dX16_does_34 : decode cX16_does 34 = .ok (.invokeinterface 33 1, 5) := by decide +kernel
theorem dX16_does_39 : decode cX16_does 39 = .ok (.ireturn, 1) := dk_172 (dk_at dksX16_does_1 18 rfl rfl)
abbrev cX16_init : ByteArray := prog_6_method_1_code
def yX16_init : MethodName := ⟨RX16, "<init>", "(I)V"⟩
def dkwX16_init_0 : List UInt8 := [42, 183, 0, 3, 42, 27, 181, 0, 9, 177]
abbrev dktX16_init_0 : List UInt8 := dkwX16_init_0 ++ []
theorem dksX16_init_0 : cX16_init.data.toList.drop 0 = dktX16_init_0 := by decide +kernel
theorem dX16_init_0 : decode cX16_init 0 = .ok (.aload_n 0, 1) := dk_42 (dk_at dksX16_init_0 0 rfl rfl)
theorem dX16_init_1 : decode cX16_init 1 = .ok (.invokespecial 3, 3) := dk_183 0 3 (dk_at dksX16_init_0 1 rfl rfl)
theorem dX16_init_4 : decode cX16_init 4 = .ok (.aload_n 0, 1) := dk_42 (dk_at dksX16_init_0 4 rfl rfl)
theorem dX16_init_5 : decode cX16_init 5 = .ok (.iload_n 1, 1) := dk_27 (dk_at dksX16_init_0 5 rfl rfl)
theorem dX16_init_6 : decode cX16_init 6 = .ok (.putfield 9, 3) := dk_181 0 9 (dk_at dksX16_init_0 6 rfl rfl)
theorem dX16_init_9 : decode cX16_init 9 = .ok (.return_, 1) := dk_177 (dk_at dksX16_init_0 9 rfl rfl)
theorem q167 : (Jvm.Cond.initialized "SpokenMarks$Dropping") ∈ lw_all := lw_g (lw_at lw_m1 48 rfl) rfl
theorem q598 : (Jvm.Cond.fieldLinkNest "SpokenMarks$Dropping" (21 : Nat) "SpokenMarks$Catalogue" "marks" "Ljava/util/List;" "SpokenMarks") ∈ lw_tbl := lw_at lw_m2 239 rfl
theorem q696 : (Jvm.Cond.selects "SpokenMarks$Dropping" ({ cls := "java/lang/Object", name := "getClass", desc := "()Ljava/lang/Class;" } : Jvm.MethodName) ({ cls := "java/lang/Object", name := "getClass", desc := "()Ljava/lang/Class;" } : Jvm.MethodName)) ∈ lw_all := lw_g (lw_at lw_m3 97 rfl) rfl
theorem q756 : (Jvm.Cond.selects "SpokenMarks$Dropping" ({ cls := "java/lang/Object", name := "hashCode", desc := "()I" } : Jvm.MethodName) ({ cls := "java/lang/Object", name := "hashCode", desc := "()I" } : Jvm.MethodName)) ∈ lw_all := lw_g (lw_at lw_m3 157 rfl) rfl
theorem q1163 : (Jvm.Cond.selects "SpokenMarks$Dropping" ({ cls := "java/lang/Object", name := "equals", desc := "(Ljava/lang/Object;)Z" } : Jvm.MethodName) ({ cls := "java/lang/Object", name := "equals", desc := "(Ljava/lang/Object;)Z" } : Jvm.MethodName)) ∈ lw_all := lw_g (lw_at lw_m5 84 rfl) rfl
theorem q1861 : (Jvm.Cond.selects "SpokenMarks$Dropping" ({ cls := "SpokenMarks$Order", name := "does", desc := "(LSpokenMarks$Catalogue;)I" } : Jvm.MethodName) ({ cls := "SpokenMarks$Dropping", name := "does", desc := "(LSpokenMarks$Catalogue;)I" } : Jvm.MethodName)) ∈ lw_all := lw_g (lw_at lw_m8 62 rfl) rfl
theorem q1862 : (Jvm.Cond.instanceMethod ({ cls := "SpokenMarks$Dropping", name := "does", desc := "(LSpokenMarks$Catalogue;)I" } : Jvm.MethodName)) ∈ lw_all := lw_g (lw_at lw_m8 63 rfl) rfl
theorem q1863 : (Jvm.Cond.code ({ cls := "SpokenMarks$Dropping", name := "does", desc := "(LSpokenMarks$Catalogue;)I" } : Jvm.MethodName) prog_6_method_2_code (4 : Nat) (Option.some Jvm.ClassFile.FieldType.int)) ∈ lw_all := lw_g (lw_at lw_m8 64 rfl) rfl
theorem q1864 : (Jvm.Cond.methodLink "SpokenMarks$Dropping" (15 : Nat) ({ cls := "SpokenMarks$Catalogue", name := "rankOf", desc := "(I)I" } : Jvm.MethodName)) ∈ lw_all := lw_g (lw_at lw_m8 65 rfl) rfl
theorem q1868 : (Jvm.Cond.interfaceEntry "SpokenMarks$Dropping" (25 : Nat)) ∈ lw_tbl := lw_at lw_m8 69 rfl
theorem q1869 : (Jvm.Cond.methodLink "SpokenMarks$Dropping" (25 : Nat) ({ cls := "java/util/List", name := "remove", desc := "(I)Ljava/lang/Object;" } : Jvm.MethodName)) ∈ lw_all := lw_g (lw_at lw_m8 70 rfl) rfl
theorem q1881 : (Jvm.Cond.classLink "SpokenMarks$Dropping" (31 : Nat) "SpokenMarks$Mark") ∈ lw_all := lw_g (lw_at lw_m8 82 rfl) rfl
theorem q1882 : (Jvm.Cond.interfaceEntry "SpokenMarks$Dropping" (33 : Nat)) ∈ lw_tbl := lw_at lw_m8 83 rfl
theorem q1883 : (Jvm.Cond.methodLink "SpokenMarks$Dropping" (33 : Nat) ({ cls := "java/util/List", name := "size", desc := "()I" } : Jvm.MethodName)) ∈ lw_all := lw_g (lw_at lw_m8 84 rfl) rfl
theorem q2520 : (Jvm.Cond.instantiable "SpokenMarks$Dropping" (1 : Nat)) ∈ lw_all := lw_g (lw_at lw_m11 1 rfl) rfl
theorem q2522 : (Jvm.Cond.instanceMethod ({ cls := "SpokenMarks$Dropping", name := "<init>", desc := "(I)V" } : Jvm.MethodName)) ∈ lw_all := lw_g (lw_at lw_m11 3 rfl) rfl
theorem q2523 : (Jvm.Cond.code ({ cls := "SpokenMarks$Dropping", name := "<init>", desc := "(I)V" } : Jvm.MethodName) prog_6_method_1_code (2 : Nat) (Option.none : Option Jvm.ClassFile.FieldType)) ∈ lw_all := lw_g (lw_at lw_m11 4 rfl) rfl
theorem q2524 : (Jvm.Cond.methodLinkNest "SpokenMarks$Dropping" (3 : Nat) ({ cls := "SpokenMarks$Order", name := "<init>", desc := "()V" } : Jvm.MethodName) "SpokenMarks") ∈ lw_tbl := lw_at lw_m11 5 rfl
theorem q2525 : (Jvm.Cond.fieldLink "SpokenMarks$Dropping" (9 : Nat) "SpokenMarks$Dropping" "id" "I") ∈ lw_all := lw_g (lw_at lw_m11 6 rfl) rfl
theorem q2526 : (Jvm.Cond.laysFinal "SpokenMarks$Dropping" "SpokenMarks$Dropping" "id" "I") ∈ lw_all := lw_g (lw_at lw_m11 7 rfl) rfl
theorem q2527 : (Jvm.Cond.soleField "SpokenMarks$Dropping" "id") ∈ lw_all := lw_g (lw_at lw_m11 8 rfl) rfl
theorem q2528 : (Jvm.Cond.superclass "SpokenMarks$Dropping" "SpokenMarks$Order") ∈ lw_all := lw_g (lw_at lw_m11 9 rfl) rfl
theorem q3427 : (Jvm.Cond.castable "SpokenMarks$Dropping" "SpokenMarks$Order") ∈ lw_tbl := lw_at lw_m14 188 rfl
theorem q3461 : (Jvm.Cond.castable "SpokenMarks$Dropping" "java/lang/Object") ∈ lw_tbl := lw_at lw_m14 222 rfl
theorem in_X16 : ∀ w ∈ wsX160, w ∈ lw_all := lw_in wsX160 [2526] (by decide +kernel) (by decide +kernel)
/-! SpokenMarks$Saying -/
set_option maxRecDepth 100000
def RX17 : String := "SpokenMarks$Saying"
def TX17 : u_T := fun k => match k with
  | _ => ("SpokenMarks$Saying", "rule", "LSpokenMarks$Rule;", true)
def tyX17 : Nat → FieldType := fun k => match k with
  | _ => .object "SpokenMarks$Rule"
abbrev wsX170 : List Cond := u_ws RX17 TX17 1
theorem nmX17 : ∀ a, a < 1 → ∀ b, b < 1 → a ≠ b → (TX17 a).2.1 ≠ (TX17 b).2.1 := by decide +kernel
theorem tyX17_ok : ∀ k, k < 1 → parseFieldDescriptor (TX17 k).2.2.1 = some (tyX17 k) := by decide +kernel
abbrev cX17_does : ByteArray := prog_13_method_2_code
def yX17_does : MethodName := ⟨RX17, "does", "(LSpokenMarks$Catalogue;)I"⟩
def dkwX17_does_1 : List UInt8 := [185, 0, 31, 1, 0, 16, 8, 160, 0, 8, 16, 253, 167, 0, 11, 43, 42, 180, 0, 9, 182, 0, 37, 172]
abbrev dktX17_does_1 : List UInt8 := dkwX17_does_1 ++ []
def dkwX17_does_0 : List UInt8 := [43, 42, 180, 0, 9, 180, 0, 15, 182, 0, 21, 2, 159, 0, 6, 16, 254, 172, 43, 180, 0, 27]
abbrev dktX17_does_0 : List UInt8 := dkwX17_does_0 ++ dktX17_does_1
theorem dksX17_does_0 : cX17_does.data.toList.drop 0 = dktX17_does_0 := by decide +kernel
theorem dksX17_does_1 : cX17_does.data.toList.drop 22 = dktX17_does_1 := dk_seg dksX17_does_0 22 rfl rfl
theorem dX17_does_0 : decode cX17_does 0 = .ok (.aload_n 1, 1) := dk_43 (dk_at dksX17_does_0 0 rfl rfl)
theorem dX17_does_1 : decode cX17_does 1 = .ok (.aload_n 0, 1) := dk_42 (dk_at dksX17_does_0 1 rfl rfl)
theorem dX17_does_2 : decode cX17_does 2 = .ok (.getfield 9, 3) := dk_180 0 9 (dk_at dksX17_does_0 2 rfl rfl)
theorem dX17_does_5 : decode cX17_does 5 = .ok (.getfield 15, 3) := dk_180 0 15 (dk_at dksX17_does_0 5 rfl rfl)
theorem dX17_does_8 : decode cX17_does 8 = .ok (.invokevirtual 21, 3) := dk_182 0 21 (dk_at dksX17_does_0 8 rfl rfl)
theorem dX17_does_11 : decode cX17_does 11 = .ok (.iconst (-1), 1) := dk_2 (dk_at dksX17_does_0 11 rfl rfl)
theorem dX17_does_12 : decode cX17_does 12 = .ok (.if_icmp .eq 6, 3) := dk_159 0 6 (dk_at dksX17_does_0 12 rfl rfl)
theorem dX17_does_15 : decode cX17_does 15 = .ok (.bipush (-2), 2) := dk_16 254 (dk_at dksX17_does_0 15 rfl rfl)
theorem dX17_does_17 : decode cX17_does 17 = .ok (.ireturn, 1) := dk_172 (dk_at dksX17_does_0 17 rfl rfl)
theorem dX17_does_18 : decode cX17_does 18 = .ok (.aload_n 1, 1) := dk_43 (dk_at dksX17_does_0 18 rfl rfl)
theorem dX17_does_19 : decode cX17_does 19 = .ok (.getfield 27, 3) := dk_180 0 27 (dk_at dksX17_does_0 19 rfl rfl)
theorem dX17_does_22 : decode cX17_does 22 = .ok (.invokeinterface 31 1, 5) := by decide +kernel
theorem dX17_does_27 : decode cX17_does 27 = .ok (.bipush 8, 2) := dk_16 8 (dk_at dksX17_does_1 5 rfl rfl)
theorem dX17_does_29 : decode cX17_does 29 = .ok (.if_icmp .ne 8, 3) := dk_160 0 8 (dk_at dksX17_does_1 7 rfl rfl)
theorem dX17_does_32 : decode cX17_does 32 = .ok (.bipush (-3), 2) := dk_16 253 (dk_at dksX17_does_1 10 rfl rfl)
theorem dX17_does_34 : decode cX17_does 34 = .ok (.goto 11, 3) := dk_167 0 11 (dk_at dksX17_does_1 12 rfl rfl)
theorem dX17_does_37 : decode cX17_does 37 = .ok (.aload_n 1, 1) := dk_43 (dk_at dksX17_does_1 15 rfl rfl)
theorem dX17_does_38 : decode cX17_does 38 = .ok (.aload_n 0, 1) := dk_42 (dk_at dksX17_does_1 16 rfl rfl)
theorem dX17_does_39 : decode cX17_does 39 = .ok (.getfield 9, 3) := dk_180 0 9 (dk_at dksX17_does_1 17 rfl rfl)
theorem dX17_does_42 : decode cX17_does 42 = .ok (.invokevirtual 37, 3) := dk_182 0 37 (dk_at dksX17_does_1 20 rfl rfl)
theorem dX17_does_45 : decode cX17_does 45 = .ok (.ireturn, 1) := dk_172 (dk_at dksX17_does_1 23 rfl rfl)
abbrev cX17_init : ByteArray := prog_13_method_1_code
def yX17_init : MethodName := ⟨RX17, "<init>", "(LSpokenMarks$Rule;)V"⟩
def dkwX17_init_0 : List UInt8 := [42, 183, 0, 3, 42, 43, 181, 0, 9, 177]
abbrev dktX17_init_0 : List UInt8 := dkwX17_init_0 ++ []
theorem dksX17_init_0 : cX17_init.data.toList.drop 0 = dktX17_init_0 := by decide +kernel
theorem dX17_init_0 : decode cX17_init 0 = .ok (.aload_n 0, 1) := dk_42 (dk_at dksX17_init_0 0 rfl rfl)
theorem dX17_init_1 : decode cX17_init 1 = .ok (.invokespecial 3, 3) := dk_183 0 3 (dk_at dksX17_init_0 1 rfl rfl)
theorem dX17_init_4 : decode cX17_init 4 = .ok (.aload_n 0, 1) := dk_42 (dk_at dksX17_init_0 4 rfl rfl)
theorem dX17_init_5 : decode cX17_init 5 = .ok (.aload_n 1, 1) := dk_43 (dk_at dksX17_init_0 5 rfl rfl)
theorem dX17_init_6 : decode cX17_init 6 = .ok (.putfield 9, 3) := dk_181 0 9 (dk_at dksX17_init_0 6 rfl rfl)
theorem dX17_init_9 : decode cX17_init 9 = .ok (.return_, 1) := dk_177 (dk_at dksX17_init_0 9 rfl rfl)
theorem q168 : (Jvm.Cond.initialized "SpokenMarks$Saying") ∈ lw_all := lw_g (lw_at lw_m1 49 rfl) rfl
theorem q605 : (Jvm.Cond.fieldLinkNest "SpokenMarks$Saying" (27 : Nat) "SpokenMarks$Catalogue" "rules" "Ljava/util/List;" "SpokenMarks") ∈ lw_tbl := lw_at lw_m3 6 rfl
theorem q645 : (Jvm.Cond.fieldLinkNest "SpokenMarks$Saying" (15 : Nat) "SpokenMarks$Rule" "first" "Ljava/lang/String;" "SpokenMarks") ∈ lw_tbl := lw_at lw_m3 46 rfl
theorem q701 : (Jvm.Cond.selects "SpokenMarks$Saying" ({ cls := "java/lang/Object", name := "getClass", desc := "()Ljava/lang/Class;" } : Jvm.MethodName) ({ cls := "java/lang/Object", name := "getClass", desc := "()Ljava/lang/Class;" } : Jvm.MethodName)) ∈ lw_all := lw_g (lw_at lw_m3 102 rfl) rfl
theorem q761 : (Jvm.Cond.selects "SpokenMarks$Saying" ({ cls := "java/lang/Object", name := "hashCode", desc := "()I" } : Jvm.MethodName) ({ cls := "java/lang/Object", name := "hashCode", desc := "()I" } : Jvm.MethodName)) ∈ lw_all := lw_g (lw_at lw_m3 162 rfl) rfl
theorem q1168 : (Jvm.Cond.selects "SpokenMarks$Saying" ({ cls := "java/lang/Object", name := "equals", desc := "(Ljava/lang/Object;)Z" } : Jvm.MethodName) ({ cls := "java/lang/Object", name := "equals", desc := "(Ljava/lang/Object;)Z" } : Jvm.MethodName)) ∈ lw_all := lw_g (lw_at lw_m5 89 rfl) rfl
theorem q1884 : (Jvm.Cond.selects "SpokenMarks$Saying" ({ cls := "SpokenMarks$Order", name := "does", desc := "(LSpokenMarks$Catalogue;)I" } : Jvm.MethodName) ({ cls := "SpokenMarks$Saying", name := "does", desc := "(LSpokenMarks$Catalogue;)I" } : Jvm.MethodName)) ∈ lw_all := lw_g (lw_at lw_m8 85 rfl) rfl
theorem q1885 : (Jvm.Cond.instanceMethod ({ cls := "SpokenMarks$Saying", name := "does", desc := "(LSpokenMarks$Catalogue;)I" } : Jvm.MethodName)) ∈ lw_all := lw_g (lw_at lw_m8 86 rfl) rfl
theorem q1886 : (Jvm.Cond.code ({ cls := "SpokenMarks$Saying", name := "does", desc := "(LSpokenMarks$Catalogue;)I" } : Jvm.MethodName) prog_13_method_2_code (2 : Nat) (Option.some Jvm.ClassFile.FieldType.int)) ∈ lw_all := lw_g (lw_at lw_m8 87 rfl) rfl
theorem q1887 : (Jvm.Cond.methodLink "SpokenMarks$Saying" (21 : Nat) ({ cls := "SpokenMarks$Catalogue", name := "ruleFor", desc := "(Ljava/lang/String;)I" } : Jvm.MethodName)) ∈ lw_all := lw_g (lw_at lw_m8 88 rfl) rfl
theorem q1892 : (Jvm.Cond.interfaceEntry "SpokenMarks$Saying" (31 : Nat)) ∈ lw_tbl := lw_at lw_m8 93 rfl
theorem q1893 : (Jvm.Cond.methodLink "SpokenMarks$Saying" (31 : Nat) ({ cls := "java/util/List", name := "size", desc := "()I" } : Jvm.MethodName)) ∈ lw_all := lw_g (lw_at lw_m8 94 rfl) rfl
theorem q1894 : (Jvm.Cond.methodLink "SpokenMarks$Saying" (37 : Nat) ({ cls := "SpokenMarks$Catalogue", name := "say", desc := "(LSpokenMarks$Rule;)I" } : Jvm.MethodName)) ∈ lw_all := lw_g (lw_at lw_m8 95 rfl) rfl
theorem q2538 : (Jvm.Cond.instantiable "SpokenMarks$Saying" (1 : Nat)) ∈ lw_all := lw_g (lw_at lw_m11 19 rfl) rfl
theorem q2540 : (Jvm.Cond.instanceMethod ({ cls := "SpokenMarks$Saying", name := "<init>", desc := "(LSpokenMarks$Rule;)V" } : Jvm.MethodName)) ∈ lw_all := lw_g (lw_at lw_m11 21 rfl) rfl
theorem q2541 : (Jvm.Cond.code ({ cls := "SpokenMarks$Saying", name := "<init>", desc := "(LSpokenMarks$Rule;)V" } : Jvm.MethodName) prog_13_method_1_code (2 : Nat) (Option.none : Option Jvm.ClassFile.FieldType)) ∈ lw_all := lw_g (lw_at lw_m11 22 rfl) rfl
theorem q2542 : (Jvm.Cond.methodLinkNest "SpokenMarks$Saying" (3 : Nat) ({ cls := "SpokenMarks$Order", name := "<init>", desc := "()V" } : Jvm.MethodName) "SpokenMarks") ∈ lw_tbl := lw_at lw_m11 23 rfl
theorem q2543 : (Jvm.Cond.fieldLink "SpokenMarks$Saying" (9 : Nat) "SpokenMarks$Saying" "rule" "LSpokenMarks$Rule;") ∈ lw_all := lw_g (lw_at lw_m11 24 rfl) rfl
theorem q2544 : (Jvm.Cond.laysFinal "SpokenMarks$Saying" "SpokenMarks$Saying" "rule" "LSpokenMarks$Rule;") ∈ lw_all := lw_g (lw_at lw_m11 25 rfl) rfl
theorem q2545 : (Jvm.Cond.soleField "SpokenMarks$Saying" "rule") ∈ lw_all := lw_g (lw_at lw_m11 26 rfl) rfl
theorem q2546 : (Jvm.Cond.superclass "SpokenMarks$Saying" "SpokenMarks$Order") ∈ lw_all := lw_g (lw_at lw_m11 27 rfl) rfl
theorem q3428 : (Jvm.Cond.castable "SpokenMarks$Saying" "SpokenMarks$Order") ∈ lw_tbl := lw_at lw_m14 189 rfl
theorem q3462 : (Jvm.Cond.castable "SpokenMarks$Saying" "java/lang/Object") ∈ lw_tbl := lw_at lw_m14 223 rfl
theorem in_X17 : ∀ w ∈ wsX170, w ∈ lw_all := lw_in wsX170 [2544] (by decide +kernel) (by decide +kernel)
/-! SpokenMarks$Unsaying -/
set_option maxRecDepth 100000
def RX18 : String := "SpokenMarks$Unsaying"
def TX18 : u_T := fun k => match k with
  | _ => ("SpokenMarks$Unsaying", "rule", "I", true)
def tyX18 : Nat → FieldType := fun k => match k with
  | _ => .int
abbrev wsX180 : List Cond := u_ws RX18 TX18 1
theorem nmX18 : ∀ a, a < 1 → ∀ b, b < 1 → a ≠ b → (TX18 a).2.1 ≠ (TX18 b).2.1 := by decide +kernel
theorem tyX18_ok : ∀ k, k < 1 → parseFieldDescriptor (TX18 k).2.2.1 = some (tyX18 k) := by decide +kernel
abbrev cX18_does : ByteArray := prog_24_method_2_code
def yX18_does : MethodName := ⟨RX18, "does", "(LSpokenMarks$Catalogue;)I"⟩
def dkwX18_does_1 : List UInt8 := [167, 0, 4, 2, 172]
abbrev dktX18_does_1 : List UInt8 := dkwX18_does_1 ++ []
def dkwX18_does_0 : List UInt8 := [42, 180, 0, 9, 43, 180, 0, 15, 185, 0, 21, 1, 0, 162, 0, 14, 43, 42, 180, 0, 9, 182, 0, 27]
abbrev dktX18_does_0 : List UInt8 := dkwX18_does_0 ++ dktX18_does_1
theorem dksX18_does_0 : cX18_does.data.toList.drop 0 = dktX18_does_0 := by decide +kernel
theorem dksX18_does_1 : cX18_does.data.toList.drop 24 = dktX18_does_1 := dk_seg dksX18_does_0 24 rfl rfl
theorem dX18_does_0 : decode cX18_does 0 = .ok (.aload_n 0, 1) := dk_42 (dk_at dksX18_does_0 0 rfl rfl)
theorem dX18_does_1 : decode cX18_does 1 = .ok (.getfield 9, 3) := dk_180 0 9 (dk_at dksX18_does_0 1 rfl rfl)
theorem dX18_does_4 : decode cX18_does 4 = .ok (.aload_n 1, 1) := dk_43 (dk_at dksX18_does_0 4 rfl rfl)
theorem dX18_does_5 : decode cX18_does 5 = .ok (.getfield 15, 3) := dk_180 0 15 (dk_at dksX18_does_0 5 rfl rfl)
theorem dX18_does_8 : decode cX18_does 8 = .ok (.invokeinterface 21 1, 5) := by decide +kernel
theorem dX18_does_13 : decode cX18_does 13 = .ok (.if_icmp .ge 14, 3) := dk_162 0 14 (dk_at dksX18_does_0 13 rfl rfl)
theorem dX18_does_16 : decode cX18_does 16 = .ok (.aload_n 1, 1) := dk_43 (dk_at dksX18_does_0 16 rfl rfl)
theorem dX18_does_17 : decode cX18_does 17 = .ok (.aload_n 0, 1) := dk_42 (dk_at dksX18_does_0 17 rfl rfl)
theorem dX18_does_18 : decode cX18_does 18 = .ok (.getfield 9, 3) := dk_180 0 9 (dk_at dksX18_does_0 18 rfl rfl)
theorem dX18_does_21 : decode cX18_does 21 = .ok (.invokevirtual 27, 3) := dk_182 0 27 (dk_at dksX18_does_0 21 rfl rfl)
theorem dX18_does_24 : decode cX18_does 24 = .ok (.goto 4, 3) := dk_167 0 4 (dk_at dksX18_does_1 0 rfl rfl)
theorem dX18_does_27 : decode cX18_does 27 = .ok (.iconst (-1), 1) := dk_2 (dk_at dksX18_does_1 3 rfl rfl)
theorem dX18_does_28 : decode cX18_does 28 = .ok (.ireturn, 1) := dk_172 (dk_at dksX18_does_1 4 rfl rfl)
abbrev cX18_init : ByteArray := prog_24_method_1_code
def yX18_init : MethodName := ⟨RX18, "<init>", "(I)V"⟩
def dkwX18_init_0 : List UInt8 := [42, 183, 0, 3, 42, 27, 181, 0, 9, 177]
abbrev dktX18_init_0 : List UInt8 := dkwX18_init_0 ++ []
theorem dksX18_init_0 : cX18_init.data.toList.drop 0 = dktX18_init_0 := by decide +kernel
theorem dX18_init_0 : decode cX18_init 0 = .ok (.aload_n 0, 1) := dk_42 (dk_at dksX18_init_0 0 rfl rfl)
theorem dX18_init_1 : decode cX18_init 1 = .ok (.invokespecial 3, 3) := dk_183 0 3 (dk_at dksX18_init_0 1 rfl rfl)
theorem dX18_init_4 : decode cX18_init 4 = .ok (.aload_n 0, 1) := dk_42 (dk_at dksX18_init_0 4 rfl rfl)
theorem dX18_init_5 : decode cX18_init 5 = .ok (.iload_n 1, 1) := dk_27 (dk_at dksX18_init_0 5 rfl rfl)
theorem dX18_init_6 : decode cX18_init 6 = .ok (.putfield 9, 3) := dk_181 0 9 (dk_at dksX18_init_0 6 rfl rfl)
theorem dX18_init_9 : decode cX18_init 9 = .ok (.return_, 1) := dk_177 (dk_at dksX18_init_0 9 rfl rfl)
theorem q169 : (Jvm.Cond.initialized "SpokenMarks$Unsaying") ∈ lw_all := lw_g (lw_at lw_m1 50 rfl) rfl
theorem q604 : (Jvm.Cond.fieldLinkNest "SpokenMarks$Unsaying" (15 : Nat) "SpokenMarks$Catalogue" "rules" "Ljava/util/List;" "SpokenMarks") ∈ lw_tbl := lw_at lw_m3 5 rfl
theorem q711 : (Jvm.Cond.selects "SpokenMarks$Unsaying" ({ cls := "java/lang/Object", name := "getClass", desc := "()Ljava/lang/Class;" } : Jvm.MethodName) ({ cls := "java/lang/Object", name := "getClass", desc := "()Ljava/lang/Class;" } : Jvm.MethodName)) ∈ lw_all := lw_g (lw_at lw_m3 112 rfl) rfl
theorem q776 : (Jvm.Cond.selects "SpokenMarks$Unsaying" ({ cls := "java/lang/Object", name := "hashCode", desc := "()I" } : Jvm.MethodName) ({ cls := "java/lang/Object", name := "hashCode", desc := "()I" } : Jvm.MethodName)) ∈ lw_all := lw_g (lw_at lw_m3 177 rfl) rfl
theorem q1180 : (Jvm.Cond.selects "SpokenMarks$Unsaying" ({ cls := "java/lang/Object", name := "equals", desc := "(Ljava/lang/Object;)Z" } : Jvm.MethodName) ({ cls := "java/lang/Object", name := "equals", desc := "(Ljava/lang/Object;)Z" } : Jvm.MethodName)) ∈ lw_all := lw_g (lw_at lw_m5 101 rfl) rfl
theorem q1895 : (Jvm.Cond.selects "SpokenMarks$Unsaying" ({ cls := "SpokenMarks$Order", name := "does", desc := "(LSpokenMarks$Catalogue;)I" } : Jvm.MethodName) ({ cls := "SpokenMarks$Unsaying", name := "does", desc := "(LSpokenMarks$Catalogue;)I" } : Jvm.MethodName)) ∈ lw_all := lw_g (lw_at lw_m8 96 rfl) rfl
theorem q1896 : (Jvm.Cond.instanceMethod ({ cls := "SpokenMarks$Unsaying", name := "does", desc := "(LSpokenMarks$Catalogue;)I" } : Jvm.MethodName)) ∈ lw_all := lw_g (lw_at lw_m8 97 rfl) rfl
theorem q1897 : (Jvm.Cond.code ({ cls := "SpokenMarks$Unsaying", name := "does", desc := "(LSpokenMarks$Catalogue;)I" } : Jvm.MethodName) prog_24_method_2_code (2 : Nat) (Option.some Jvm.ClassFile.FieldType.int)) ∈ lw_all := lw_g (lw_at lw_m8 98 rfl) rfl
theorem q1898 : (Jvm.Cond.interfaceEntry "SpokenMarks$Unsaying" (21 : Nat)) ∈ lw_tbl := lw_at lw_m8 99 rfl
theorem q1899 : (Jvm.Cond.methodLink "SpokenMarks$Unsaying" (21 : Nat) ({ cls := "java/util/List", name := "size", desc := "()I" } : Jvm.MethodName)) ∈ lw_all := lw_g (lw_at lw_m8 100 rfl) rfl
theorem q1900 : (Jvm.Cond.methodLink "SpokenMarks$Unsaying" (27 : Nat) ({ cls := "SpokenMarks$Catalogue", name := "unsay", desc := "(I)I" } : Jvm.MethodName)) ∈ lw_all := lw_g (lw_at lw_m8 101 rfl) rfl
theorem q2555 : (Jvm.Cond.instantiable "SpokenMarks$Unsaying" (1 : Nat)) ∈ lw_all := lw_g (lw_at lw_m11 36 rfl) rfl
theorem q2557 : (Jvm.Cond.instanceMethod ({ cls := "SpokenMarks$Unsaying", name := "<init>", desc := "(I)V" } : Jvm.MethodName)) ∈ lw_all := lw_g (lw_at lw_m11 38 rfl) rfl
theorem q2558 : (Jvm.Cond.code ({ cls := "SpokenMarks$Unsaying", name := "<init>", desc := "(I)V" } : Jvm.MethodName) prog_24_method_1_code (2 : Nat) (Option.none : Option Jvm.ClassFile.FieldType)) ∈ lw_all := lw_g (lw_at lw_m11 39 rfl) rfl
theorem q2559 : (Jvm.Cond.methodLinkNest "SpokenMarks$Unsaying" (3 : Nat) ({ cls := "SpokenMarks$Order", name := "<init>", desc := "()V" } : Jvm.MethodName) "SpokenMarks") ∈ lw_tbl := lw_at lw_m11 40 rfl
theorem q2560 : (Jvm.Cond.fieldLink "SpokenMarks$Unsaying" (9 : Nat) "SpokenMarks$Unsaying" "rule" "I") ∈ lw_all := lw_g (lw_at lw_m11 41 rfl) rfl
theorem q2561 : (Jvm.Cond.laysFinal "SpokenMarks$Unsaying" "SpokenMarks$Unsaying" "rule" "I") ∈ lw_all := lw_g (lw_at lw_m11 42 rfl) rfl
theorem q2562 : (Jvm.Cond.soleField "SpokenMarks$Unsaying" "rule") ∈ lw_all := lw_g (lw_at lw_m11 43 rfl) rfl
theorem q2563 : (Jvm.Cond.superclass "SpokenMarks$Unsaying" "SpokenMarks$Order") ∈ lw_all := lw_g (lw_at lw_m11 44 rfl) rfl
theorem q3429 : (Jvm.Cond.castable "SpokenMarks$Unsaying" "SpokenMarks$Order") ∈ lw_tbl := lw_at lw_m14 190 rfl
theorem q3463 : (Jvm.Cond.castable "SpokenMarks$Unsaying" "java/lang/Object") ∈ lw_tbl := lw_at lw_m14 224 rfl
theorem in_X18 : ∀ w ∈ wsX180, w ∈ lw_all := lw_in wsX180 [2561] (by decide +kernel) (by decide +kernel)
/-! SpokenMarks$Widening -/
set_option maxRecDepth 100000
def RX19 : String := "SpokenMarks$Widening"
def TX19 : u_T := fun k => match k with
  | 0 => ("SpokenMarks$Widening", "id", "I", true)
  | _ => ("SpokenMarks$Widening", "width", "I", true)
def tyX19 : Nat → FieldType := fun k => match k with
  | 0 => .int
  | _ => .int
abbrev wsX190 : List Cond := u_ws RX19 TX19 2
theorem nmX19 : ∀ a, a < 2 → ∀ b, b < 2 → a ≠ b → (TX19 a).2.1 ≠ (TX19 b).2.1 := by decide +kernel
theorem tyX19_ok : ∀ k, k < 2 → parseFieldDescriptor (TX19 k).2.2.1 = some (tyX19 k) := by decide +kernel
abbrev cX19_does : ByteArray := prog_25_method_2_code
def yX19_does : MethodName := ⟨RX19, "does", "(LSpokenMarks$Catalogue;)I"⟩
def dkwX19_does_2 : List UInt8 := [192, 0, 34, 42, 180, 0, 15, 181, 0, 36, 29, 172]
abbrev dktX19_does_2 : List UInt8 := dkwX19_does_2 ++ []
def dkwX19_does_1 : List UInt8 := [185, 0, 28, 2, 0, 192, 0, 34, 180, 0, 36, 62, 43, 180, 0, 24, 28, 185, 0, 28, 2, 0]
abbrev dktX19_does_1 : List UInt8 := dkwX19_does_1 ++ dktX19_does_2
def dkwX19_does_0 : List UInt8 := [43, 42, 180, 0, 9, 182, 0, 18, 61, 28, 2, 160, 0, 5, 2, 172, 43, 180, 0, 24, 28]
abbrev dktX19_does_0 : List UInt8 := dkwX19_does_0 ++ dktX19_does_1
theorem dksX19_does_0 : cX19_does.data.toList.drop 0 = dktX19_does_0 := by decide +kernel
theorem dksX19_does_1 : cX19_does.data.toList.drop 21 = dktX19_does_1 := dk_seg dksX19_does_0 21 rfl rfl
theorem dksX19_does_2 : cX19_does.data.toList.drop 43 = dktX19_does_2 := dk_seg dksX19_does_1 22 rfl rfl
theorem dX19_does_0 : decode cX19_does 0 = .ok (.aload_n 1, 1) := dk_43 (dk_at dksX19_does_0 0 rfl rfl)
theorem dX19_does_1 : decode cX19_does 1 = .ok (.aload_n 0, 1) := dk_42 (dk_at dksX19_does_0 1 rfl rfl)
theorem dX19_does_2 : decode cX19_does 2 = .ok (.getfield 9, 3) := dk_180 0 9 (dk_at dksX19_does_0 2 rfl rfl)
theorem dX19_does_5 : decode cX19_does 5 = .ok (.invokevirtual 18, 3) := dk_182 0 18 (dk_at dksX19_does_0 5 rfl rfl)
theorem dX19_does_8 : decode cX19_does 8 = .ok (.istore_n 2, 1) := dk_61 (dk_at dksX19_does_0 8 rfl rfl)
theorem dX19_does_9 : decode cX19_does 9 = .ok (.iload_n 2, 1) := dk_28 (dk_at dksX19_does_0 9 rfl rfl)
theorem dX19_does_10 : decode cX19_does 10 = .ok (.iconst (-1), 1) := dk_2 (dk_at dksX19_does_0 10 rfl rfl)
theorem dX19_does_11 : decode cX19_does 11 = .ok (.if_icmp .ne 5, 3) := dk_160 0 5 (dk_at dksX19_does_0 11 rfl rfl)
theorem dX19_does_14 : decode cX19_does 14 = .ok (.iconst (-1), 1) := dk_2 (dk_at dksX19_does_0 14 rfl rfl)
theorem dX19_does_15 : decode cX19_does 15 = .ok (.ireturn, 1) := dk_172 (dk_at dksX19_does_0 15 rfl rfl)
theorem dX19_does_16 : decode cX19_does 16 = .ok (.aload_n 1, 1) := dk_43 (dk_at dksX19_does_0 16 rfl rfl)
theorem dX19_does_17 : decode cX19_does 17 = .ok (.getfield 24, 3) := dk_180 0 24 (dk_at dksX19_does_0 17 rfl rfl)
theorem dX19_does_20 : decode cX19_does 20 = .ok (.iload_n 2, 1) := dk_28 (dk_at dksX19_does_0 20 rfl rfl)
theorem dX19_does_21 : decode cX19_does 21 = .ok (.invokeinterface 28 2, 5) := by decide +kernel
theorem dX19_does_26 : decode cX19_does 26 = .ok (.checkcast 34, 3) := dk_192 0 34 (dk_at dksX19_does_1 5 rfl rfl)
theorem dX19_does_29 : decode cX19_does 29 = .ok (.getfield 36, 3) := dk_180 0 36 (dk_at dksX19_does_1 8 rfl rfl)
theorem dX19_does_32 : decode cX19_does 32 = .ok (.istore_n 3, 1) := dk_62 (dk_at dksX19_does_1 11 rfl rfl)
theorem dX19_does_33 : decode cX19_does 33 = .ok (.aload_n 1, 1) := dk_43 (dk_at dksX19_does_1 12 rfl rfl)
theorem dX19_does_34 : decode cX19_does 34 = .ok (.getfield 24, 3) := dk_180 0 24 (dk_at dksX19_does_1 13 rfl rfl)
theorem dX19_does_37 : decode cX19_does 37 = .ok (.iload_n 2, 1) := dk_28 (dk_at dksX19_does_1 16 rfl rfl)
theorem dX19_does_38 : decode cX19_does 38 = .ok (.invokeinterface 28 2, 5) := by decide +kernel
theorem dX19_does_43 : decode cX19_does 43 = .ok (.checkcast 34, 3) := dk_192 0 34 (dk_at dksX19_does_2 0 rfl rfl)
theorem dX19_does_46 : decode cX19_does 46 = .ok (.aload_n 0, 1) := dk_42 (dk_at dksX19_does_2 3 rfl rfl)
theorem dX19_does_47 : decode cX19_does 47 = .ok (.getfield 15, 3) := dk_180 0 15 (dk_at dksX19_does_2 4 rfl rfl)
theorem dX19_does_50 : decode cX19_does 50 = .ok (.putfield 36, 3) := dk_181 0 36 (dk_at dksX19_does_2 7 rfl rfl)
theorem dX19_does_53 : decode cX19_does 53 = .ok (.iload_n 3, 1) := dk_29 (dk_at dksX19_does_2 10 rfl rfl)
theorem dX19_does_54 : decode cX19_does 54 = .ok (.ireturn, 1) := dk_172 (dk_at dksX19_does_2 11 rfl rfl)
abbrev cX19_init : ByteArray := prog_25_method_1_code
def yX19_init : MethodName := ⟨RX19, "<init>", "(II)V"⟩
def dkwX19_init_0 : List UInt8 := [42, 183, 0, 3, 42, 27, 181, 0, 9, 42, 28, 181, 0, 15, 177]
abbrev dktX19_init_0 : List UInt8 := dkwX19_init_0 ++ []
theorem dksX19_init_0 : cX19_init.data.toList.drop 0 = dktX19_init_0 := by decide +kernel
theorem dX19_init_0 : decode cX19_init 0 = .ok (.aload_n 0, 1) := dk_42 (dk_at dksX19_init_0 0 rfl rfl)
theorem dX19_init_1 : decode cX19_init 1 = .ok (.invokespecial 3, 3) := dk_183 0 3 (dk_at dksX19_init_0 1 rfl rfl)
theorem dX19_init_4 : decode cX19_init 4 = .ok (.aload_n 0, 1) := dk_42 (dk_at dksX19_init_0 4 rfl rfl)
theorem dX19_init_5 : decode cX19_init 5 = .ok (.iload_n 1, 1) := dk_27 (dk_at dksX19_init_0 5 rfl rfl)
theorem dX19_init_6 : decode cX19_init 6 = .ok (.putfield 9, 3) := dk_181 0 9 (dk_at dksX19_init_0 6 rfl rfl)
theorem dX19_init_9 : decode cX19_init 9 = .ok (.aload_n 0, 1) := dk_42 (dk_at dksX19_init_0 9 rfl rfl)
theorem dX19_init_10 : decode cX19_init 10 = .ok (.iload_n 2, 1) := dk_28 (dk_at dksX19_init_0 10 rfl rfl)
theorem dX19_init_11 : decode cX19_init 11 = .ok (.putfield 15, 3) := dk_181 0 15 (dk_at dksX19_init_0 11 rfl rfl)
theorem dX19_init_14 : decode cX19_init 14 = .ok (.return_, 1) := dk_177 (dk_at dksX19_init_0 14 rfl rfl)
theorem q170 : (Jvm.Cond.initialized "SpokenMarks$Widening") ∈ lw_all := lw_g (lw_at lw_m1 51 rfl) rfl
theorem q599 : (Jvm.Cond.fieldLinkNest "SpokenMarks$Widening" (24 : Nat) "SpokenMarks$Catalogue" "marks" "Ljava/util/List;" "SpokenMarks") ∈ lw_tbl := lw_at lw_m3 0 rfl
theorem q712 : (Jvm.Cond.selects "SpokenMarks$Widening" ({ cls := "java/lang/Object", name := "getClass", desc := "()Ljava/lang/Class;" } : Jvm.MethodName) ({ cls := "java/lang/Object", name := "getClass", desc := "()Ljava/lang/Class;" } : Jvm.MethodName)) ∈ lw_all := lw_g (lw_at lw_m3 113 rfl) rfl
theorem q777 : (Jvm.Cond.selects "SpokenMarks$Widening" ({ cls := "java/lang/Object", name := "hashCode", desc := "()I" } : Jvm.MethodName) ({ cls := "java/lang/Object", name := "hashCode", desc := "()I" } : Jvm.MethodName)) ∈ lw_all := lw_g (lw_at lw_m3 178 rfl) rfl
theorem q1181 : (Jvm.Cond.selects "SpokenMarks$Widening" ({ cls := "java/lang/Object", name := "equals", desc := "(Ljava/lang/Object;)Z" } : Jvm.MethodName) ({ cls := "java/lang/Object", name := "equals", desc := "(Ljava/lang/Object;)Z" } : Jvm.MethodName)) ∈ lw_all := lw_g (lw_at lw_m5 102 rfl) rfl
theorem q1544 : (Jvm.Cond.fieldLinkNest "SpokenMarks$Widening" (36 : Nat) "SpokenMarks$Mark" "width" "I" "SpokenMarks") ∈ lw_tbl := lw_at lw_m6 225 rfl
theorem q1930 : (Jvm.Cond.selects "SpokenMarks$Widening" ({ cls := "SpokenMarks$Order", name := "does", desc := "(LSpokenMarks$Catalogue;)I" } : Jvm.MethodName) ({ cls := "SpokenMarks$Widening", name := "does", desc := "(LSpokenMarks$Catalogue;)I" } : Jvm.MethodName)) ∈ lw_all := lw_g (lw_at lw_m8 131 rfl) rfl
theorem q1931 : (Jvm.Cond.instanceMethod ({ cls := "SpokenMarks$Widening", name := "does", desc := "(LSpokenMarks$Catalogue;)I" } : Jvm.MethodName)) ∈ lw_all := lw_g (lw_at lw_m8 132 rfl) rfl
theorem q1932 : (Jvm.Cond.code ({ cls := "SpokenMarks$Widening", name := "does", desc := "(LSpokenMarks$Catalogue;)I" } : Jvm.MethodName) prog_25_method_2_code (4 : Nat) (Option.some Jvm.ClassFile.FieldType.int)) ∈ lw_all := lw_g (lw_at lw_m8 133 rfl) rfl
theorem q1933 : (Jvm.Cond.methodLink "SpokenMarks$Widening" (18 : Nat) ({ cls := "SpokenMarks$Catalogue", name := "rankOf", desc := "(I)I" } : Jvm.MethodName)) ∈ lw_all := lw_g (lw_at lw_m8 134 rfl) rfl
theorem q1934 : (Jvm.Cond.interfaceEntry "SpokenMarks$Widening" (28 : Nat)) ∈ lw_tbl := lw_at lw_m8 135 rfl
theorem q1935 : (Jvm.Cond.methodLink "SpokenMarks$Widening" (28 : Nat) ({ cls := "java/util/List", name := "get", desc := "(I)Ljava/lang/Object;" } : Jvm.MethodName)) ∈ lw_all := lw_g (lw_at lw_m8 136 rfl) rfl
theorem q1936 : (Jvm.Cond.classLink "SpokenMarks$Widening" (34 : Nat) "SpokenMarks$Mark") ∈ lw_all := lw_g (lw_at lw_m8 137 rfl) rfl
theorem q2572 : (Jvm.Cond.instantiable "SpokenMarks$Widening" (2 : Nat)) ∈ lw_all := lw_g (lw_at lw_m11 53 rfl) rfl
theorem q2574 : (Jvm.Cond.instanceMethod ({ cls := "SpokenMarks$Widening", name := "<init>", desc := "(II)V" } : Jvm.MethodName)) ∈ lw_all := lw_g (lw_at lw_m11 55 rfl) rfl
theorem q2575 : (Jvm.Cond.code ({ cls := "SpokenMarks$Widening", name := "<init>", desc := "(II)V" } : Jvm.MethodName) prog_25_method_1_code (3 : Nat) (Option.none : Option Jvm.ClassFile.FieldType)) ∈ lw_all := lw_g (lw_at lw_m11 56 rfl) rfl
theorem q2576 : (Jvm.Cond.methodLinkNest "SpokenMarks$Widening" (3 : Nat) ({ cls := "SpokenMarks$Order", name := "<init>", desc := "()V" } : Jvm.MethodName) "SpokenMarks") ∈ lw_tbl := lw_at lw_m11 57 rfl
theorem q2577 : (Jvm.Cond.fieldLink "SpokenMarks$Widening" (9 : Nat) "SpokenMarks$Widening" "id" "I") ∈ lw_all := lw_g (lw_at lw_m11 58 rfl) rfl
theorem q2578 : (Jvm.Cond.fieldLink "SpokenMarks$Widening" (15 : Nat) "SpokenMarks$Widening" "width" "I") ∈ lw_all := lw_g (lw_at lw_m11 59 rfl) rfl
theorem q2579 : (Jvm.Cond.laysFinal "SpokenMarks$Widening" "SpokenMarks$Widening" "id" "I") ∈ lw_all := lw_g (lw_at lw_m11 60 rfl) rfl
theorem q2580 : (Jvm.Cond.soleField "SpokenMarks$Widening" "id") ∈ lw_all := lw_g (lw_at lw_m11 61 rfl) rfl
theorem q2581 : (Jvm.Cond.laysFinal "SpokenMarks$Widening" "SpokenMarks$Widening" "width" "I") ∈ lw_all := lw_g (lw_at lw_m11 62 rfl) rfl
theorem q2582 : (Jvm.Cond.soleField "SpokenMarks$Widening" "width") ∈ lw_all := lw_g (lw_at lw_m11 63 rfl) rfl
theorem q2583 : (Jvm.Cond.superclass "SpokenMarks$Widening" "SpokenMarks$Order") ∈ lw_all := lw_g (lw_at lw_m11 64 rfl) rfl
theorem q3430 : (Jvm.Cond.castable "SpokenMarks$Widening" "SpokenMarks$Order") ∈ lw_tbl := lw_at lw_m14 191 rfl
theorem q3464 : (Jvm.Cond.castable "SpokenMarks$Widening" "java/lang/Object") ∈ lw_tbl := lw_at lw_m14 225 rfl
theorem in_X19 : ∀ w ∈ wsX190, w ∈ lw_all := lw_in wsX190 [2579, 2581] (by decide +kernel) (by decide +kernel)
/-! SpokenMarks$Bounding -/
set_option maxRecDepth 100000
def RX20 : String := "SpokenMarks$Bounding"
def TX20 : u_T := fun k => match k with
  | 0 => ("SpokenMarks$Bounding", "shelf", "I", true)
  | _ => ("SpokenMarks$Bounding", "place", "I", true)
def tyX20 : Nat → FieldType := fun k => match k with
  | 0 => .int
  | _ => .int
abbrev wsX200 : List Cond := u_ws RX20 TX20 2
theorem nmX20 : ∀ a, a < 2 → ∀ b, b < 2 → a ≠ b → (TX20 a).2.1 ≠ (TX20 b).2.1 := by decide +kernel
theorem tyX20_ok : ∀ k, k < 2 → parseFieldDescriptor (TX20 k).2.2.1 = some (tyX20 k) := by decide +kernel
abbrev cX20_does : ByteArray := prog_4_method_2_code
def yX20_does : MethodName := ⟨RX20, "does", "(LSpokenMarks$Catalogue;)I"⟩
def dkwX20_does_3 : List UInt8 := [42, 180, 0, 15, 79, 28, 172]
abbrev dktX20_does_3 : List UInt8 := dkwX20_does_3 ++ []
def dkwX20_does_2 : List UInt8 := [167, 0, 5, 16, 253, 172, 43, 180, 0, 27, 42, 180, 0, 9, 46, 61, 43, 180, 0, 27, 42, 180, 0, 9]
abbrev dktX20_does_2 : List UInt8 := dkwX20_does_2 ++ dktX20_does_3
def dkwX20_does_1 : List UInt8 := [180, 0, 9, 42, 180, 0, 15, 182, 0, 23, 154, 0, 18, 42, 180, 0, 9, 154, 0, 8, 16, 254]
abbrev dktX20_does_1 : List UInt8 := dkwX20_does_1 ++ dktX20_does_2
def dkwX20_does_0 : List UInt8 := [42, 180, 0, 9, 43, 180, 0, 18, 161, 0, 5, 2, 172, 42, 180, 0, 9, 153, 0, 18, 43, 42]
abbrev dktX20_does_0 : List UInt8 := dkwX20_does_0 ++ dktX20_does_1
theorem dksX20_does_0 : cX20_does.data.toList.drop 0 = dktX20_does_0 := by decide +kernel
theorem dksX20_does_1 : cX20_does.data.toList.drop 22 = dktX20_does_1 := dk_seg dksX20_does_0 22 rfl rfl
theorem dksX20_does_2 : cX20_does.data.toList.drop 44 = dktX20_does_2 := dk_seg dksX20_does_1 22 rfl rfl
theorem dksX20_does_3 : cX20_does.data.toList.drop 68 = dktX20_does_3 := dk_seg dksX20_does_2 24 rfl rfl
theorem dX20_does_0 : decode cX20_does 0 = .ok (.aload_n 0, 1) := dk_42 (dk_at dksX20_does_0 0 rfl rfl)
theorem dX20_does_1 : decode cX20_does 1 = .ok (.getfield 9, 3) := dk_180 0 9 (dk_at dksX20_does_0 1 rfl rfl)
theorem dX20_does_4 : decode cX20_does 4 = .ok (.aload_n 1, 1) := dk_43 (dk_at dksX20_does_0 4 rfl rfl)
theorem dX20_does_5 : decode cX20_does 5 = .ok (.getfield 18, 3) := dk_180 0 18 (dk_at dksX20_does_0 5 rfl rfl)
theorem dX20_does_8 : decode cX20_does 8 = .ok (.if_icmp .lt 5, 3) := dk_161 0 5 (dk_at dksX20_does_0 8 rfl rfl)
theorem dX20_does_11 : decode cX20_does 11 = .ok (.iconst (-1), 1) := dk_2 (dk_at dksX20_does_0 11 rfl rfl)
theorem dX20_does_12 : decode cX20_does 12 = .ok (.ireturn, 1) := dk_172 (dk_at dksX20_does_0 12 rfl rfl)
theorem dX20_does_13 : decode cX20_does 13 = .ok (.aload_n 0, 1) := dk_42 (dk_at dksX20_does_0 13 rfl rfl)
theorem dX20_does_14 : decode cX20_does 14 = .ok (.getfield 9, 3) := dk_180 0 9 (dk_at dksX20_does_0 14 rfl rfl)
theorem dX20_does_17 : decode cX20_does 17 = .ok (.ifCond .eq 18, 3) := dk_153 0 18 (dk_at dksX20_does_0 17 rfl rfl)
theorem dX20_does_20 : decode cX20_does 20 = .ok (.aload_n 1, 1) := dk_43 (dk_at dksX20_does_0 20 rfl rfl)
theorem dX20_does_21 : decode cX20_does 21 = .ok (.aload_n 0, 1) := dk_42 (dk_at dksX20_does_0 21 rfl rfl)
theorem dX20_does_22 : decode cX20_does 22 = .ok (.getfield 9, 3) := dk_180 0 9 (dk_at dksX20_does_1 0 rfl rfl)
theorem dX20_does_25 : decode cX20_does 25 = .ok (.aload_n 0, 1) := dk_42 (dk_at dksX20_does_1 3 rfl rfl)
theorem dX20_does_26 : decode cX20_does 26 = .ok (.getfield 15, 3) := dk_180 0 15 (dk_at dksX20_does_1 4 rfl rfl)
theorem dX20_does_29 : decode cX20_does 29 = .ok (.invokevirtual 23, 3) := dk_182 0 23 (dk_at dksX20_does_1 7 rfl rfl)
theorem dX20_does_32 : decode cX20_does 32 = .ok (.ifCond .ne 18, 3) := dk_154 0 18 (dk_at dksX20_does_1 10 rfl rfl)
theorem dX20_does_35 : decode cX20_does 35 = .ok (.aload_n 0, 1) := dk_42 (dk_at dksX20_does_1 13 rfl rfl)
theorem dX20_does_36 : decode cX20_does 36 = .ok (.getfield 9, 3) := dk_180 0 9 (dk_at dksX20_does_1 14 rfl rfl)
theorem dX20_does_39 : decode cX20_does 39 = .ok (.ifCond .ne 8, 3) := dk_154 0 8 (dk_at dksX20_does_1 17 rfl rfl)
theorem dX20_does_42 : decode cX20_does 42 = .ok (.bipush (-2), 2) := dk_16 254 (dk_at dksX20_does_1 20 rfl rfl)
theorem dX20_does_44 : decode cX20_does 44 = .ok (.goto 5, 3) := dk_167 0 5 (dk_at dksX20_does_2 0 rfl rfl)
theorem dX20_does_47 : decode cX20_does 47 = .ok (.bipush (-3), 2) := dk_16 253 (dk_at dksX20_does_2 3 rfl rfl)
theorem dX20_does_49 : decode cX20_does 49 = .ok (.ireturn, 1) := dk_172 (dk_at dksX20_does_2 5 rfl rfl)
theorem dX20_does_50 : decode cX20_does 50 = .ok (.aload_n 1, 1) := dk_43 (dk_at dksX20_does_2 6 rfl rfl)
theorem dX20_does_51 : decode cX20_does 51 = .ok (.getfield 27, 3) := dk_180 0 27 (dk_at dksX20_does_2 7 rfl rfl)
theorem dX20_does_54 : decode cX20_does 54 = .ok (.aload_n 0, 1) := dk_42 (dk_at dksX20_does_2 10 rfl rfl)
theorem dX20_does_55 : decode cX20_does 55 = .ok (.getfield 9, 3) := dk_180 0 9 (dk_at dksX20_does_2 11 rfl rfl)
theorem dX20_does_58 : decode cX20_does 58 = .ok (.iaload, 1) := dk_46 (dk_at dksX20_does_2 14 rfl rfl)
theorem dX20_does_59 : decode cX20_does 59 = .ok (.istore_n 2, 1) := dk_61 (dk_at dksX20_does_2 15 rfl rfl)
theorem dX20_does_60 : decode cX20_does 60 = .ok (.aload_n 1, 1) := dk_43 (dk_at dksX20_does_2 16 rfl rfl)
theorem dX20_does_61 : decode cX20_does 61 = .ok (.getfield 27, 3) := dk_180 0 27 (dk_at dksX20_does_2 17 rfl rfl)
theorem dX20_does_64 : decode cX20_does 64 = .ok (.aload_n 0, 1) := dk_42 (dk_at dksX20_does_2 20 rfl rfl)
theorem dX20_does_65 : decode cX20_does 65 = .ok (.getfield 9, 3) := dk_180 0 9 (dk_at dksX20_does_2 21 rfl rfl)
theorem dX20_does_68 : decode cX20_does 68 = .ok (.aload_n 0, 1) := dk_42 (dk_at dksX20_does_3 0 rfl rfl)
theorem dX20_does_69 : decode cX20_does 69 = .ok (.getfield 15, 3) := dk_180 0 15 (dk_at dksX20_does_3 1 rfl rfl)
theorem dX20_does_72 : decode cX20_does 72 = .ok (.iastore, 1) := dk_79 (dk_at dksX20_does_3 4 rfl rfl)
theorem dX20_does_73 : decode cX20_does 73 = .ok (.iload_n 2, 1) := dk_28 (dk_at dksX20_does_3 5 rfl rfl)
theorem dX20_does_74 : decode cX20_does 74 = .ok (.ireturn, 1) := dk_172 (dk_at dksX20_does_3 6 rfl rfl)
abbrev cX20_init : ByteArray := prog_4_method_1_code
def yX20_init : MethodName := ⟨RX20, "<init>", "(II)V"⟩
def dkwX20_init_0 : List UInt8 := [42, 183, 0, 3, 42, 27, 181, 0, 9, 42, 28, 181, 0, 15, 177]
abbrev dktX20_init_0 : List UInt8 := dkwX20_init_0 ++ []
theorem dksX20_init_0 : cX20_init.data.toList.drop 0 = dktX20_init_0 := by decide +kernel
theorem dX20_init_0 : decode cX20_init 0 = .ok (.aload_n 0, 1) := dk_42 (dk_at dksX20_init_0 0 rfl rfl)
theorem dX20_init_1 : decode cX20_init 1 = .ok (.invokespecial 3, 3) := dk_183 0 3 (dk_at dksX20_init_0 1 rfl rfl)
theorem dX20_init_4 : decode cX20_init 4 = .ok (.aload_n 0, 1) := dk_42 (dk_at dksX20_init_0 4 rfl rfl)
theorem dX20_init_5 : decode cX20_init 5 = .ok (.iload_n 1, 1) := dk_27 (dk_at dksX20_init_0 5 rfl rfl)
theorem dX20_init_6 : decode cX20_init 6 = .ok (.putfield 9, 3) := dk_181 0 9 (dk_at dksX20_init_0 6 rfl rfl)
theorem dX20_init_9 : decode cX20_init 9 = .ok (.aload_n 0, 1) := dk_42 (dk_at dksX20_init_0 9 rfl rfl)
theorem dX20_init_10 : decode cX20_init 10 = .ok (.iload_n 2, 1) := dk_28 (dk_at dksX20_init_0 10 rfl rfl)
theorem dX20_init_11 : decode cX20_init 11 = .ok (.putfield 15, 3) := dk_181 0 15 (dk_at dksX20_init_0 11 rfl rfl)
theorem dX20_init_14 : decode cX20_init 14 = .ok (.return_, 1) := dk_177 (dk_at dksX20_init_0 14 rfl rfl)
theorem q171 : (Jvm.Cond.initialized "SpokenMarks$Bounding") ∈ lw_all := lw_g (lw_at lw_m1 52 rfl) rfl
theorem q590 : (Jvm.Cond.fieldLinkNest "SpokenMarks$Bounding" (18 : Nat) "SpokenMarks$Catalogue" "shelves" "I" "SpokenMarks") ∈ lw_tbl := lw_at lw_m2 231 rfl
theorem q595 : (Jvm.Cond.fieldLinkNest "SpokenMarks$Bounding" (27 : Nat) "SpokenMarks$Catalogue" "bounds" "[I" "SpokenMarks") ∈ lw_tbl := lw_at lw_m2 236 rfl
theorem q694 : (Jvm.Cond.selects "SpokenMarks$Bounding" ({ cls := "java/lang/Object", name := "getClass", desc := "()Ljava/lang/Class;" } : Jvm.MethodName) ({ cls := "java/lang/Object", name := "getClass", desc := "()Ljava/lang/Class;" } : Jvm.MethodName)) ∈ lw_all := lw_g (lw_at lw_m3 95 rfl) rfl
theorem q754 : (Jvm.Cond.selects "SpokenMarks$Bounding" ({ cls := "java/lang/Object", name := "hashCode", desc := "()I" } : Jvm.MethodName) ({ cls := "java/lang/Object", name := "hashCode", desc := "()I" } : Jvm.MethodName)) ∈ lw_all := lw_g (lw_at lw_m3 155 rfl) rfl
theorem q1161 : (Jvm.Cond.selects "SpokenMarks$Bounding" ({ cls := "java/lang/Object", name := "equals", desc := "(Ljava/lang/Object;)Z" } : Jvm.MethodName) ({ cls := "java/lang/Object", name := "equals", desc := "(Ljava/lang/Object;)Z" } : Jvm.MethodName)) ∈ lw_all := lw_g (lw_at lw_m5 82 rfl) rfl
theorem q1854 : (Jvm.Cond.selects "SpokenMarks$Bounding" ({ cls := "SpokenMarks$Order", name := "does", desc := "(LSpokenMarks$Catalogue;)I" } : Jvm.MethodName) ({ cls := "SpokenMarks$Bounding", name := "does", desc := "(LSpokenMarks$Catalogue;)I" } : Jvm.MethodName)) ∈ lw_all := lw_g (lw_at lw_m8 55 rfl) rfl
theorem q1855 : (Jvm.Cond.instanceMethod ({ cls := "SpokenMarks$Bounding", name := "does", desc := "(LSpokenMarks$Catalogue;)I" } : Jvm.MethodName)) ∈ lw_all := lw_g (lw_at lw_m8 56 rfl) rfl
theorem q1856 : (Jvm.Cond.code ({ cls := "SpokenMarks$Bounding", name := "does", desc := "(LSpokenMarks$Catalogue;)I" } : Jvm.MethodName) prog_4_method_2_code (3 : Nat) (Option.some Jvm.ClassFile.FieldType.int)) ∈ lw_all := lw_g (lw_at lw_m8 57 rfl) rfl
theorem q1857 : (Jvm.Cond.methodLink "SpokenMarks$Bounding" (23 : Nat) ({ cls := "SpokenMarks$Catalogue", name := "isBound", desc := "(II)Z" } : Jvm.MethodName)) ∈ lw_all := lw_g (lw_at lw_m8 58 rfl) rfl
theorem q2592 : (Jvm.Cond.instantiable "SpokenMarks$Bounding" (2 : Nat)) ∈ lw_all := lw_g (lw_at lw_m11 73 rfl) rfl
theorem q2594 : (Jvm.Cond.instanceMethod ({ cls := "SpokenMarks$Bounding", name := "<init>", desc := "(II)V" } : Jvm.MethodName)) ∈ lw_all := lw_g (lw_at lw_m11 75 rfl) rfl
theorem q2595 : (Jvm.Cond.code ({ cls := "SpokenMarks$Bounding", name := "<init>", desc := "(II)V" } : Jvm.MethodName) prog_4_method_1_code (3 : Nat) (Option.none : Option Jvm.ClassFile.FieldType)) ∈ lw_all := lw_g (lw_at lw_m11 76 rfl) rfl
theorem q2596 : (Jvm.Cond.methodLinkNest "SpokenMarks$Bounding" (3 : Nat) ({ cls := "SpokenMarks$Order", name := "<init>", desc := "()V" } : Jvm.MethodName) "SpokenMarks") ∈ lw_tbl := lw_at lw_m11 77 rfl
theorem q2597 : (Jvm.Cond.fieldLink "SpokenMarks$Bounding" (9 : Nat) "SpokenMarks$Bounding" "shelf" "I") ∈ lw_all := lw_g (lw_at lw_m11 78 rfl) rfl
theorem q2598 : (Jvm.Cond.fieldLink "SpokenMarks$Bounding" (15 : Nat) "SpokenMarks$Bounding" "place" "I") ∈ lw_all := lw_g (lw_at lw_m11 79 rfl) rfl
theorem q2599 : (Jvm.Cond.laysFinal "SpokenMarks$Bounding" "SpokenMarks$Bounding" "shelf" "I") ∈ lw_all := lw_g (lw_at lw_m11 80 rfl) rfl
theorem q2600 : (Jvm.Cond.soleField "SpokenMarks$Bounding" "shelf") ∈ lw_all := lw_g (lw_at lw_m11 81 rfl) rfl
theorem q2601 : (Jvm.Cond.laysFinal "SpokenMarks$Bounding" "SpokenMarks$Bounding" "place" "I") ∈ lw_all := lw_g (lw_at lw_m11 82 rfl) rfl
theorem q2602 : (Jvm.Cond.soleField "SpokenMarks$Bounding" "place") ∈ lw_all := lw_g (lw_at lw_m11 83 rfl) rfl
theorem q2603 : (Jvm.Cond.superclass "SpokenMarks$Bounding" "SpokenMarks$Order") ∈ lw_all := lw_g (lw_at lw_m11 84 rfl) rfl
theorem q3426 : (Jvm.Cond.castable "SpokenMarks$Bounding" "SpokenMarks$Order") ∈ lw_tbl := lw_at lw_m14 187 rfl
theorem q3465 : (Jvm.Cond.castable "SpokenMarks$Bounding" "java/lang/Object") ∈ lw_tbl := lw_at lw_m14 226 rfl
theorem in_X20 : ∀ w ∈ wsX200, w ∈ lw_all := lw_in wsX200 [2599, 2601] (by decide +kernel) (by decide +kernel)
/-! SpokenMarks$Arranging -/
set_option maxRecDepth 100000
def RX21 : String := "SpokenMarks$Arranging"
def TX21 : u_T := fun k => match k with
  | _ => ("SpokenMarks$Arranging", "isBalance", "Z", true)
def tyX21 : Nat → FieldType := fun k => match k with
  | _ => .boolean
abbrev wsX210 : List Cond := u_ws RX21 TX21 1
theorem nmX21 : ∀ a, a < 1 → ∀ b, b < 1 → a ≠ b → (TX21 a).2.1 ≠ (TX21 b).2.1 := by decide +kernel
theorem tyX21_ok : ∀ k, k < 1 → parseFieldDescriptor (TX21 k).2.2.1 = some (tyX21 k) := by decide +kernel
abbrev cX21_init : ByteArray := prog_3_method_1_code
def yX21_init : MethodName := ⟨RX21, "<init>", "(Z)V"⟩
def dkwX21_init_0 : List UInt8 := [42, 183, 0, 3, 42, 27, 181, 0, 9, 177]
abbrev dktX21_init_0 : List UInt8 := dkwX21_init_0 ++ []
theorem dksX21_init_0 : cX21_init.data.toList.drop 0 = dktX21_init_0 := by decide +kernel
theorem dX21_init_0 : decode cX21_init 0 = .ok (.aload_n 0, 1) := dk_42 (dk_at dksX21_init_0 0 rfl rfl)
theorem dX21_init_1 : decode cX21_init 1 = .ok (.invokespecial 3, 3) := dk_183 0 3 (dk_at dksX21_init_0 1 rfl rfl)
theorem dX21_init_4 : decode cX21_init 4 = .ok (.aload_n 0, 1) := dk_42 (dk_at dksX21_init_0 4 rfl rfl)
theorem dX21_init_5 : decode cX21_init 5 = .ok (.iload_n 1, 1) := dk_27 (dk_at dksX21_init_0 5 rfl rfl)
theorem dX21_init_6 : decode cX21_init 6 = .ok (.putfield 9, 3) := dk_181 0 9 (dk_at dksX21_init_0 6 rfl rfl)
theorem dX21_init_9 : decode cX21_init 9 = .ok (.return_, 1) := dk_177 (dk_at dksX21_init_0 9 rfl rfl)
abbrev cX21_does : ByteArray := prog_3_method_2_code
def yX21_does : MethodName := ⟨RX21, "does", "(LSpokenMarks$Catalogue;)I"⟩
def dkwX21_does_0 : List UInt8 := [42, 180, 0, 9, 153, 0, 10, 43, 182, 0, 15, 167, 0, 8, 43, 2, 182, 0, 21, 172]
abbrev dktX21_does_0 : List UInt8 := dkwX21_does_0 ++ []
theorem dksX21_does_0 : cX21_does.data.toList.drop 0 = dktX21_does_0 := by decide +kernel
theorem dX21_does_0 : decode cX21_does 0 = .ok (.aload_n 0, 1) := dk_42 (dk_at dksX21_does_0 0 rfl rfl)
theorem dX21_does_1 : decode cX21_does 1 = .ok (.getfield 9, 3) := dk_180 0 9 (dk_at dksX21_does_0 1 rfl rfl)
theorem dX21_does_4 : decode cX21_does 4 = .ok (.ifCond .eq 10, 3) := dk_153 0 10 (dk_at dksX21_does_0 4 rfl rfl)
theorem dX21_does_7 : decode cX21_does 7 = .ok (.aload_n 1, 1) := dk_43 (dk_at dksX21_does_0 7 rfl rfl)
theorem dX21_does_8 : decode cX21_does 8 = .ok (.invokevirtual 15, 3) := dk_182 0 15 (dk_at dksX21_does_0 8 rfl rfl)
theorem dX21_does_11 : decode cX21_does 11 = .ok (.goto 8, 3) := dk_167 0 8 (dk_at dksX21_does_0 11 rfl rfl)
theorem dX21_does_14 : decode cX21_does 14 = .ok (.aload_n 1, 1) := dk_43 (dk_at dksX21_does_0 14 rfl rfl)
theorem dX21_does_15 : decode cX21_does 15 = .ok (.iconst (-1), 1) := dk_2 (dk_at dksX21_does_0 15 rfl rfl)
theorem dX21_does_16 : decode cX21_does 16 = .ok (.invokevirtual 21, 3) := dk_182 0 21 (dk_at dksX21_does_0 16 rfl rfl)
theorem dX21_does_19 : decode cX21_does 19 = .ok (.ireturn, 1) := dk_172 (dk_at dksX21_does_0 19 rfl rfl)
theorem q172 : (Jvm.Cond.initialized "SpokenMarks$Arranging") ∈ lw_all := lw_g (lw_at lw_m1 53 rfl) rfl
theorem q693 : (Jvm.Cond.selects "SpokenMarks$Arranging" ({ cls := "java/lang/Object", name := "getClass", desc := "()Ljava/lang/Class;" } : Jvm.MethodName) ({ cls := "java/lang/Object", name := "getClass", desc := "()Ljava/lang/Class;" } : Jvm.MethodName)) ∈ lw_all := lw_g (lw_at lw_m3 94 rfl) rfl
theorem q753 : (Jvm.Cond.selects "SpokenMarks$Arranging" ({ cls := "java/lang/Object", name := "hashCode", desc := "()I" } : Jvm.MethodName) ({ cls := "java/lang/Object", name := "hashCode", desc := "()I" } : Jvm.MethodName)) ∈ lw_all := lw_g (lw_at lw_m3 154 rfl) rfl
theorem q1160 : (Jvm.Cond.selects "SpokenMarks$Arranging" ({ cls := "java/lang/Object", name := "equals", desc := "(Ljava/lang/Object;)Z" } : Jvm.MethodName) ({ cls := "java/lang/Object", name := "equals", desc := "(Ljava/lang/Object;)Z" } : Jvm.MethodName)) ∈ lw_all := lw_g (lw_at lw_m5 81 rfl) rfl
theorem q1778 : (Jvm.Cond.instantiable "SpokenMarks$Arranging" (1 : Nat)) ∈ lw_all := lw_g (lw_at lw_m7 219 rfl) rfl
theorem q1780 : (Jvm.Cond.instanceMethod ({ cls := "SpokenMarks$Arranging", name := "<init>", desc := "(Z)V" } : Jvm.MethodName)) ∈ lw_all := lw_g (lw_at lw_m7 221 rfl) rfl
theorem q1781 : (Jvm.Cond.code ({ cls := "SpokenMarks$Arranging", name := "<init>", desc := "(Z)V" } : Jvm.MethodName) prog_3_method_1_code (2 : Nat) (Option.none : Option Jvm.ClassFile.FieldType)) ∈ lw_all := lw_g (lw_at lw_m7 222 rfl) rfl
theorem q1782 : (Jvm.Cond.methodLinkNest "SpokenMarks$Arranging" (3 : Nat) ({ cls := "SpokenMarks$Order", name := "<init>", desc := "()V" } : Jvm.MethodName) "SpokenMarks") ∈ lw_tbl := lw_at lw_m7 223 rfl
theorem q1786 : (Jvm.Cond.fieldLink "SpokenMarks$Arranging" (9 : Nat) "SpokenMarks$Arranging" "isBalance" "Z") ∈ lw_all := lw_g (lw_at lw_m7 227 rfl) rfl
theorem q1787 : (Jvm.Cond.laysFinal "SpokenMarks$Arranging" "SpokenMarks$Arranging" "isBalance" "Z") ∈ lw_all := lw_g (lw_at lw_m7 228 rfl) rfl
theorem q1788 : (Jvm.Cond.soleField "SpokenMarks$Arranging" "isBalance") ∈ lw_all := lw_g (lw_at lw_m7 229 rfl) rfl
theorem q1789 : (Jvm.Cond.superclass "SpokenMarks$Arranging" "SpokenMarks$Order") ∈ lw_all := lw_g (lw_at lw_m7 230 rfl) rfl
theorem q1828 : (Jvm.Cond.selects "SpokenMarks$Arranging" ({ cls := "SpokenMarks$Order", name := "does", desc := "(LSpokenMarks$Catalogue;)I" } : Jvm.MethodName) ({ cls := "SpokenMarks$Arranging", name := "does", desc := "(LSpokenMarks$Catalogue;)I" } : Jvm.MethodName)) ∈ lw_all := lw_g (lw_at lw_m8 29 rfl) rfl
theorem q1829 : (Jvm.Cond.instanceMethod ({ cls := "SpokenMarks$Arranging", name := "does", desc := "(LSpokenMarks$Catalogue;)I" } : Jvm.MethodName)) ∈ lw_all := lw_g (lw_at lw_m8 30 rfl) rfl
theorem q1830 : (Jvm.Cond.code ({ cls := "SpokenMarks$Arranging", name := "does", desc := "(LSpokenMarks$Catalogue;)I" } : Jvm.MethodName) prog_3_method_2_code (2 : Nat) (Option.some Jvm.ClassFile.FieldType.int)) ∈ lw_all := lw_g (lw_at lw_m8 31 rfl) rfl
theorem q1831 : (Jvm.Cond.methodLink "SpokenMarks$Arranging" (15 : Nat) ({ cls := "SpokenMarks$Catalogue", name := "balance", desc := "()I" } : Jvm.MethodName)) ∈ lw_all := lw_g (lw_at lw_m8 32 rfl) rfl
theorem q1853 : (Jvm.Cond.methodLink "SpokenMarks$Arranging" (21 : Nat) ({ cls := "SpokenMarks$Catalogue", name := "respace", desc := "(I)I" } : Jvm.MethodName)) ∈ lw_all := lw_g (lw_at lw_m8 54 rfl) rfl
theorem q3425 : (Jvm.Cond.castable "SpokenMarks$Arranging" "SpokenMarks$Order") ∈ lw_tbl := lw_at lw_m14 186 rfl
theorem q3466 : (Jvm.Cond.castable "SpokenMarks$Arranging" "java/lang/Object") ∈ lw_tbl := lw_at lw_m14 227 rfl
theorem in_X21 : ∀ w ∈ wsX210, w ∈ lw_all := lw_in wsX210 [1787] (by decide +kernel) (by decide +kernel)
/-! SpokenMarks$Script -/
set_option maxRecDepth 100000
def RX22 : String := "SpokenMarks$Script"
def TX22 : u_T := fun k => match k with
  | 0 => ("SpokenMarks$Scanner", "text", "[B", true)
  | 1 => ("SpokenMarks$Scanner", "end", "I", true)
  | 2 => ("SpokenMarks$Scanner", "begin", "I", false)
  | 3 => ("SpokenMarks$Scanner", "next", "I", false)
  | 4 => ("SpokenMarks$Scanner", "value", "I", false)
  | 5 => ("SpokenMarks$Scanner", "kind", "I", false)
  | 6 => ("SpokenMarks$Scanner", "word", "Ljava/lang/String;", false)
  | 7 => ("SpokenMarks$Script", "orders", "Ljava/util/List;", true)
  | _ => ("SpokenMarks$Script", "catalogue", "LSpokenMarks$Catalogue;", true)
def tyX22 : Nat → FieldType := fun k => match k with
  | 0 => .array .byte
  | 1 => .int
  | 2 => .int
  | 3 => .int
  | 4 => .int
  | 5 => .int
  | 6 => .object "java/lang/String"
  | 7 => .object "java/util/List"
  | _ => .object "SpokenMarks$Catalogue"
abbrev wsX220 : List Cond := u_ws RX22 TX22 9
theorem nmX22 : ∀ a, a < 9 → ∀ b, b < 9 → a ≠ b → (TX22 a).2.1 ≠ (TX22 b).2.1 := by decide +kernel
theorem tyX22_ok : ∀ k, k < 9 → parseFieldDescriptor (TX22 k).2.2.1 = some (tyX22 k) := by decide +kernel
abbrev cX22_init : ByteArray := prog_15_method_1_code
def yX22_init : MethodName := ⟨RX22, "<init>", "([BILSpokenMarks$Catalogue;)V"⟩
def dkwX22_init_1 : List UInt8 := [177]
abbrev dktX22_init_1 : List UInt8 := dkwX22_init_1 ++ []
def dkwX22_init_0 : List UInt8 := [42, 43, 28, 183, 0, 3, 42, 187, 0, 9, 89, 16, 20, 183, 0, 11, 181, 0, 14, 42, 45, 181, 0, 20]
abbrev dktX22_init_0 : List UInt8 := dkwX22_init_0 ++ dktX22_init_1
theorem dksX22_init_0 : cX22_init.data.toList.drop 0 = dktX22_init_0 := by decide +kernel
theorem dksX22_init_1 : cX22_init.data.toList.drop 24 = dktX22_init_1 := dk_seg dksX22_init_0 24 rfl rfl
theorem dX22_init_0 : decode cX22_init 0 = .ok (.aload_n 0, 1) := dk_42 (dk_at dksX22_init_0 0 rfl rfl)
theorem dX22_init_1 : decode cX22_init 1 = .ok (.aload_n 1, 1) := dk_43 (dk_at dksX22_init_0 1 rfl rfl)
theorem dX22_init_2 : decode cX22_init 2 = .ok (.iload_n 2, 1) := dk_28 (dk_at dksX22_init_0 2 rfl rfl)
theorem dX22_init_3 : decode cX22_init 3 = .ok (.invokespecial 3, 3) := dk_183 0 3 (dk_at dksX22_init_0 3 rfl rfl)
theorem dX22_init_6 : decode cX22_init 6 = .ok (.aload_n 0, 1) := dk_42 (dk_at dksX22_init_0 6 rfl rfl)
theorem dX22_init_7 : decode cX22_init 7 = .ok (.new 9, 3) := dk_187 0 9 (dk_at dksX22_init_0 7 rfl rfl)
theorem dX22_init_10 : decode cX22_init 10 = .ok (.dup, 1) := dk_89 (dk_at dksX22_init_0 10 rfl rfl)
theorem dX22_init_11 : decode cX22_init 11 = .ok (.bipush 20, 2) := dk_16 20 (dk_at dksX22_init_0 11 rfl rfl)
theorem dX22_init_13 : decode cX22_init 13 = .ok (.invokespecial 11, 3) := dk_183 0 11 (dk_at dksX22_init_0 13 rfl rfl)
theorem dX22_init_16 : decode cX22_init 16 = .ok (.putfield 14, 3) := dk_181 0 14 (dk_at dksX22_init_0 16 rfl rfl)
theorem dX22_init_19 : decode cX22_init 19 = .ok (.aload_n 0, 1) := dk_42 (dk_at dksX22_init_0 19 rfl rfl)
theorem dX22_init_20 : decode cX22_init 20 = .ok (.aload_n 3, 1) := dk_45 (dk_at dksX22_init_0 20 rfl rfl)
theorem dX22_init_21 : decode cX22_init 21 = .ok (.putfield 20, 3) := dk_181 0 20 (dk_at dksX22_init_0 21 rfl rfl)
theorem dX22_init_24 : decode cX22_init 24 = .ok (.return_, 1) := dk_177 (dk_at dksX22_init_1 0 rfl rfl)
abbrev cX22_read : ByteArray := prog_15_method_2_code
def yX22_read : MethodName := ⟨RX22, "read", "()Ljava/util/List;"⟩
def dkwX22_read_3 : List UInt8 := [167, 255, 187, 42, 180, 0, 14, 176]
abbrev dktX22_read_3 : List UInt8 := dkwX22_read_3 ++ []
def dkwX22_read_2 : List UInt8 := [182, 0, 46, 42, 180, 0, 14, 42, 43, 182, 0, 50, 185, 0, 54, 2, 0, 87, 42, 6, 182, 0, 58]
abbrev dktX22_read_2 : List UInt8 := dkwX22_read_2 ++ dktX22_read_3
def dkwX22_read_1 : List UInt8 := [180, 0, 14, 185, 0, 40, 1, 0, 16, 20, 162, 0, 7, 4, 167, 0, 4, 3, 8, 182, 0, 36, 42]
abbrev dktX22_read_1 : List UInt8 := dkwX22_read_1 ++ dktX22_read_2
def dkwX22_read_0 : List UInt8 := [42, 180, 0, 24, 153, 0, 68, 42, 180, 0, 28, 76, 42, 43, 184, 0, 32, 4, 182, 0, 36, 42, 42]
abbrev dktX22_read_0 : List UInt8 := dkwX22_read_0 ++ dktX22_read_1
theorem dksX22_read_0 : cX22_read.data.toList.drop 0 = dktX22_read_0 := by decide +kernel
theorem dksX22_read_1 : cX22_read.data.toList.drop 23 = dktX22_read_1 := dk_seg dksX22_read_0 23 rfl rfl
theorem dksX22_read_2 : cX22_read.data.toList.drop 46 = dktX22_read_2 := dk_seg dksX22_read_1 23 rfl rfl
theorem dksX22_read_3 : cX22_read.data.toList.drop 69 = dktX22_read_3 := dk_seg dksX22_read_2 23 rfl rfl
theorem dX22_read_0 : decode cX22_read 0 = .ok (.aload_n 0, 1) := dk_42 (dk_at dksX22_read_0 0 rfl rfl)
theorem dX22_read_1 : decode cX22_read 1 = .ok (.getfield 24, 3) := dk_180 0 24 (dk_at dksX22_read_0 1 rfl rfl)
theorem dX22_read_4 : decode cX22_read 4 = .ok (.ifCond .eq 68, 3) := dk_153 0 68 (dk_at dksX22_read_0 4 rfl rfl)
theorem dX22_read_7 : decode cX22_read 7 = .ok (.aload_n 0, 1) := dk_42 (dk_at dksX22_read_0 7 rfl rfl)
theorem dX22_read_8 : decode cX22_read 8 = .ok (.getfield 28, 3) := dk_180 0 28 (dk_at dksX22_read_0 8 rfl rfl)
theorem dX22_read_11 : decode cX22_read 11 = .ok (.astore_n 1, 1) := dk_76 (dk_at dksX22_read_0 11 rfl rfl)
theorem dX22_read_12 : decode cX22_read 12 = .ok (.aload_n 0, 1) := dk_42 (dk_at dksX22_read_0 12 rfl rfl)
theorem dX22_read_13 : decode cX22_read 13 = .ok (.aload_n 1, 1) := dk_43 (dk_at dksX22_read_0 13 rfl rfl)
theorem dX22_read_14 : decode cX22_read 14 = .ok (.invokestatic 32, 3) := dk_184 0 32 (dk_at dksX22_read_0 14 rfl rfl)
theorem dX22_read_17 : decode cX22_read 17 = .ok (.iconst 1, 1) := dk_4 (dk_at dksX22_read_0 17 rfl rfl)
theorem dX22_read_18 : decode cX22_read 18 = .ok (.invokevirtual 36, 3) := dk_182 0 36 (dk_at dksX22_read_0 18 rfl rfl)
theorem dX22_read_21 : decode cX22_read 21 = .ok (.aload_n 0, 1) := dk_42 (dk_at dksX22_read_0 21 rfl rfl)
theorem dX22_read_22 : decode cX22_read 22 = .ok (.aload_n 0, 1) := dk_42 (dk_at dksX22_read_0 22 rfl rfl)
theorem dX22_read_23 : decode cX22_read 23 = .ok (.getfield 14, 3) := dk_180 0 14 (dk_at dksX22_read_1 0 rfl rfl)
theorem dX22_read_26 : decode cX22_read 26 = .ok (.invokeinterface 40 1, 5) := by decide +kernel
theorem dX22_read_31 : decode cX22_read 31 = .ok (.bipush 20, 2) := dk_16 20 (dk_at dksX22_read_1 8 rfl rfl)
theorem dX22_read_33 : decode cX22_read 33 = .ok (.if_icmp .ge 7, 3) := dk_162 0 7 (dk_at dksX22_read_1 10 rfl rfl)
theorem dX22_read_36 : decode cX22_read 36 = .ok (.iconst 1, 1) := dk_4 (dk_at dksX22_read_1 13 rfl rfl)
theorem dX22_read_37 : decode cX22_read 37 = .ok (.goto 4, 3) := dk_167 0 4 (dk_at dksX22_read_1 14 rfl rfl)
theorem dX22_read_40 : decode cX22_read 40 = .ok (.iconst 0, 1) := dk_3 (dk_at dksX22_read_1 17 rfl rfl)
theorem dX22_read_41 : decode cX22_read 41 = .ok (.iconst 5, 1) := dk_8 (dk_at dksX22_read_1 18 rfl rfl)
theorem dX22_read_42 : decode cX22_read 42 = .ok (.invokevirtual 36, 3) := dk_182 0 36 (dk_at dksX22_read_1 19 rfl rfl)
theorem dX22_read_45 : decode cX22_read 45 = .ok (.aload_n 0, 1) := dk_42 (dk_at dksX22_read_1 22 rfl rfl)
theorem dX22_read_46 : decode cX22_read 46 = .ok (.invokevirtual 46, 3) := dk_182 0 46 (dk_at dksX22_read_2 0 rfl rfl)
theorem dX22_read_49 : decode cX22_read 49 = .ok (.aload_n 0, 1) := dk_42 (dk_at dksX22_read_2 3 rfl rfl)
theorem dX22_read_50 : decode cX22_read 50 = .ok (.getfield 14, 3) := dk_180 0 14 (dk_at dksX22_read_2 4 rfl rfl)
theorem dX22_read_53 : decode cX22_read 53 = .ok (.aload_n 0, 1) := dk_42 (dk_at dksX22_read_2 7 rfl rfl)
theorem dX22_read_54 : decode cX22_read 54 = .ok (.aload_n 1, 1) := dk_43 (dk_at dksX22_read_2 8 rfl rfl)
theorem dX22_read_55 : decode cX22_read 55 = .ok (.invokevirtual 50, 3) := dk_182 0 50 (dk_at dksX22_read_2 9 rfl rfl)
theorem dX22_read_58 : decode cX22_read 58 = .ok (.invokeinterface 54 2, 5) := by decide +kernel
theorem dX22_read_63 : decode cX22_read 63 = .ok (.pop, 1) := dk_87 (dk_at dksX22_read_2 17 rfl rfl)
theorem dX22_read_64 : decode cX22_read 64 = .ok (.aload_n 0, 1) := dk_42 (dk_at dksX22_read_2 18 rfl rfl)
theorem dX22_read_65 : decode cX22_read 65 = .ok (.iconst 3, 1) := dk_6 (dk_at dksX22_read_2 19 rfl rfl)
theorem dX22_read_66 : decode cX22_read 66 = .ok (.invokevirtual 58, 3) := dk_182 0 58 (dk_at dksX22_read_2 20 rfl rfl)
theorem dX22_read_69 : decode cX22_read 69 = .ok (.goto (-69), 3) := dk_167 255 187 (dk_at dksX22_read_3 0 rfl rfl)
theorem dX22_read_72 : decode cX22_read 72 = .ok (.aload_n 0, 1) := dk_42 (dk_at dksX22_read_3 3 rfl rfl)
theorem dX22_read_73 : decode cX22_read 73 = .ok (.getfield 14, 3) := dk_180 0 14 (dk_at dksX22_read_3 4 rfl rfl)
theorem dX22_read_76 : decode cX22_read 76 = .ok (.areturn, 1) := dk_176 (dk_at dksX22_read_3 7 rfl rfl)
abbrev cX22_isOrder : ByteArray := prog_15_method_3_code
def yX22_isOrder : MethodName := ⟨RX22, "isOrder", "(Ljava/lang/String;)Z"⟩
def dkwX22_isOrder_8 : List UInt8 := [4, 167, 0, 4, 3, 172]
abbrev dktX22_isOrder_8 : List UInt8 := dkwX22_isOrder_8 ++ []
def dkwX22_isOrder_7 : List UInt8 := [170, 0, 0, 0, 0, 0, 0, 52, 0, 0, 0, 0, 0, 0, 0, 7, 0, 0, 0, 48, 0, 0, 0, 48, 0, 0, 0, 48, 0, 0, 0, 48, 0, 0, 0, 48, 0, 0, 0, 48, 0, 0, 0, 48, 0, 0, 0, 48]
abbrev dktX22_isOrder_7 : List UInt8 := dkwX22_isOrder_7 ++ dktX22_isOrder_8
def dkwX22_isOrder_6 : List UInt8 := [61, 167, 0, 15, 43, 18, 83, 182, 0, 68, 153, 0, 6, 16, 7, 61, 28]
abbrev dktX22_isOrder_6 : List UInt8 := dkwX22_isOrder_6 ++ dktX22_isOrder_7
def dkwX22_isOrder_5 : List UInt8 := [18, 79, 182, 0, 68, 153, 0, 35, 8, 61, 167, 0, 30, 43, 18, 81, 182, 0, 68, 153, 0, 21, 16, 6]
abbrev dktX22_isOrder_5 : List UInt8 := dkwX22_isOrder_5 ++ dktX22_isOrder_6
def dkwX22_isOrder_4 : List UInt8 := [153, 0, 63, 6, 61, 167, 0, 58, 43, 18, 77, 182, 0, 68, 153, 0, 49, 7, 61, 167, 0, 44, 43]
abbrev dktX22_isOrder_4 : List UInt8 := dkwX22_isOrder_4 ++ dktX22_isOrder_5
def dkwX22_isOrder_3 : List UInt8 := [61, 167, 0, 86, 43, 18, 73, 182, 0, 68, 153, 0, 77, 5, 61, 167, 0, 72, 43, 18, 75, 182, 0, 68]
abbrev dktX22_isOrder_3 : List UInt8 := dkwX22_isOrder_3 ++ dktX22_isOrder_4
def dkwX22_isOrder_2 : List UInt8 := [43, 18, 66, 182, 0, 68, 153, 0, 105, 3, 61, 167, 0, 100, 43, 18, 71, 182, 0, 68, 153, 0, 91, 4]
abbrev dktX22_isOrder_2 : List UInt8 := dkwX22_isOrder_2 ++ dktX22_isOrder_3
def dkwX22_isOrder_1 : List UInt8 := [171, 0, 0, 0, 0, 0, 0, 187, 0, 0, 0, 8, 235, 200, 110, 220, 0, 0, 0, 160, 0, 1, 187, 235, 0, 0, 0, 76, 0, 47, 46, 239, 0, 0, 0, 118, 0, 51, 6, 205, 0, 0, 0, 90, 5, 153, 57, 126, 0, 0, 0, 146, 6, 164, 122, 178, 0, 0, 0, 104, 6, 190, 45, 198, 0, 0, 0, 132, 65, 104, 202, 179, 0, 0, 0, 175]
abbrev dktX22_isOrder_1 : List UInt8 := dkwX22_isOrder_1 ++ dktX22_isOrder_2
def dkwX22_isOrder_0 : List UInt8 := [42, 76, 2, 61, 43, 182, 0, 61]
abbrev dktX22_isOrder_0 : List UInt8 := dkwX22_isOrder_0 ++ dktX22_isOrder_1
theorem dksX22_isOrder_0 : cX22_isOrder.data.toList.drop 0 = dktX22_isOrder_0 := by decide +kernel
theorem dksX22_isOrder_1 : cX22_isOrder.data.toList.drop 8 = dktX22_isOrder_1 := dk_seg dksX22_isOrder_0 8 rfl rfl
theorem dksX22_isOrder_2 : cX22_isOrder.data.toList.drop 84 = dktX22_isOrder_2 := dk_seg dksX22_isOrder_1 76 rfl rfl
theorem dksX22_isOrder_3 : cX22_isOrder.data.toList.drop 108 = dktX22_isOrder_3 := dk_seg dksX22_isOrder_2 24 rfl rfl
theorem dksX22_isOrder_4 : cX22_isOrder.data.toList.drop 132 = dktX22_isOrder_4 := dk_seg dksX22_isOrder_3 24 rfl rfl
theorem dksX22_isOrder_5 : cX22_isOrder.data.toList.drop 155 = dktX22_isOrder_5 := dk_seg dksX22_isOrder_4 23 rfl rfl
theorem dksX22_isOrder_6 : cX22_isOrder.data.toList.drop 179 = dktX22_isOrder_6 := dk_seg dksX22_isOrder_5 24 rfl rfl
theorem dksX22_isOrder_7 : cX22_isOrder.data.toList.drop 196 = dktX22_isOrder_7 := dk_seg dksX22_isOrder_6 17 rfl rfl
theorem dksX22_isOrder_8 : cX22_isOrder.data.toList.drop 244 = dktX22_isOrder_8 := dk_seg dksX22_isOrder_7 48 rfl rfl
theorem dX22_isOrder_0 : decode cX22_isOrder 0 = .ok (.aload_n 0, 1) := dk_42 (dk_at dksX22_isOrder_0 0 rfl rfl)
theorem dX22_isOrder_1 : decode cX22_isOrder 1 = .ok (.astore_n 1, 1) := dk_76 (dk_at dksX22_isOrder_0 1 rfl rfl)
theorem dX22_isOrder_2 : decode cX22_isOrder 2 = .ok (.iconst (-1), 1) := dk_2 (dk_at dksX22_isOrder_0 2 rfl rfl)
theorem dX22_isOrder_3 : decode cX22_isOrder 3 = .ok (.istore_n 2, 1) := dk_61 (dk_at dksX22_isOrder_0 3 rfl rfl)
theorem dX22_isOrder_4 : decode cX22_isOrder 4 = .ok (.aload_n 1, 1) := dk_43 (dk_at dksX22_isOrder_0 4 rfl rfl)
theorem dX22_isOrder_5 : decode cX22_isOrder 5 = .ok (.invokevirtual 61, 3) := dk_182 0 61 (dk_at dksX22_isOrder_0 5 rfl rfl)
theorem dX22_isOrder_8 : decode cX22_isOrder 8 = .ok (.lookupswitch 187 #[(-339185956, 160), (113643, 76), (3092207, 118), (3344077, 90), (93927806, 146), (111442610, 104), (113126854, 132), (1097386675, 175)], 76) := by decide +kernel
theorem dX22_isOrder_84 : decode cX22_isOrder 84 = .ok (.aload_n 1, 1) := dk_43 (dk_at dksX22_isOrder_2 0 rfl rfl)
theorem dX22_isOrder_85 : decode cX22_isOrder 85 = .ok (.ldc 66, 2) := dk_18 66 (dk_at dksX22_isOrder_2 1 rfl rfl)
theorem dX22_isOrder_87 : decode cX22_isOrder 87 = .ok (.invokevirtual 68, 3) := dk_182 0 68 (dk_at dksX22_isOrder_2 3 rfl rfl)
theorem dX22_isOrder_90 : decode cX22_isOrder 90 = .ok (.ifCond .eq 105, 3) := dk_153 0 105 (dk_at dksX22_isOrder_2 6 rfl rfl)
theorem dX22_isOrder_93 : decode cX22_isOrder 93 = .ok (.iconst 0, 1) := dk_3 (dk_at dksX22_isOrder_2 9 rfl rfl)
theorem dX22_isOrder_94 : decode cX22_isOrder 94 = .ok (.istore_n 2, 1) := dk_61 (dk_at dksX22_isOrder_2 10 rfl rfl)
theorem dX22_isOrder_95 : decode cX22_isOrder 95 = .ok (.goto 100, 3) := dk_167 0 100 (dk_at dksX22_isOrder_2 11 rfl rfl)
theorem dX22_isOrder_98 : decode cX22_isOrder 98 = .ok (.aload_n 1, 1) := dk_43 (dk_at dksX22_isOrder_2 14 rfl rfl)
theorem dX22_isOrder_99 : decode cX22_isOrder 99 = .ok (.ldc 71, 2) := dk_18 71 (dk_at dksX22_isOrder_2 15 rfl rfl)
theorem dX22_isOrder_101 : decode cX22_isOrder 101 = .ok (.invokevirtual 68, 3) := dk_182 0 68 (dk_at dksX22_isOrder_2 17 rfl rfl)
theorem dX22_isOrder_104 : decode cX22_isOrder 104 = .ok (.ifCond .eq 91, 3) := dk_153 0 91 (dk_at dksX22_isOrder_2 20 rfl rfl)
theorem dX22_isOrder_107 : decode cX22_isOrder 107 = .ok (.iconst 1, 1) := dk_4 (dk_at dksX22_isOrder_2 23 rfl rfl)
theorem dX22_isOrder_108 : decode cX22_isOrder 108 = .ok (.istore_n 2, 1) := dk_61 (dk_at dksX22_isOrder_3 0 rfl rfl)
theorem dX22_isOrder_109 : decode cX22_isOrder 109 = .ok (.goto 86, 3) := dk_167 0 86 (dk_at dksX22_isOrder_3 1 rfl rfl)
theorem dX22_isOrder_112 : decode cX22_isOrder 112 = .ok (.aload_n 1, 1) := dk_43 (dk_at dksX22_isOrder_3 4 rfl rfl)
theorem dX22_isOrder_113 : decode cX22_isOrder 113 = .ok (.ldc 73, 2) := dk_18 73 (dk_at dksX22_isOrder_3 5 rfl rfl)
theorem dX22_isOrder_115 : decode cX22_isOrder 115 = .ok (.invokevirtual 68, 3) := dk_182 0 68 (dk_at dksX22_isOrder_3 7 rfl rfl)
theorem dX22_isOrder_118 : decode cX22_isOrder 118 = .ok (.ifCond .eq 77, 3) := dk_153 0 77 (dk_at dksX22_isOrder_3 10 rfl rfl)
theorem dX22_isOrder_121 : decode cX22_isOrder 121 = .ok (.iconst 2, 1) := dk_5 (dk_at dksX22_isOrder_3 13 rfl rfl)
theorem dX22_isOrder_122 : decode cX22_isOrder 122 = .ok (.istore_n 2, 1) := dk_61 (dk_at dksX22_isOrder_3 14 rfl rfl)
theorem dX22_isOrder_123 : decode cX22_isOrder 123 = .ok (.goto 72, 3) := dk_167 0 72 (dk_at dksX22_isOrder_3 15 rfl rfl)
theorem dX22_isOrder_126 : decode cX22_isOrder 126 = .ok (.aload_n 1, 1) := dk_43 (dk_at dksX22_isOrder_3 18 rfl rfl)
theorem dX22_isOrder_127 : decode cX22_isOrder 127 = .ok (.ldc 75, 2) := dk_18 75 (dk_at dksX22_isOrder_3 19 rfl rfl)
theorem dX22_isOrder_129 : decode cX22_isOrder 129 = .ok (.invokevirtual 68, 3) := dk_182 0 68 (dk_at dksX22_isOrder_3 21 rfl rfl)
theorem dX22_isOrder_132 : decode cX22_isOrder 132 = .ok (.ifCond .eq 63, 3) := dk_153 0 63 (dk_at dksX22_isOrder_4 0 rfl rfl)
theorem dX22_isOrder_135 : decode cX22_isOrder 135 = .ok (.iconst 3, 1) := dk_6 (dk_at dksX22_isOrder_4 3 rfl rfl)
theorem dX22_isOrder_136 : decode cX22_isOrder 136 = .ok (.istore_n 2, 1) := dk_61 (dk_at dksX22_isOrder_4 4 rfl rfl)
theorem dX22_isOrder_137 : decode cX22_isOrder 137 = .ok (.goto 58, 3) := dk_167 0 58 (dk_at dksX22_isOrder_4 5 rfl rfl)
theorem dX22_isOrder_140 : decode cX22_isOrder 140 = .ok (.aload_n 1, 1) := dk_43 (dk_at dksX22_isOrder_4 8 rfl rfl)
theorem dX22_isOrder_141 : decode cX22_isOrder 141 = .ok (.ldc 77, 2) := dk_18 77 (dk_at dksX22_isOrder_4 9 rfl rfl)
theorem dX22_isOrder_143 : decode cX22_isOrder 143 = .ok (.invokevirtual 68, 3) := dk_182 0 68 (dk_at dksX22_isOrder_4 11 rfl rfl)
theorem dX22_isOrder_146 : decode cX22_isOrder 146 = .ok (.ifCond .eq 49, 3) := dk_153 0 49 (dk_at dksX22_isOrder_4 14 rfl rfl)
theorem dX22_isOrder_149 : decode cX22_isOrder 149 = .ok (.iconst 4, 1) := dk_7 (dk_at dksX22_isOrder_4 17 rfl rfl)
theorem dX22_isOrder_150 : decode cX22_isOrder 150 = .ok (.istore_n 2, 1) := dk_61 (dk_at dksX22_isOrder_4 18 rfl rfl)
theorem dX22_isOrder_151 : decode cX22_isOrder 151 = .ok (.goto 44, 3) := dk_167 0 44 (dk_at dksX22_isOrder_4 19 rfl rfl)
theorem dX22_isOrder_154 : decode cX22_isOrder 154 = .ok (.aload_n 1, 1) := dk_43 (dk_at dksX22_isOrder_4 22 rfl rfl)
theorem dX22_isOrder_155 : decode cX22_isOrder 155 = .ok (.ldc 79, 2) := dk_18 79 (dk_at dksX22_isOrder_5 0 rfl rfl)
theorem dX22_isOrder_157 : decode cX22_isOrder 157 = .ok (.invokevirtual 68, 3) := dk_182 0 68 (dk_at dksX22_isOrder_5 2 rfl rfl)
theorem dX22_isOrder_160 : decode cX22_isOrder 160 = .ok (.ifCond .eq 35, 3) := dk_153 0 35 (dk_at dksX22_isOrder_5 5 rfl rfl)
theorem dX22_isOrder_163 : decode cX22_isOrder 163 = .ok (.iconst 5, 1) := dk_8 (dk_at dksX22_isOrder_5 8 rfl rfl)
theorem dX22_isOrder_164 : decode cX22_isOrder 164 = .ok (.istore_n 2, 1) := dk_61 (dk_at dksX22_isOrder_5 9 rfl rfl)
theorem dX22_isOrder_165 : decode cX22_isOrder 165 = .ok (.goto 30, 3) := dk_167 0 30 (dk_at dksX22_isOrder_5 10 rfl rfl)
theorem dX22_isOrder_168 : decode cX22_isOrder 168 = .ok (.aload_n 1, 1) := dk_43 (dk_at dksX22_isOrder_5 13 rfl rfl)
theorem dX22_isOrder_169 : decode cX22_isOrder 169 = .ok (.ldc 81, 2) := dk_18 81 (dk_at dksX22_isOrder_5 14 rfl rfl)
theorem dX22_isOrder_171 : decode cX22_isOrder 171 = .ok (.invokevirtual 68, 3) := dk_182 0 68 (dk_at dksX22_isOrder_5 16 rfl rfl)
theorem dX22_isOrder_174 : decode cX22_isOrder 174 = .ok (.ifCond .eq 21, 3) := dk_153 0 21 (dk_at dksX22_isOrder_5 19 rfl rfl)
theorem dX22_isOrder_177 : decode cX22_isOrder 177 = .ok (.bipush 6, 2) := dk_16 6 (dk_at dksX22_isOrder_5 22 rfl rfl)
theorem dX22_isOrder_179 : decode cX22_isOrder 179 = .ok (.istore_n 2, 1) := dk_61 (dk_at dksX22_isOrder_6 0 rfl rfl)
theorem dX22_isOrder_180 : decode cX22_isOrder 180 = .ok (.goto 15, 3) := dk_167 0 15 (dk_at dksX22_isOrder_6 1 rfl rfl)
theorem dX22_isOrder_183 : decode cX22_isOrder 183 = .ok (.aload_n 1, 1) := dk_43 (dk_at dksX22_isOrder_6 4 rfl rfl)
theorem dX22_isOrder_184 : decode cX22_isOrder 184 = .ok (.ldc 83, 2) := dk_18 83 (dk_at dksX22_isOrder_6 5 rfl rfl)
theorem dX22_isOrder_186 : decode cX22_isOrder 186 = .ok (.invokevirtual 68, 3) := dk_182 0 68 (dk_at dksX22_isOrder_6 7 rfl rfl)
theorem dX22_isOrder_189 : decode cX22_isOrder 189 = .ok (.ifCond .eq 6, 3) := dk_153 0 6 (dk_at dksX22_isOrder_6 10 rfl rfl)
theorem dX22_isOrder_192 : decode cX22_isOrder 192 = .ok (.bipush 7, 2) := dk_16 7 (dk_at dksX22_isOrder_6 13 rfl rfl)
theorem dX22_isOrder_194 : decode cX22_isOrder 194 = .ok (.istore_n 2, 1) := dk_61 (dk_at dksX22_isOrder_6 15 rfl rfl)
theorem dX22_isOrder_195 : decode cX22_isOrder 195 = .ok (.iload_n 2, 1) := dk_28 (dk_at dksX22_isOrder_6 16 rfl rfl)
theorem dX22_isOrder_196 : decode cX22_isOrder 196 = .ok (.tableswitch 52 0 7 #[48, 48, 48, 48, 48, 48, 48, 48], 48) := by decide +kernel
theorem dX22_isOrder_244 : decode cX22_isOrder 244 = .ok (.iconst 1, 1) := dk_4 (dk_at dksX22_isOrder_8 0 rfl rfl)
theorem dX22_isOrder_245 : decode cX22_isOrder 245 = .ok (.goto 4, 3) := dk_167 0 4 (dk_at dksX22_isOrder_8 1 rfl rfl)
theorem dX22_isOrder_248 : decode cX22_isOrder 248 = .ok (.iconst 0, 1) := dk_3 (dk_at dksX22_isOrder_8 4 rfl rfl)
theorem dX22_isOrder_249 : decode cX22_isOrder 249 = .ok (.ireturn, 1) := dk_172 (dk_at dksX22_isOrder_8 5 rfl rfl)
abbrev cX22_order : ByteArray := prog_15_method_5_code
def yX22_order : MethodName := ⟨RX22, "order", "(Ljava/lang/String;)LSpokenMarks$Order;"⟩
def dkwX22_order_12 : List UInt8 := [183, 0, 127, 176]
abbrev dktX22_order_12 : List UInt8 := dkwX22_order_12 ++ []
def dkwX22_order_11 : List UInt8 := [17, 39, 16, 182, 0, 91, 183, 0, 124, 167, 0, 16, 187, 0, 125, 89, 43, 18, 81, 182, 0, 68]
abbrev dktX22_order_11 : List UInt8 := dkwX22_order_11 ++ dktX22_order_12
def dkwX22_order_10 : List UInt8 := [16, 20, 182, 0, 91, 183, 0, 119, 167, 0, 41, 187, 0, 122, 89, 42, 4, 16, 7, 182, 0, 91, 42, 3]
abbrev dktX22_order_10 : List UInt8 := dkwX22_order_10 ++ dktX22_order_11
def dkwX22_order_9 : List UInt8 := [182, 0, 91, 183, 0, 116, 167, 0, 66, 187, 0, 117, 89, 42, 4, 17, 39, 15, 182, 0, 91, 42, 4]
abbrev dktX22_order_9 : List UInt8 := dkwX22_order_9 ++ dktX22_order_10
def dkwX22_order_8 : List UInt8 := [89, 42, 3, 16, 7, 182, 0, 91, 183, 0, 113, 167, 0, 84, 187, 0, 114, 89, 42, 4, 17, 39, 15]
abbrev dktX22_order_8 : List UInt8 := dkwX22_order_8 ++ dktX22_order_9
def dkwX22_order_7 : List UInt8 := [187, 0, 98, 89, 42, 182, 0, 100, 183, 0, 104, 167, 0, 108, 42, 182, 0, 107, 167, 0, 101, 187, 0, 111]
abbrev dktX22_order_7 : List UInt8 := dkwX22_order_7 ++ dktX22_order_8
def dkwX22_order_6 : List UInt8 := [170, 0, 0, 0, 0, 144, 0, 0, 0, 0, 0, 0, 0, 5, 0, 0, 0, 38, 0, 0, 0, 52, 0, 0, 0, 59, 0, 0, 0, 76, 0, 0, 0, 94, 0, 0, 0, 119]
abbrev dktX22_order_6 : List UInt8 := dkwX22_order_6 ++ dktX22_order_7
def dkwX22_order_5 : List UInt8 := [18, 79, 182, 0, 68, 153, 0, 5, 8, 62, 29]
abbrev dktX22_order_5 : List UInt8 := dkwX22_order_5 ++ dktX22_order_6
def dkwX22_order_4 : List UInt8 := [153, 0, 33, 6, 62, 167, 0, 28, 44, 18, 77, 182, 0, 68, 153, 0, 19, 7, 62, 167, 0, 14, 44]
abbrev dktX22_order_4 : List UInt8 := dkwX22_order_4 ++ dktX22_order_5
def dkwX22_order_3 : List UInt8 := [62, 167, 0, 56, 44, 18, 73, 182, 0, 68, 153, 0, 47, 5, 62, 167, 0, 42, 44, 18, 75, 182, 0, 68]
abbrev dktX22_order_3 : List UInt8 := dkwX22_order_3 ++ dktX22_order_4
def dkwX22_order_2 : List UInt8 := [44, 18, 66, 182, 0, 68, 153, 0, 75, 3, 62, 167, 0, 70, 44, 18, 71, 182, 0, 68, 153, 0, 61, 4]
abbrev dktX22_order_2 : List UInt8 := dkwX22_order_2 ++ dktX22_order_3
def dkwX22_order_1 : List UInt8 := [171, 0, 0, 0, 0, 0, 0, 141, 0, 0, 0, 6, 0, 1, 187, 235, 0, 0, 0, 60, 0, 47, 46, 239, 0, 0, 0, 102, 0, 51, 6, 205, 0, 0, 0, 74, 5, 153, 57, 126, 0, 0, 0, 130, 6, 164, 122, 178, 0, 0, 0, 88, 6, 190, 45, 198, 0, 0, 0, 116]
abbrev dktX22_order_1 : List UInt8 := dkwX22_order_1 ++ dktX22_order_2
def dkwX22_order_0 : List UInt8 := [43, 77, 2, 62, 44, 182, 0, 61]
abbrev dktX22_order_0 : List UInt8 := dkwX22_order_0 ++ dktX22_order_1
theorem dksX22_order_0 : cX22_order.data.toList.drop 0 = dktX22_order_0 := by decide +kernel
theorem dksX22_order_1 : cX22_order.data.toList.drop 8 = dktX22_order_1 := dk_seg dksX22_order_0 8 rfl rfl
theorem dksX22_order_2 : cX22_order.data.toList.drop 68 = dktX22_order_2 := dk_seg dksX22_order_1 60 rfl rfl
theorem dksX22_order_3 : cX22_order.data.toList.drop 92 = dktX22_order_3 := dk_seg dksX22_order_2 24 rfl rfl
theorem dksX22_order_4 : cX22_order.data.toList.drop 116 = dktX22_order_4 := dk_seg dksX22_order_3 24 rfl rfl
theorem dksX22_order_5 : cX22_order.data.toList.drop 139 = dktX22_order_5 := dk_seg dksX22_order_4 23 rfl rfl
theorem dksX22_order_6 : cX22_order.data.toList.drop 150 = dktX22_order_6 := dk_seg dksX22_order_5 11 rfl rfl
theorem dksX22_order_7 : cX22_order.data.toList.drop 188 = dktX22_order_7 := dk_seg dksX22_order_6 38 rfl rfl
theorem dksX22_order_8 : cX22_order.data.toList.drop 212 = dktX22_order_8 := dk_seg dksX22_order_7 24 rfl rfl
theorem dksX22_order_9 : cX22_order.data.toList.drop 235 = dktX22_order_9 := dk_seg dksX22_order_8 23 rfl rfl
theorem dksX22_order_10 : cX22_order.data.toList.drop 258 = dktX22_order_10 := dk_seg dksX22_order_9 23 rfl rfl
theorem dksX22_order_11 : cX22_order.data.toList.drop 282 = dktX22_order_11 := dk_seg dksX22_order_10 24 rfl rfl
theorem dksX22_order_12 : cX22_order.data.toList.drop 304 = dktX22_order_12 := dk_seg dksX22_order_11 22 rfl rfl
theorem dX22_order_0 : decode cX22_order 0 = .ok (.aload_n 1, 1) := dk_43 (dk_at dksX22_order_0 0 rfl rfl)
theorem dX22_order_1 : decode cX22_order 1 = .ok (.astore_n 2, 1) := dk_77 (dk_at dksX22_order_0 1 rfl rfl)
theorem dX22_order_2 : decode cX22_order 2 = .ok (.iconst (-1), 1) := dk_2 (dk_at dksX22_order_0 2 rfl rfl)
theorem dX22_order_3 : decode cX22_order 3 = .ok (.istore_n 3, 1) := dk_62 (dk_at dksX22_order_0 3 rfl rfl)
theorem dX22_order_4 : decode cX22_order 4 = .ok (.aload_n 2, 1) := dk_44 (dk_at dksX22_order_0 4 rfl rfl)
theorem dX22_order_5 : decode cX22_order 5 = .ok (.invokevirtual 61, 3) := dk_182 0 61 (dk_at dksX22_order_0 5 rfl rfl)
theorem dX22_order_8 : decode cX22_order 8 = .ok (.lookupswitch 141 #[(113643, 60), (3092207, 102), (3344077, 74), (93927806, 130), (111442610, 88), (113126854, 116)], 60) := by decide +kernel
theorem dX22_order_68 : decode cX22_order 68 = .ok (.aload_n 2, 1) := dk_44 (dk_at dksX22_order_2 0 rfl rfl)
theorem dX22_order_69 : decode cX22_order 69 = .ok (.ldc 66, 2) := dk_18 66 (dk_at dksX22_order_2 1 rfl rfl)
theorem dX22_order_71 : decode cX22_order 71 = .ok (.invokevirtual 68, 3) := dk_182 0 68 (dk_at dksX22_order_2 3 rfl rfl)
theorem dX22_order_74 : decode cX22_order 74 = .ok (.ifCond .eq 75, 3) := dk_153 0 75 (dk_at dksX22_order_2 6 rfl rfl)
theorem dX22_order_77 : decode cX22_order 77 = .ok (.iconst 0, 1) := dk_3 (dk_at dksX22_order_2 9 rfl rfl)
theorem dX22_order_78 : decode cX22_order 78 = .ok (.istore_n 3, 1) := dk_62 (dk_at dksX22_order_2 10 rfl rfl)
theorem dX22_order_79 : decode cX22_order 79 = .ok (.goto 70, 3) := dk_167 0 70 (dk_at dksX22_order_2 11 rfl rfl)
theorem dX22_order_82 : decode cX22_order 82 = .ok (.aload_n 2, 1) := dk_44 (dk_at dksX22_order_2 14 rfl rfl)
theorem dX22_order_83 : decode cX22_order 83 = .ok (.ldc 71, 2) := dk_18 71 (dk_at dksX22_order_2 15 rfl rfl)
theorem dX22_order_85 : decode cX22_order 85 = .ok (.invokevirtual 68, 3) := dk_182 0 68 (dk_at dksX22_order_2 17 rfl rfl)
theorem dX22_order_88 : decode cX22_order 88 = .ok (.ifCond .eq 61, 3) := dk_153 0 61 (dk_at dksX22_order_2 20 rfl rfl)
theorem dX22_order_91 : decode cX22_order 91 = .ok (.iconst 1, 1) := dk_4 (dk_at dksX22_order_2 23 rfl rfl)
theorem dX22_order_92 : decode cX22_order 92 = .ok (.istore_n 3, 1) := dk_62 (dk_at dksX22_order_3 0 rfl rfl)
theorem dX22_order_93 : decode cX22_order 93 = .ok (.goto 56, 3) := dk_167 0 56 (dk_at dksX22_order_3 1 rfl rfl)
theorem dX22_order_96 : decode cX22_order 96 = .ok (.aload_n 2, 1) := dk_44 (dk_at dksX22_order_3 4 rfl rfl)
theorem dX22_order_97 : decode cX22_order 97 = .ok (.ldc 73, 2) := dk_18 73 (dk_at dksX22_order_3 5 rfl rfl)
theorem dX22_order_99 : decode cX22_order 99 = .ok (.invokevirtual 68, 3) := dk_182 0 68 (dk_at dksX22_order_3 7 rfl rfl)
theorem dX22_order_102 : decode cX22_order 102 = .ok (.ifCond .eq 47, 3) := dk_153 0 47 (dk_at dksX22_order_3 10 rfl rfl)
theorem dX22_order_105 : decode cX22_order 105 = .ok (.iconst 2, 1) := dk_5 (dk_at dksX22_order_3 13 rfl rfl)
theorem dX22_order_106 : decode cX22_order 106 = .ok (.istore_n 3, 1) := dk_62 (dk_at dksX22_order_3 14 rfl rfl)
theorem dX22_order_107 : decode cX22_order 107 = .ok (.goto 42, 3) := dk_167 0 42 (dk_at dksX22_order_3 15 rfl rfl)
theorem dX22_order_110 : decode cX22_order 110 = .ok (.aload_n 2, 1) := dk_44 (dk_at dksX22_order_3 18 rfl rfl)
theorem dX22_order_111 : decode cX22_order 111 = .ok (.ldc 75, 2) := dk_18 75 (dk_at dksX22_order_3 19 rfl rfl)
theorem dX22_order_113 : decode cX22_order 113 = .ok (.invokevirtual 68, 3) := dk_182 0 68 (dk_at dksX22_order_3 21 rfl rfl)
theorem dX22_order_116 : decode cX22_order 116 = .ok (.ifCond .eq 33, 3) := dk_153 0 33 (dk_at dksX22_order_4 0 rfl rfl)
theorem dX22_order_119 : decode cX22_order 119 = .ok (.iconst 3, 1) := dk_6 (dk_at dksX22_order_4 3 rfl rfl)
theorem dX22_order_120 : decode cX22_order 120 = .ok (.istore_n 3, 1) := dk_62 (dk_at dksX22_order_4 4 rfl rfl)
theorem dX22_order_121 : decode cX22_order 121 = .ok (.goto 28, 3) := dk_167 0 28 (dk_at dksX22_order_4 5 rfl rfl)
theorem dX22_order_124 : decode cX22_order 124 = .ok (.aload_n 2, 1) := dk_44 (dk_at dksX22_order_4 8 rfl rfl)
theorem dX22_order_125 : decode cX22_order 125 = .ok (.ldc 77, 2) := dk_18 77 (dk_at dksX22_order_4 9 rfl rfl)
theorem dX22_order_127 : decode cX22_order 127 = .ok (.invokevirtual 68, 3) := dk_182 0 68 (dk_at dksX22_order_4 11 rfl rfl)
theorem dX22_order_130 : decode cX22_order 130 = .ok (.ifCond .eq 19, 3) := dk_153 0 19 (dk_at dksX22_order_4 14 rfl rfl)
theorem dX22_order_133 : decode cX22_order 133 = .ok (.iconst 4, 1) := dk_7 (dk_at dksX22_order_4 17 rfl rfl)
theorem dX22_order_134 : decode cX22_order 134 = .ok (.istore_n 3, 1) := dk_62 (dk_at dksX22_order_4 18 rfl rfl)
theorem dX22_order_135 : decode cX22_order 135 = .ok (.goto 14, 3) := dk_167 0 14 (dk_at dksX22_order_4 19 rfl rfl)
theorem dX22_order_138 : decode cX22_order 138 = .ok (.aload_n 2, 1) := dk_44 (dk_at dksX22_order_4 22 rfl rfl)
theorem dX22_order_139 : decode cX22_order 139 = .ok (.ldc 79, 2) := dk_18 79 (dk_at dksX22_order_5 0 rfl rfl)
theorem dX22_order_141 : decode cX22_order 141 = .ok (.invokevirtual 68, 3) := dk_182 0 68 (dk_at dksX22_order_5 2 rfl rfl)
theorem dX22_order_144 : decode cX22_order 144 = .ok (.ifCond .eq 5, 3) := dk_153 0 5 (dk_at dksX22_order_5 5 rfl rfl)
theorem dX22_order_147 : decode cX22_order 147 = .ok (.iconst 5, 1) := dk_8 (dk_at dksX22_order_5 8 rfl rfl)
theorem dX22_order_148 : decode cX22_order 148 = .ok (.istore_n 3, 1) := dk_62 (dk_at dksX22_order_5 9 rfl rfl)
theorem dX22_order_149 : decode cX22_order 149 = .ok (.iload_n 3, 1) := dk_29 (dk_at dksX22_order_5 10 rfl rfl)
theorem dX22_order_150 : decode cX22_order 150 = .ok (.tableswitch 144 0 5 #[38, 52, 59, 76, 94, 119], 38) := by decide +kernel
theorem dX22_order_188 : decode cX22_order 188 = .ok (.new 98, 3) := dk_187 0 98 (dk_at dksX22_order_7 0 rfl rfl)
theorem dX22_order_191 : decode cX22_order 191 = .ok (.dup, 1) := dk_89 (dk_at dksX22_order_7 3 rfl rfl)
theorem dX22_order_192 : decode cX22_order 192 = .ok (.aload_n 0, 1) := dk_42 (dk_at dksX22_order_7 4 rfl rfl)
theorem dX22_order_193 : decode cX22_order 193 = .ok (.invokevirtual 100, 3) := dk_182 0 100 (dk_at dksX22_order_7 5 rfl rfl)
theorem dX22_order_196 : decode cX22_order 196 = .ok (.invokespecial 104, 3) := dk_183 0 104 (dk_at dksX22_order_7 8 rfl rfl)
theorem dX22_order_199 : decode cX22_order 199 = .ok (.goto 108, 3) := dk_167 0 108 (dk_at dksX22_order_7 11 rfl rfl)
theorem dX22_order_202 : decode cX22_order 202 = .ok (.aload_n 0, 1) := dk_42 (dk_at dksX22_order_7 14 rfl rfl)
theorem dX22_order_203 : decode cX22_order 203 = .ok (.invokevirtual 107, 3) := dk_182 0 107 (dk_at dksX22_order_7 15 rfl rfl)
theorem dX22_order_206 : decode cX22_order 206 = .ok (.goto 101, 3) := dk_167 0 101 (dk_at dksX22_order_7 18 rfl rfl)
theorem dX22_order_209 : decode cX22_order 209 = .ok (.new 111, 3) := dk_187 0 111 (dk_at dksX22_order_7 21 rfl rfl)
theorem dX22_order_212 : decode cX22_order 212 = .ok (.dup, 1) := dk_89 (dk_at dksX22_order_8 0 rfl rfl)
theorem dX22_order_213 : decode cX22_order 213 = .ok (.aload_n 0, 1) := dk_42 (dk_at dksX22_order_8 1 rfl rfl)
theorem dX22_order_214 : decode cX22_order 214 = .ok (.iconst 0, 1) := dk_3 (dk_at dksX22_order_8 2 rfl rfl)
theorem dX22_order_215 : decode cX22_order 215 = .ok (.bipush 7, 2) := dk_16 7 (dk_at dksX22_order_8 3 rfl rfl)
theorem dX22_order_217 : decode cX22_order 217 = .ok (.invokevirtual 91, 3) := dk_182 0 91 (dk_at dksX22_order_8 5 rfl rfl)
theorem dX22_order_220 : decode cX22_order 220 = .ok (.invokespecial 113, 3) := dk_183 0 113 (dk_at dksX22_order_8 8 rfl rfl)
theorem dX22_order_223 : decode cX22_order 223 = .ok (.goto 84, 3) := dk_167 0 84 (dk_at dksX22_order_8 11 rfl rfl)
theorem dX22_order_226 : decode cX22_order 226 = .ok (.new 114, 3) := dk_187 0 114 (dk_at dksX22_order_8 14 rfl rfl)
theorem dX22_order_229 : decode cX22_order 229 = .ok (.dup, 1) := dk_89 (dk_at dksX22_order_8 17 rfl rfl)
theorem dX22_order_230 : decode cX22_order 230 = .ok (.aload_n 0, 1) := dk_42 (dk_at dksX22_order_8 18 rfl rfl)
theorem dX22_order_231 : decode cX22_order 231 = .ok (.iconst 1, 1) := dk_4 (dk_at dksX22_order_8 19 rfl rfl)
theorem dX22_order_232 : decode cX22_order 232 = .ok (.sipush 9999, 3) := dk_17 39 15 (dk_at dksX22_order_8 20 rfl rfl)
theorem dX22_order_235 : decode cX22_order 235 = .ok (.invokevirtual 91, 3) := dk_182 0 91 (dk_at dksX22_order_9 0 rfl rfl)
theorem dX22_order_238 : decode cX22_order 238 = .ok (.invokespecial 116, 3) := dk_183 0 116 (dk_at dksX22_order_9 3 rfl rfl)
theorem dX22_order_241 : decode cX22_order 241 = .ok (.goto 66, 3) := dk_167 0 66 (dk_at dksX22_order_9 6 rfl rfl)
theorem dX22_order_244 : decode cX22_order 244 = .ok (.new 117, 3) := dk_187 0 117 (dk_at dksX22_order_9 9 rfl rfl)
theorem dX22_order_247 : decode cX22_order 247 = .ok (.dup, 1) := dk_89 (dk_at dksX22_order_9 12 rfl rfl)
theorem dX22_order_248 : decode cX22_order 248 = .ok (.aload_n 0, 1) := dk_42 (dk_at dksX22_order_9 13 rfl rfl)
theorem dX22_order_249 : decode cX22_order 249 = .ok (.iconst 1, 1) := dk_4 (dk_at dksX22_order_9 14 rfl rfl)
theorem dX22_order_250 : decode cX22_order 250 = .ok (.sipush 9999, 3) := dk_17 39 15 (dk_at dksX22_order_9 15 rfl rfl)
theorem dX22_order_253 : decode cX22_order 253 = .ok (.invokevirtual 91, 3) := dk_182 0 91 (dk_at dksX22_order_9 18 rfl rfl)
theorem dX22_order_256 : decode cX22_order 256 = .ok (.aload_n 0, 1) := dk_42 (dk_at dksX22_order_9 21 rfl rfl)
theorem dX22_order_257 : decode cX22_order 257 = .ok (.iconst 1, 1) := dk_4 (dk_at dksX22_order_9 22 rfl rfl)
theorem dX22_order_258 : decode cX22_order 258 = .ok (.bipush 20, 2) := dk_16 20 (dk_at dksX22_order_10 0 rfl rfl)
theorem dX22_order_260 : decode cX22_order 260 = .ok (.invokevirtual 91, 3) := dk_182 0 91 (dk_at dksX22_order_10 2 rfl rfl)
theorem dX22_order_263 : decode cX22_order 263 = .ok (.invokespecial 119, 3) := dk_183 0 119 (dk_at dksX22_order_10 5 rfl rfl)
theorem dX22_order_266 : decode cX22_order 266 = .ok (.goto 41, 3) := dk_167 0 41 (dk_at dksX22_order_10 8 rfl rfl)
theorem dX22_order_269 : decode cX22_order 269 = .ok (.new 122, 3) := dk_187 0 122 (dk_at dksX22_order_10 11 rfl rfl)
theorem dX22_order_272 : decode cX22_order 272 = .ok (.dup, 1) := dk_89 (dk_at dksX22_order_10 14 rfl rfl)
theorem dX22_order_273 : decode cX22_order 273 = .ok (.aload_n 0, 1) := dk_42 (dk_at dksX22_order_10 15 rfl rfl)
theorem dX22_order_274 : decode cX22_order 274 = .ok (.iconst 1, 1) := dk_4 (dk_at dksX22_order_10 16 rfl rfl)
theorem dX22_order_275 : decode cX22_order 275 = .ok (.bipush 7, 2) := dk_16 7 (dk_at dksX22_order_10 17 rfl rfl)
theorem dX22_order_277 : decode cX22_order 277 = .ok (.invokevirtual 91, 3) := dk_182 0 91 (dk_at dksX22_order_10 19 rfl rfl)
theorem dX22_order_280 : decode cX22_order 280 = .ok (.aload_n 0, 1) := dk_42 (dk_at dksX22_order_10 22 rfl rfl)
theorem dX22_order_281 : decode cX22_order 281 = .ok (.iconst 0, 1) := dk_3 (dk_at dksX22_order_10 23 rfl rfl)
theorem dX22_order_282 : decode cX22_order 282 = .ok (.sipush 10000, 3) := dk_17 39 16 (dk_at dksX22_order_11 0 rfl rfl)
theorem dX22_order_285 : decode cX22_order 285 = .ok (.invokevirtual 91, 3) := dk_182 0 91 (dk_at dksX22_order_11 3 rfl rfl)
theorem dX22_order_288 : decode cX22_order 288 = .ok (.invokespecial 124, 3) := dk_183 0 124 (dk_at dksX22_order_11 6 rfl rfl)
theorem dX22_order_291 : decode cX22_order 291 = .ok (.goto 16, 3) := dk_167 0 16 (dk_at dksX22_order_11 9 rfl rfl)
theorem dX22_order_294 : decode cX22_order 294 = .ok (.new 125, 3) := dk_187 0 125 (dk_at dksX22_order_11 12 rfl rfl)
theorem dX22_order_297 : decode cX22_order 297 = .ok (.dup, 1) := dk_89 (dk_at dksX22_order_11 15 rfl rfl)
theorem dX22_order_298 : decode cX22_order 298 = .ok (.aload_n 1, 1) := dk_43 (dk_at dksX22_order_11 16 rfl rfl)
theorem dX22_order_299 : decode cX22_order 299 = .ok (.ldc 81, 2) := dk_18 81 (dk_at dksX22_order_11 17 rfl rfl)
theorem dX22_order_301 : decode cX22_order 301 = .ok (.invokevirtual 68, 3) := dk_182 0 68 (dk_at dksX22_order_11 19 rfl rfl)
theorem dX22_order_304 : decode cX22_order 304 = .ok (.invokespecial 127, 3) := dk_183 0 127 (dk_at dksX22_order_12 0 rfl rfl)
theorem dX22_order_307 : decode cX22_order 307 = .ok (.areturn, 1) := dk_176 (dk_at dksX22_order_12 3 rfl rfl)
abbrev cX22_adding : ByteArray := prog_15_method_4_code
def yX22_adding : MethodName := ⟨RX22, "adding", "()LSpokenMarks$Order;"⟩
def dkwX22_adding_1 : List UInt8 := [182, 0, 91, 183, 0, 95, 176]
abbrev dktX22_adding_1 : List UInt8 := dkwX22_adding_1 ++ []
def dkwX22_adding_0 : List UInt8 := [42, 42, 180, 0, 20, 182, 0, 85, 76, 42, 7, 182, 0, 58, 187, 0, 89, 89, 43, 42, 4, 16, 20]
abbrev dktX22_adding_0 : List UInt8 := dkwX22_adding_0 ++ dktX22_adding_1
theorem dksX22_adding_0 : cX22_adding.data.toList.drop 0 = dktX22_adding_0 := by decide +kernel
theorem dksX22_adding_1 : cX22_adding.data.toList.drop 23 = dktX22_adding_1 := dk_seg dksX22_adding_0 23 rfl rfl
theorem dX22_adding_0 : decode cX22_adding 0 = .ok (.aload_n 0, 1) := dk_42 (dk_at dksX22_adding_0 0 rfl rfl)
theorem dX22_adding_1 : decode cX22_adding 1 = .ok (.aload_n 0, 1) := dk_42 (dk_at dksX22_adding_0 1 rfl rfl)
theorem dX22_adding_2 : decode cX22_adding 2 = .ok (.getfield 20, 3) := dk_180 0 20 (dk_at dksX22_adding_0 2 rfl rfl)
theorem dX22_adding_5 : decode cX22_adding 5 = .ok (.invokevirtual 85, 3) := dk_182 0 85 (dk_at dksX22_adding_0 5 rfl rfl)
theorem dX22_adding_8 : decode cX22_adding 8 = .ok (.astore_n 1, 1) := dk_76 (dk_at dksX22_adding_0 8 rfl rfl)
theorem dX22_adding_9 : decode cX22_adding 9 = .ok (.aload_n 0, 1) := dk_42 (dk_at dksX22_adding_0 9 rfl rfl)
theorem dX22_adding_10 : decode cX22_adding 10 = .ok (.iconst 4, 1) := dk_7 (dk_at dksX22_adding_0 10 rfl rfl)
theorem dX22_adding_11 : decode cX22_adding 11 = .ok (.invokevirtual 58, 3) := dk_182 0 58 (dk_at dksX22_adding_0 11 rfl rfl)
theorem dX22_adding_14 : decode cX22_adding 14 = .ok (.new 89, 3) := dk_187 0 89 (dk_at dksX22_adding_0 14 rfl rfl)
theorem dX22_adding_17 : decode cX22_adding 17 = .ok (.dup, 1) := dk_89 (dk_at dksX22_adding_0 17 rfl rfl)
theorem dX22_adding_18 : decode cX22_adding 18 = .ok (.aload_n 1, 1) := dk_43 (dk_at dksX22_adding_0 18 rfl rfl)
theorem dX22_adding_19 : decode cX22_adding 19 = .ok (.aload_n 0, 1) := dk_42 (dk_at dksX22_adding_0 19 rfl rfl)
theorem dX22_adding_20 : decode cX22_adding 20 = .ok (.iconst 1, 1) := dk_4 (dk_at dksX22_adding_0 20 rfl rfl)
theorem dX22_adding_21 : decode cX22_adding 21 = .ok (.bipush 20, 2) := dk_16 20 (dk_at dksX22_adding_0 21 rfl rfl)
theorem dX22_adding_23 : decode cX22_adding 23 = .ok (.invokevirtual 91, 3) := dk_182 0 91 (dk_at dksX22_adding_1 0 rfl rfl)
theorem dX22_adding_26 : decode cX22_adding 26 = .ok (.invokespecial 95, 3) := dk_183 0 95 (dk_at dksX22_adding_1 3 rfl rfl)
theorem dX22_adding_29 : decode cX22_adding 29 = .ok (.areturn, 1) := dk_176 (dk_at dksX22_adding_1 6 rfl rfl)
theorem q173 : (Jvm.Cond.initialized "SpokenMarks$Script") ∈ lw_all := lw_g (lw_at lw_m1 54 rfl) rfl
theorem q703 : (Jvm.Cond.selects "SpokenMarks$Script" ({ cls := "java/lang/Object", name := "getClass", desc := "()Ljava/lang/Class;" } : Jvm.MethodName) ({ cls := "java/lang/Object", name := "getClass", desc := "()Ljava/lang/Class;" } : Jvm.MethodName)) ∈ lw_all := lw_g (lw_at lw_m3 104 rfl) rfl
theorem q763 : (Jvm.Cond.selects "SpokenMarks$Script" ({ cls := "java/lang/Object", name := "hashCode", desc := "()I" } : Jvm.MethodName) ({ cls := "java/lang/Object", name := "hashCode", desc := "()I" } : Jvm.MethodName)) ∈ lw_all := lw_g (lw_at lw_m3 164 rfl) rfl
theorem q1170 : (Jvm.Cond.selects "SpokenMarks$Script" ({ cls := "java/lang/Object", name := "equals", desc := "(Ljava/lang/Object;)Z" } : Jvm.MethodName) ({ cls := "java/lang/Object", name := "equals", desc := "(Ljava/lang/Object;)Z" } : Jvm.MethodName)) ∈ lw_all := lw_g (lw_at lw_m5 91 rfl) rfl
theorem q2068 : (Jvm.Cond.selects "SpokenMarks$Script" ({ cls := "SpokenMarks$Scanner", name := "advance", desc := "()V" } : Jvm.MethodName) ({ cls := "SpokenMarks$Scanner", name := "advance", desc := "()V" } : Jvm.MethodName)) ∈ lw_all := lw_g (lw_at lw_m9 29 rfl) rfl
theorem q2095 : (Jvm.Cond.fieldLink "SpokenMarks$Script" (24 : Nat) "SpokenMarks$Script" "kind" "I") ∈ lw_all := lw_g (lw_at lw_m9 56 rfl) rfl
theorem q2096 : (Jvm.Cond.sameField "SpokenMarks$Script" "SpokenMarks$Scanner" "kind" "I") ∈ lw_all := lw_g (lw_at lw_m9 57 rfl) rfl
theorem q2103 : (Jvm.Cond.fieldLink "SpokenMarks$Script" (28 : Nat) "SpokenMarks$Script" "word" "Ljava/lang/String;") ∈ lw_all := lw_g (lw_at lw_m9 64 rfl) rfl
theorem q2104 : (Jvm.Cond.sameField "SpokenMarks$Script" "SpokenMarks$Scanner" "word" "Ljava/lang/String;") ∈ lw_all := lw_g (lw_at lw_m9 65 rfl) rfl
theorem q2206 : (Jvm.Cond.selects "SpokenMarks$Script" ({ cls := "SpokenMarks$Scanner", name := "word", desc := "()Ljava/lang/String;" } : Jvm.MethodName) ({ cls := "SpokenMarks$Scanner", name := "word", desc := "()Ljava/lang/String;" } : Jvm.MethodName)) ∈ lw_all := lw_g (lw_at lw_m9 167 rfl) rfl
theorem q2418 : (Jvm.Cond.selects "SpokenMarks$Script" ({ cls := "SpokenMarks$Scanner", name := "end", desc := "()V" } : Jvm.MethodName) ({ cls := "SpokenMarks$Scanner", name := "end", desc := "()V" } : Jvm.MethodName)) ∈ lw_all := lw_g (lw_at lw_m10 139 rfl) rfl
theorem q2612 : (Jvm.Cond.instantiable "SpokenMarks$Script" (9 : Nat)) ∈ lw_all := lw_g (lw_at lw_m11 93 rfl) rfl
theorem q2614 : (Jvm.Cond.instanceMethod ({ cls := "SpokenMarks$Script", name := "<init>", desc := "([BILSpokenMarks$Catalogue;)V" } : Jvm.MethodName)) ∈ lw_all := lw_g (lw_at lw_m11 95 rfl) rfl
theorem q2615 : (Jvm.Cond.code ({ cls := "SpokenMarks$Script", name := "<init>", desc := "([BILSpokenMarks$Catalogue;)V" } : Jvm.MethodName) prog_15_method_1_code (4 : Nat) (Option.none : Option Jvm.ClassFile.FieldType)) ∈ lw_all := lw_g (lw_at lw_m11 96 rfl) rfl
theorem q2616 : (Jvm.Cond.methodLink "SpokenMarks$Script" (3 : Nat) ({ cls := "SpokenMarks$Scanner", name := "<init>", desc := "([BI)V" } : Jvm.MethodName)) ∈ lw_all := lw_g (lw_at lw_m11 97 rfl) rfl
theorem q2617 : (Jvm.Cond.classLink "SpokenMarks$Script" (9 : Nat) "java/util/ArrayList") ∈ lw_all := lw_g (lw_at lw_m11 98 rfl) rfl
theorem q2618 : (Jvm.Cond.methodLink "SpokenMarks$Script" (11 : Nat) ({ cls := "java/util/ArrayList", name := "<init>", desc := "(I)V" } : Jvm.MethodName)) ∈ lw_all := lw_g (lw_at lw_m11 99 rfl) rfl
theorem q2619 : (Jvm.Cond.fieldLink "SpokenMarks$Script" (14 : Nat) "SpokenMarks$Script" "orders" "Ljava/util/List;") ∈ lw_all := lw_g (lw_at lw_m11 100 rfl) rfl
theorem q2620 : (Jvm.Cond.fieldLink "SpokenMarks$Script" (20 : Nat) "SpokenMarks$Script" "catalogue" "LSpokenMarks$Catalogue;") ∈ lw_all := lw_g (lw_at lw_m11 101 rfl) rfl
theorem q2621 : (Jvm.Cond.laysFinal "SpokenMarks$Script" "SpokenMarks$Script" "orders" "Ljava/util/List;") ∈ lw_all := lw_g (lw_at lw_m11 102 rfl) rfl
theorem q2622 : (Jvm.Cond.soleField "SpokenMarks$Script" "orders") ∈ lw_all := lw_g (lw_at lw_m11 103 rfl) rfl
theorem q2623 : (Jvm.Cond.laysFinal "SpokenMarks$Script" "SpokenMarks$Script" "catalogue" "LSpokenMarks$Catalogue;") ∈ lw_all := lw_g (lw_at lw_m11 104 rfl) rfl
theorem q2624 : (Jvm.Cond.soleField "SpokenMarks$Script" "catalogue") ∈ lw_all := lw_g (lw_at lw_m11 105 rfl) rfl
theorem q2625 : (Jvm.Cond.laysFinal "SpokenMarks$Script" "SpokenMarks$Scanner" "text" "[B") ∈ lw_all := lw_g (lw_at lw_m11 106 rfl) rfl
theorem q2626 : (Jvm.Cond.laysFinal "SpokenMarks$Script" "SpokenMarks$Scanner" "end" "I") ∈ lw_all := lw_g (lw_at lw_m11 107 rfl) rfl
theorem q2627 : (Jvm.Cond.lays "SpokenMarks$Script" "SpokenMarks$Scanner" "begin" "I") ∈ lw_all := lw_g (lw_at lw_m11 108 rfl) rfl
theorem q2628 : (Jvm.Cond.lays "SpokenMarks$Script" "SpokenMarks$Scanner" "next" "I") ∈ lw_all := lw_g (lw_at lw_m11 109 rfl) rfl
theorem q2629 : (Jvm.Cond.lays "SpokenMarks$Script" "SpokenMarks$Scanner" "value" "I") ∈ lw_all := lw_g (lw_at lw_m11 110 rfl) rfl
theorem q2630 : (Jvm.Cond.lays "SpokenMarks$Script" "SpokenMarks$Scanner" "kind" "I") ∈ lw_all := lw_g (lw_at lw_m11 111 rfl) rfl
theorem q2631 : (Jvm.Cond.lays "SpokenMarks$Script" "SpokenMarks$Scanner" "word" "Ljava/lang/String;") ∈ lw_all := lw_g (lw_at lw_m11 112 rfl) rfl
theorem q2632 : (Jvm.Cond.superclass "SpokenMarks$Script" "SpokenMarks$Scanner") ∈ lw_all := lw_g (lw_at lw_m11 113 rfl) rfl
theorem q2634 : (Jvm.Cond.instanceMethod ({ cls := "SpokenMarks$Script", name := "read", desc := "()Ljava/util/List;" } : Jvm.MethodName)) ∈ lw_all := lw_g (lw_at lw_m11 115 rfl) rfl
theorem q2635 : (Jvm.Cond.selects "SpokenMarks$Script" ({ cls := "SpokenMarks$Script", name := "read", desc := "()Ljava/util/List;" } : Jvm.MethodName) ({ cls := "SpokenMarks$Script", name := "read", desc := "()Ljava/util/List;" } : Jvm.MethodName)) ∈ lw_all := lw_g (lw_at lw_m11 116 rfl) rfl
theorem q2636 : (Jvm.Cond.code ({ cls := "SpokenMarks$Script", name := "read", desc := "()Ljava/util/List;" } : Jvm.MethodName) prog_15_method_2_code (2 : Nat) (Option.some (Jvm.ClassFile.FieldType.object "java/util/List"))) ∈ lw_all := lw_g (lw_at lw_m11 117 rfl) rfl
theorem q2637 : (Jvm.Cond.methodLink "SpokenMarks$Script" (32 : Nat) ({ cls := "SpokenMarks$Script", name := "isOrder", desc := "(Ljava/lang/String;)Z" } : Jvm.MethodName)) ∈ lw_all := lw_g (lw_at lw_m11 118 rfl) rfl
theorem q2638 : (Jvm.Cond.static ({ cls := "SpokenMarks$Script", name := "isOrder", desc := "(Ljava/lang/String;)Z" } : Jvm.MethodName)) ∈ lw_all := lw_g (lw_at lw_m11 119 rfl) rfl
theorem q2639 : (Jvm.Cond.code ({ cls := "SpokenMarks$Script", name := "isOrder", desc := "(Ljava/lang/String;)Z" } : Jvm.MethodName) prog_15_method_3_code (3 : Nat) (Option.some Jvm.ClassFile.FieldType.boolean)) ∈ lw_all := lw_g (lw_at lw_m11 120 rfl) rfl
theorem q2640 : (Jvm.Cond.methodLink "SpokenMarks$Script" (61 : Nat) ({ cls := "java/lang/String", name := "hashCode", desc := "()I" } : Jvm.MethodName)) ∈ lw_all := lw_g (lw_at lw_m11 121 rfl) rfl
theorem q2641 : (Jvm.Cond.stringRef "SpokenMarks$Script" (66 : Nat) "say") ∈ lw_tbl := lw_at lw_m11 122 rfl
theorem q2642 : (Jvm.Cond.methodLink "SpokenMarks$Script" (68 : Nat) ({ cls := "java/lang/String", name := "equals", desc := "(Ljava/lang/Object;)Z" } : Jvm.MethodName)) ∈ lw_all := lw_g (lw_at lw_m11 123 rfl) rfl
theorem q2643 : (Jvm.Cond.stringRef "SpokenMarks$Script" (71 : Nat) "mark") ∈ lw_tbl := lw_at lw_m11 124 rfl
theorem q2644 : (Jvm.Cond.stringRef "SpokenMarks$Script" (73 : Nat) "unsay") ∈ lw_tbl := lw_at lw_m11 125 rfl
theorem q2645 : (Jvm.Cond.stringRef "SpokenMarks$Script" (75 : Nat) "drop") ∈ lw_tbl := lw_at lw_m11 126 rfl
theorem q2646 : (Jvm.Cond.stringRef "SpokenMarks$Script" (77 : Nat) "width") ∈ lw_tbl := lw_at lw_m11 127 rfl
theorem q2647 : (Jvm.Cond.stringRef "SpokenMarks$Script" (79 : Nat) "bound") ∈ lw_tbl := lw_at lw_m11 128 rfl
theorem q2648 : (Jvm.Cond.stringRef "SpokenMarks$Script" (81 : Nat) "balance") ∈ lw_tbl := lw_at lw_m11 129 rfl
theorem q2649 : (Jvm.Cond.stringRef "SpokenMarks$Script" (83 : Nat) "respace") ∈ lw_tbl := lw_at lw_m11 130 rfl
theorem q2650 : (Jvm.Cond.methodLink "SpokenMarks$Script" (36 : Nat) ({ cls := "SpokenMarks$Script", name := "check", desc := "(ZI)V" } : Jvm.MethodName)) ∈ lw_all := lw_g (lw_at lw_m11 131 rfl) rfl
theorem q2651 : (Jvm.Cond.sameMethod "SpokenMarks$Script" "SpokenMarks$Scanner" "check" "(ZI)V") ∈ lw_all := lw_g (lw_at lw_m11 132 rfl) rfl
theorem q2652 : (Jvm.Cond.selects "SpokenMarks$Script" ({ cls := "SpokenMarks$Script", name := "check", desc := "(ZI)V" } : Jvm.MethodName) ({ cls := "SpokenMarks$Scanner", name := "check", desc := "(ZI)V" } : Jvm.MethodName)) ∈ lw_all := lw_g (lw_at lw_m11 133 rfl) rfl
theorem q2653 : (Jvm.Cond.interfaceEntry "SpokenMarks$Script" (40 : Nat)) ∈ lw_tbl := lw_at lw_m11 134 rfl
theorem q2654 : (Jvm.Cond.methodLink "SpokenMarks$Script" (40 : Nat) ({ cls := "java/util/List", name := "size", desc := "()I" } : Jvm.MethodName)) ∈ lw_all := lw_g (lw_at lw_m11 135 rfl) rfl
theorem q2655 : (Jvm.Cond.methodLink "SpokenMarks$Script" (46 : Nat) ({ cls := "SpokenMarks$Script", name := "advance", desc := "()V" } : Jvm.MethodName)) ∈ lw_all := lw_g (lw_at lw_m11 136 rfl) rfl
theorem q2656 : (Jvm.Cond.sameMethod "SpokenMarks$Script" "SpokenMarks$Scanner" "advance" "()V") ∈ lw_all := lw_g (lw_at lw_m11 137 rfl) rfl
theorem q2657 : (Jvm.Cond.selects "SpokenMarks$Script" ({ cls := "SpokenMarks$Script", name := "advance", desc := "()V" } : Jvm.MethodName) ({ cls := "SpokenMarks$Scanner", name := "advance", desc := "()V" } : Jvm.MethodName)) ∈ lw_all := lw_g (lw_at lw_m11 138 rfl) rfl
theorem q2658 : (Jvm.Cond.methodLink "SpokenMarks$Script" (50 : Nat) ({ cls := "SpokenMarks$Script", name := "order", desc := "(Ljava/lang/String;)LSpokenMarks$Order;" } : Jvm.MethodName)) ∈ lw_all := lw_g (lw_at lw_m11 139 rfl) rfl
theorem q2659 : (Jvm.Cond.privateMethod ({ cls := "SpokenMarks$Script", name := "order", desc := "(Ljava/lang/String;)LSpokenMarks$Order;" } : Jvm.MethodName)) ∈ lw_tbl := lw_at lw_m11 140 rfl
theorem q2660 : (Jvm.Cond.instanceMethod ({ cls := "SpokenMarks$Script", name := "order", desc := "(Ljava/lang/String;)LSpokenMarks$Order;" } : Jvm.MethodName)) ∈ lw_all := lw_g (lw_at lw_m11 141 rfl) rfl
theorem q2661 : (Jvm.Cond.code ({ cls := "SpokenMarks$Script", name := "order", desc := "(Ljava/lang/String;)LSpokenMarks$Order;" } : Jvm.MethodName) prog_15_method_5_code (4 : Nat) (Option.some (Jvm.ClassFile.FieldType.object "SpokenMarks$Order"))) ∈ lw_all := lw_g (lw_at lw_m11 142 rfl) rfl
theorem q2662 : (Jvm.Cond.classLink "SpokenMarks$Script" (98 : Nat) "SpokenMarks$Saying") ∈ lw_all := lw_g (lw_at lw_m11 143 rfl) rfl
theorem q2663 : (Jvm.Cond.methodLink "SpokenMarks$Script" (100 : Nat) ({ cls := "SpokenMarks$Script", name := "rule", desc := "()LSpokenMarks$Rule;" } : Jvm.MethodName)) ∈ lw_all := lw_g (lw_at lw_m11 144 rfl) rfl
theorem q2664 : (Jvm.Cond.sameMethod "SpokenMarks$Script" "SpokenMarks$Scanner" "rule" "()LSpokenMarks$Rule;") ∈ lw_all := lw_g (lw_at lw_m11 145 rfl) rfl
theorem q2665 : (Jvm.Cond.selects "SpokenMarks$Script" ({ cls := "SpokenMarks$Script", name := "rule", desc := "()LSpokenMarks$Rule;" } : Jvm.MethodName) ({ cls := "SpokenMarks$Scanner", name := "rule", desc := "()LSpokenMarks$Rule;" } : Jvm.MethodName)) ∈ lw_all := lw_g (lw_at lw_m11 146 rfl) rfl
theorem q2666 : (Jvm.Cond.methodLink "SpokenMarks$Script" (104 : Nat) ({ cls := "SpokenMarks$Saying", name := "<init>", desc := "(LSpokenMarks$Rule;)V" } : Jvm.MethodName)) ∈ lw_all := lw_g (lw_at lw_m11 147 rfl) rfl
theorem q2667 : (Jvm.Cond.methodLink "SpokenMarks$Script" (107 : Nat) ({ cls := "SpokenMarks$Script", name := "adding", desc := "()LSpokenMarks$Order;" } : Jvm.MethodName)) ∈ lw_all := lw_g (lw_at lw_m11 148 rfl) rfl
theorem q2668 : (Jvm.Cond.privateMethod ({ cls := "SpokenMarks$Script", name := "adding", desc := "()LSpokenMarks$Order;" } : Jvm.MethodName)) ∈ lw_tbl := lw_at lw_m11 149 rfl
theorem q2669 : (Jvm.Cond.instanceMethod ({ cls := "SpokenMarks$Script", name := "adding", desc := "()LSpokenMarks$Order;" } : Jvm.MethodName)) ∈ lw_all := lw_g (lw_at lw_m11 150 rfl) rfl
theorem q2670 : (Jvm.Cond.code ({ cls := "SpokenMarks$Script", name := "adding", desc := "()LSpokenMarks$Order;" } : Jvm.MethodName) prog_15_method_4_code (2 : Nat) (Option.some (Jvm.ClassFile.FieldType.object "SpokenMarks$Order"))) ∈ lw_all := lw_g (lw_at lw_m11 151 rfl) rfl
theorem q2671 : (Jvm.Cond.methodLink "SpokenMarks$Script" (85 : Nat) ({ cls := "SpokenMarks$Script", name := "parts", desc := "(LSpokenMarks$Catalogue;)Ljava/util/List;" } : Jvm.MethodName)) ∈ lw_all := lw_g (lw_at lw_m11 152 rfl) rfl
theorem q2672 : (Jvm.Cond.sameMethod "SpokenMarks$Script" "SpokenMarks$Scanner" "parts" "(LSpokenMarks$Catalogue;)Ljava/util/List;") ∈ lw_all := lw_g (lw_at lw_m11 153 rfl) rfl
theorem q2673 : (Jvm.Cond.selects "SpokenMarks$Script" ({ cls := "SpokenMarks$Script", name := "parts", desc := "(LSpokenMarks$Catalogue;)Ljava/util/List;" } : Jvm.MethodName) ({ cls := "SpokenMarks$Scanner", name := "parts", desc := "(LSpokenMarks$Catalogue;)Ljava/util/List;" } : Jvm.MethodName)) ∈ lw_all := lw_g (lw_at lw_m11 154 rfl) rfl
theorem q2674 : (Jvm.Cond.methodLink "SpokenMarks$Script" (58 : Nat) ({ cls := "SpokenMarks$Script", name := "symbol", desc := "(I)V" } : Jvm.MethodName)) ∈ lw_all := lw_g (lw_at lw_m11 155 rfl) rfl
theorem q2675 : (Jvm.Cond.sameMethod "SpokenMarks$Script" "SpokenMarks$Scanner" "symbol" "(I)V") ∈ lw_all := lw_g (lw_at lw_m11 156 rfl) rfl
theorem q2676 : (Jvm.Cond.selects "SpokenMarks$Script" ({ cls := "SpokenMarks$Script", name := "symbol", desc := "(I)V" } : Jvm.MethodName) ({ cls := "SpokenMarks$Scanner", name := "symbol", desc := "(I)V" } : Jvm.MethodName)) ∈ lw_all := lw_g (lw_at lw_m11 157 rfl) rfl
theorem q2677 : (Jvm.Cond.classLink "SpokenMarks$Script" (89 : Nat) "SpokenMarks$Adding") ∈ lw_all := lw_g (lw_at lw_m11 158 rfl) rfl
theorem q2678 : (Jvm.Cond.methodLink "SpokenMarks$Script" (91 : Nat) ({ cls := "SpokenMarks$Script", name := "number", desc := "(II)I" } : Jvm.MethodName)) ∈ lw_all := lw_g (lw_at lw_m11 159 rfl) rfl
theorem q2679 : (Jvm.Cond.sameMethod "SpokenMarks$Script" "SpokenMarks$Scanner" "number" "(II)I") ∈ lw_all := lw_g (lw_at lw_m11 160 rfl) rfl
theorem q2680 : (Jvm.Cond.selects "SpokenMarks$Script" ({ cls := "SpokenMarks$Script", name := "number", desc := "(II)I" } : Jvm.MethodName) ({ cls := "SpokenMarks$Scanner", name := "number", desc := "(II)I" } : Jvm.MethodName)) ∈ lw_all := lw_g (lw_at lw_m11 161 rfl) rfl
theorem q2681 : (Jvm.Cond.methodLink "SpokenMarks$Script" (95 : Nat) ({ cls := "SpokenMarks$Adding", name := "<init>", desc := "(Ljava/util/List;I)V" } : Jvm.MethodName)) ∈ lw_all := lw_g (lw_at lw_m11 162 rfl) rfl
theorem q2682 : (Jvm.Cond.classLink "SpokenMarks$Script" (111 : Nat) "SpokenMarks$Unsaying") ∈ lw_all := lw_g (lw_at lw_m11 163 rfl) rfl
theorem q2683 : (Jvm.Cond.methodLink "SpokenMarks$Script" (113 : Nat) ({ cls := "SpokenMarks$Unsaying", name := "<init>", desc := "(I)V" } : Jvm.MethodName)) ∈ lw_all := lw_g (lw_at lw_m11 164 rfl) rfl
theorem q2684 : (Jvm.Cond.classLink "SpokenMarks$Script" (114 : Nat) "SpokenMarks$Dropping") ∈ lw_all := lw_g (lw_at lw_m11 165 rfl) rfl
theorem q2685 : (Jvm.Cond.methodLink "SpokenMarks$Script" (116 : Nat) ({ cls := "SpokenMarks$Dropping", name := "<init>", desc := "(I)V" } : Jvm.MethodName)) ∈ lw_all := lw_g (lw_at lw_m11 166 rfl) rfl
theorem q2686 : (Jvm.Cond.classLink "SpokenMarks$Script" (117 : Nat) "SpokenMarks$Widening") ∈ lw_all := lw_g (lw_at lw_m11 167 rfl) rfl
theorem q2687 : (Jvm.Cond.methodLink "SpokenMarks$Script" (119 : Nat) ({ cls := "SpokenMarks$Widening", name := "<init>", desc := "(II)V" } : Jvm.MethodName)) ∈ lw_all := lw_g (lw_at lw_m11 168 rfl) rfl
theorem q2688 : (Jvm.Cond.classLink "SpokenMarks$Script" (122 : Nat) "SpokenMarks$Bounding") ∈ lw_all := lw_g (lw_at lw_m11 169 rfl) rfl
theorem q2689 : (Jvm.Cond.methodLink "SpokenMarks$Script" (124 : Nat) ({ cls := "SpokenMarks$Bounding", name := "<init>", desc := "(II)V" } : Jvm.MethodName)) ∈ lw_all := lw_g (lw_at lw_m11 170 rfl) rfl
theorem q2690 : (Jvm.Cond.classLink "SpokenMarks$Script" (125 : Nat) "SpokenMarks$Arranging") ∈ lw_all := lw_g (lw_at lw_m11 171 rfl) rfl
theorem q2691 : (Jvm.Cond.methodLink "SpokenMarks$Script" (127 : Nat) ({ cls := "SpokenMarks$Arranging", name := "<init>", desc := "(Z)V" } : Jvm.MethodName)) ∈ lw_all := lw_g (lw_at lw_m11 172 rfl) rfl
theorem q2692 : (Jvm.Cond.interfaceEntry "SpokenMarks$Script" (54 : Nat)) ∈ lw_tbl := lw_at lw_m11 173 rfl
theorem q2693 : (Jvm.Cond.methodLink "SpokenMarks$Script" (54 : Nat) ({ cls := "java/util/List", name := "add", desc := "(Ljava/lang/Object;)Z" } : Jvm.MethodName)) ∈ lw_all := lw_g (lw_at lw_m11 174 rfl) rfl
theorem q3393 : (Jvm.Cond.selects "SpokenMarks$Script" ({ cls := "SpokenMarks$Scanner", name := "check", desc := "(ZI)V" } : Jvm.MethodName) ({ cls := "SpokenMarks$Scanner", name := "check", desc := "(ZI)V" } : Jvm.MethodName)) ∈ lw_all := lw_g (lw_at lw_m14 154 rfl) rfl
theorem q3397 : (Jvm.Cond.selects "SpokenMarks$Script" ({ cls := "SpokenMarks$Scanner", name := "lookWord", desc := "()Ljava/lang/String;" } : Jvm.MethodName) ({ cls := "SpokenMarks$Scanner", name := "lookWord", desc := "()Ljava/lang/String;" } : Jvm.MethodName)) ∈ lw_all := lw_g (lw_at lw_m14 158 rfl) rfl
theorem q3401 : (Jvm.Cond.selects "SpokenMarks$Script" ({ cls := "SpokenMarks$Scanner", name := "symbol", desc := "(I)V" } : Jvm.MethodName) ({ cls := "SpokenMarks$Scanner", name := "symbol", desc := "(I)V" } : Jvm.MethodName)) ∈ lw_all := lw_g (lw_at lw_m14 162 rfl) rfl
theorem q3406 : (Jvm.Cond.selects "SpokenMarks$Script" ({ cls := "SpokenMarks$Scanner", name := "number", desc := "(II)I" } : Jvm.MethodName) ({ cls := "SpokenMarks$Scanner", name := "number", desc := "(II)I" } : Jvm.MethodName)) ∈ lw_all := lw_g (lw_at lw_m14 167 rfl) rfl
theorem q3410 : (Jvm.Cond.selects "SpokenMarks$Script" ({ cls := "SpokenMarks$Scanner", name := "parts", desc := "(LSpokenMarks$Catalogue;)Ljava/util/List;" } : Jvm.MethodName) ({ cls := "SpokenMarks$Scanner", name := "parts", desc := "(LSpokenMarks$Catalogue;)Ljava/util/List;" } : Jvm.MethodName)) ∈ lw_all := lw_g (lw_at lw_m14 171 rfl) rfl
theorem q3414 : (Jvm.Cond.selects "SpokenMarks$Script" ({ cls := "SpokenMarks$Scanner", name := "rule", desc := "()LSpokenMarks$Rule;" } : Jvm.MethodName) ({ cls := "SpokenMarks$Scanner", name := "rule", desc := "()LSpokenMarks$Rule;" } : Jvm.MethodName)) ∈ lw_all := lw_g (lw_at lw_m14 175 rfl) rfl
theorem q3467 : (Jvm.Cond.castable "SpokenMarks$Script" "java/lang/Object") ∈ lw_tbl := lw_at lw_m14 228 rfl
theorem in_X22 : ∀ w ∈ wsX220, w ∈ lw_all := lw_in wsX220 [2625, 2626, 2627, 2628, 2629, 2630, 2631, 2621, 2623] (by decide +kernel) (by decide +kernel)
/-! SpokenMarks$Step$1 -/
set_option maxRecDepth 100000
def RX23 : String := "SpokenMarks$Step$1"
abbrev cX23_hear : ByteArray := prog_18_method_2_code
def yX23_hear : MethodName := ⟨RX23, "hear", "(Ljava/lang/String;Ljava/lang/StringBuilder;)V"⟩
def dkwX23_hear_0 : List UInt8 := [43, 44, 18, 7, 16, 102, 184, 0, 9, 177]
abbrev dktX23_hear_0 : List UInt8 := dkwX23_hear_0 ++ []
theorem dksX23_hear_0 : cX23_hear.data.toList.drop 0 = dktX23_hear_0 := by decide +kernel
theorem dX23_hear_0 : decode cX23_hear 0 = .ok (.aload_n 1, 1) := dk_43 (dk_at dksX23_hear_0 0 rfl rfl)
theorem dX23_hear_1 : decode cX23_hear 1 = .ok (.aload_n 2, 1) := dk_44 (dk_at dksX23_hear_0 1 rfl rfl)
theorem dX23_hear_2 : decode cX23_hear 2 = .ok (.ldc 7, 2) := dk_18 7 (dk_at dksX23_hear_0 2 rfl rfl)
theorem dX23_hear_4 : decode cX23_hear 4 = .ok (.bipush 102, 2) := dk_16 102 (dk_at dksX23_hear_0 4 rfl rfl)
theorem dX23_hear_6 : decode cX23_hear 6 = .ok (.invokestatic 9, 3) := dk_184 0 9 (dk_at dksX23_hear_0 6 rfl rfl)
theorem dX23_hear_9 : decode cX23_hear 9 = .ok (.return_, 1) := dk_177 (dk_at dksX23_hear_0 9 rfl rfl)
theorem q705 : (Jvm.Cond.selects "SpokenMarks$Step$1" ({ cls := "java/lang/Object", name := "getClass", desc := "()Ljava/lang/Class;" } : Jvm.MethodName) ({ cls := "java/lang/Object", name := "getClass", desc := "()Ljava/lang/Class;" } : Jvm.MethodName)) ∈ lw_all := lw_g (lw_at lw_m3 106 rfl) rfl
theorem q765 : (Jvm.Cond.selects "SpokenMarks$Step$1" ({ cls := "java/lang/Object", name := "hashCode", desc := "()I" } : Jvm.MethodName) ({ cls := "java/lang/Enum", name := "hashCode", desc := "()I" } : Jvm.MethodName)) ∈ lw_all := lw_g (lw_at lw_m3 166 rfl) rfl
theorem q919 : (Jvm.Cond.castable "SpokenMarks$Step$1" "java/lang/Comparable") ∈ lw_tbl := lw_at lw_m4 80 rfl
theorem q920 : (Jvm.Cond.selects "SpokenMarks$Step$1" ({ cls := "java/lang/Comparable", name := "compareTo", desc := "(Ljava/lang/Object;)I" } : Jvm.MethodName) ({ cls := "java/lang/Enum", name := "compareTo", desc := "(Ljava/lang/Object;)I" } : Jvm.MethodName)) ∈ lw_all := lw_g (lw_at lw_m4 81 rfl) rfl
theorem q921 : (Jvm.Cond.unhidden "SpokenMarks$Step$1" "compareTo" "(Ljava/lang/Object;)I") ∈ lw_tbl := lw_at lw_m4 82 rfl
theorem q929 : (Jvm.Cond.selects "SpokenMarks$Step$1" ({ cls := "java/lang/Enum", name := "compareTo", desc := "(Ljava/lang/Enum;)I" } : Jvm.MethodName) ({ cls := "java/lang/Enum", name := "compareTo", desc := "(Ljava/lang/Enum;)I" } : Jvm.MethodName)) ∈ lw_all := lw_g (lw_at lw_m4 90 rfl) rfl
theorem q939 : (Jvm.Cond.selects "SpokenMarks$Step$1" ({ cls := "java/lang/Enum", name := "getDeclaringClass", desc := "()Ljava/lang/Class;" } : Jvm.MethodName) ({ cls := "java/lang/Enum", name := "getDeclaringClass", desc := "()Ljava/lang/Class;" } : Jvm.MethodName)) ∈ lw_all := lw_g (lw_at lw_m4 100 rfl) rfl
theorem q1172 : (Jvm.Cond.selects "SpokenMarks$Step$1" ({ cls := "java/lang/Object", name := "equals", desc := "(Ljava/lang/Object;)Z" } : Jvm.MethodName) ({ cls := "java/lang/Enum", name := "equals", desc := "(Ljava/lang/Object;)Z" } : Jvm.MethodName)) ∈ lw_all := lw_g (lw_at lw_m5 93 rfl) rfl
theorem q1441 : (Jvm.Cond.selects "SpokenMarks$Step$1" ({ cls := "SpokenMarks$Step", name := "hear", desc := "(Ljava/lang/String;Ljava/lang/StringBuilder;)V" } : Jvm.MethodName) ({ cls := "SpokenMarks$Step$1", name := "hear", desc := "(Ljava/lang/String;Ljava/lang/StringBuilder;)V" } : Jvm.MethodName)) ∈ lw_all := lw_g (lw_at lw_m6 122 rfl) rfl
theorem q1442 : (Jvm.Cond.instanceMethod ({ cls := "SpokenMarks$Step$1", name := "hear", desc := "(Ljava/lang/String;Ljava/lang/StringBuilder;)V" } : Jvm.MethodName)) ∈ lw_all := lw_g (lw_at lw_m6 123 rfl) rfl
theorem q1443 : (Jvm.Cond.code ({ cls := "SpokenMarks$Step$1", name := "hear", desc := "(Ljava/lang/String;Ljava/lang/StringBuilder;)V" } : Jvm.MethodName) prog_18_method_2_code (3 : Nat) (Option.none : Option Jvm.ClassFile.FieldType)) ∈ lw_all := lw_g (lw_at lw_m6 124 rfl) rfl
theorem q1444 : (Jvm.Cond.stringRef "SpokenMarks$Step$1" (7 : Nat) "ph") ∈ lw_tbl := lw_at lw_m6 125 rfl
theorem q1445 : (Jvm.Cond.methodLinkNest "SpokenMarks$Step$1" (9 : Nat) ({ cls := "SpokenMarks$Step", name := "pairs", desc := "(Ljava/lang/String;Ljava/lang/StringBuilder;Ljava/lang/String;C)V" } : Jvm.MethodName) "SpokenMarks") ∈ lw_tbl := lw_at lw_m6 126 rfl
theorem q3417 : (Jvm.Cond.castable "SpokenMarks$Step$1" "java/lang/Enum") ∈ lw_tbl := lw_at lw_m14 178 rfl
theorem q3450 : (Jvm.Cond.castable "SpokenMarks$Step$1" "java/lang/Object") ∈ lw_tbl := lw_at lw_m14 211 rfl
theorem q3470 : (Jvm.Cond.castable "SpokenMarks$Step$1" "SpokenMarks$Step") ∈ lw_tbl := lw_at lw_m14 231 rfl
/-! SpokenMarks$Step$2 -/
set_option maxRecDepth 100000
def RX24 : String := "SpokenMarks$Step$2"
abbrev cX24_hear : ByteArray := prog_19_method_2_code
def yX24_hear : MethodName := ⟨RX24, "hear", "(Ljava/lang/String;Ljava/lang/StringBuilder;)V"⟩
def dkwX24_hear_0 : List UInt8 := [43, 44, 18, 7, 16, 107, 184, 0, 9, 177]
abbrev dktX24_hear_0 : List UInt8 := dkwX24_hear_0 ++ []
theorem dksX24_hear_0 : cX24_hear.data.toList.drop 0 = dktX24_hear_0 := by decide +kernel
theorem dX24_hear_0 : decode cX24_hear 0 = .ok (.aload_n 1, 1) := dk_43 (dk_at dksX24_hear_0 0 rfl rfl)
theorem dX24_hear_1 : decode cX24_hear 1 = .ok (.aload_n 2, 1) := dk_44 (dk_at dksX24_hear_0 1 rfl rfl)
theorem dX24_hear_2 : decode cX24_hear 2 = .ok (.ldc 7, 2) := dk_18 7 (dk_at dksX24_hear_0 2 rfl rfl)
theorem dX24_hear_4 : decode cX24_hear 4 = .ok (.bipush 107, 2) := dk_16 107 (dk_at dksX24_hear_0 4 rfl rfl)
theorem dX24_hear_6 : decode cX24_hear 6 = .ok (.invokestatic 9, 3) := dk_184 0 9 (dk_at dksX24_hear_0 6 rfl rfl)
theorem dX24_hear_9 : decode cX24_hear 9 = .ok (.return_, 1) := dk_177 (dk_at dksX24_hear_0 9 rfl rfl)
theorem q706 : (Jvm.Cond.selects "SpokenMarks$Step$2" ({ cls := "java/lang/Object", name := "getClass", desc := "()Ljava/lang/Class;" } : Jvm.MethodName) ({ cls := "java/lang/Object", name := "getClass", desc := "()Ljava/lang/Class;" } : Jvm.MethodName)) ∈ lw_all := lw_g (lw_at lw_m3 107 rfl) rfl
theorem q771 : (Jvm.Cond.selects "SpokenMarks$Step$2" ({ cls := "java/lang/Object", name := "hashCode", desc := "()I" } : Jvm.MethodName) ({ cls := "java/lang/Enum", name := "hashCode", desc := "()I" } : Jvm.MethodName)) ∈ lw_all := lw_g (lw_at lw_m3 172 rfl) rfl
theorem q930 : (Jvm.Cond.selects "SpokenMarks$Step$2" ({ cls := "java/lang/Enum", name := "compareTo", desc := "(Ljava/lang/Enum;)I" } : Jvm.MethodName) ({ cls := "java/lang/Enum", name := "compareTo", desc := "(Ljava/lang/Enum;)I" } : Jvm.MethodName)) ∈ lw_all := lw_g (lw_at lw_m4 91 rfl) rfl
theorem q940 : (Jvm.Cond.selects "SpokenMarks$Step$2" ({ cls := "java/lang/Enum", name := "getDeclaringClass", desc := "()Ljava/lang/Class;" } : Jvm.MethodName) ({ cls := "java/lang/Enum", name := "getDeclaringClass", desc := "()Ljava/lang/Class;" } : Jvm.MethodName)) ∈ lw_all := lw_g (lw_at lw_m4 101 rfl) rfl
theorem q945 : (Jvm.Cond.castable "SpokenMarks$Step$2" "java/lang/Comparable") ∈ lw_tbl := lw_at lw_m4 106 rfl
theorem q946 : (Jvm.Cond.selects "SpokenMarks$Step$2" ({ cls := "java/lang/Comparable", name := "compareTo", desc := "(Ljava/lang/Object;)I" } : Jvm.MethodName) ({ cls := "java/lang/Enum", name := "compareTo", desc := "(Ljava/lang/Object;)I" } : Jvm.MethodName)) ∈ lw_all := lw_g (lw_at lw_m4 107 rfl) rfl
theorem q947 : (Jvm.Cond.unhidden "SpokenMarks$Step$2" "compareTo" "(Ljava/lang/Object;)I") ∈ lw_tbl := lw_at lw_m4 108 rfl
theorem q1175 : (Jvm.Cond.selects "SpokenMarks$Step$2" ({ cls := "java/lang/Object", name := "equals", desc := "(Ljava/lang/Object;)Z" } : Jvm.MethodName) ({ cls := "java/lang/Enum", name := "equals", desc := "(Ljava/lang/Object;)Z" } : Jvm.MethodName)) ∈ lw_all := lw_g (lw_at lw_m5 96 rfl) rfl
theorem q1491 : (Jvm.Cond.selects "SpokenMarks$Step$2" ({ cls := "SpokenMarks$Step", name := "hear", desc := "(Ljava/lang/String;Ljava/lang/StringBuilder;)V" } : Jvm.MethodName) ({ cls := "SpokenMarks$Step$2", name := "hear", desc := "(Ljava/lang/String;Ljava/lang/StringBuilder;)V" } : Jvm.MethodName)) ∈ lw_all := lw_g (lw_at lw_m6 172 rfl) rfl
theorem q1492 : (Jvm.Cond.instanceMethod ({ cls := "SpokenMarks$Step$2", name := "hear", desc := "(Ljava/lang/String;Ljava/lang/StringBuilder;)V" } : Jvm.MethodName)) ∈ lw_all := lw_g (lw_at lw_m6 173 rfl) rfl
theorem q1493 : (Jvm.Cond.code ({ cls := "SpokenMarks$Step$2", name := "hear", desc := "(Ljava/lang/String;Ljava/lang/StringBuilder;)V" } : Jvm.MethodName) prog_19_method_2_code (3 : Nat) (Option.none : Option Jvm.ClassFile.FieldType)) ∈ lw_all := lw_g (lw_at lw_m6 174 rfl) rfl
theorem q1494 : (Jvm.Cond.stringRef "SpokenMarks$Step$2" (7 : Nat) "ck") ∈ lw_tbl := lw_at lw_m6 175 rfl
theorem q1495 : (Jvm.Cond.methodLinkNest "SpokenMarks$Step$2" (9 : Nat) ({ cls := "SpokenMarks$Step", name := "pairs", desc := "(Ljava/lang/String;Ljava/lang/StringBuilder;Ljava/lang/String;C)V" } : Jvm.MethodName) "SpokenMarks") ∈ lw_tbl := lw_at lw_m6 176 rfl
theorem q3418 : (Jvm.Cond.castable "SpokenMarks$Step$2" "java/lang/Enum") ∈ lw_tbl := lw_at lw_m14 179 rfl
theorem q3451 : (Jvm.Cond.castable "SpokenMarks$Step$2" "java/lang/Object") ∈ lw_tbl := lw_at lw_m14 212 rfl
theorem q3471 : (Jvm.Cond.castable "SpokenMarks$Step$2" "SpokenMarks$Step") ∈ lw_tbl := lw_at lw_m14 232 rfl
/-! SpokenMarks$Step$3 -/
set_option maxRecDepth 100000
def RX25 : String := "SpokenMarks$Step$3"
abbrev cX25_hear : ByteArray := prog_20_method_2_code
def yX25_hear : MethodName := ⟨RX25, "hear", "(Ljava/lang/String;Ljava/lang/StringBuilder;)V"⟩
def dkwX25_hear_3 : List UInt8 := [182, 0, 13, 182, 0, 17, 87, 132, 3, 1, 167, 255, 166, 177]
abbrev dktX25_hear_3 : List UInt8 := dkwX25_hear_3 ++ []
def dkwX25_hear_2 : List UInt8 := [16, 107, 167, 0, 23, 16, 115, 167, 0, 18, 16, 105, 167, 0, 13, 16, 118, 167, 0, 8, 43, 29]
abbrev dktX25_hear_2 : List UInt8 := dkwX25_hear_2 ++ dktX25_hear_3
def dkwX25_hear_1 : List UInt8 := [171, 0, 0, 0, 0, 0, 0, 64, 0, 0, 0, 4, 0, 0, 0, 99, 0, 0, 0, 44, 0, 0, 0, 119, 0, 0, 0, 59, 0, 0, 0, 121, 0, 0, 0, 54, 0, 0, 0, 122, 0, 0, 0, 49]
abbrev dktX25_hear_1 : List UInt8 := dkwX25_hear_1 ++ dktX25_hear_2
def dkwX25_hear_0 : List UInt8 := [3, 62, 29, 43, 182, 0, 7, 162, 0, 88, 44, 43, 29, 182, 0, 13]
abbrev dktX25_hear_0 : List UInt8 := dkwX25_hear_0 ++ dktX25_hear_1
theorem dksX25_hear_0 : cX25_hear.data.toList.drop 0 = dktX25_hear_0 := by decide +kernel
theorem dksX25_hear_1 : cX25_hear.data.toList.drop 16 = dktX25_hear_1 := dk_seg dksX25_hear_0 16 rfl rfl
theorem dksX25_hear_2 : cX25_hear.data.toList.drop 60 = dktX25_hear_2 := dk_seg dksX25_hear_1 44 rfl rfl
theorem dksX25_hear_3 : cX25_hear.data.toList.drop 82 = dktX25_hear_3 := dk_seg dksX25_hear_2 22 rfl rfl
theorem dX25_hear_0 : decode cX25_hear 0 = .ok (.iconst 0, 1) := dk_3 (dk_at dksX25_hear_0 0 rfl rfl)
theorem dX25_hear_1 : decode cX25_hear 1 = .ok (.istore_n 3, 1) := dk_62 (dk_at dksX25_hear_0 1 rfl rfl)
theorem dX25_hear_2 : decode cX25_hear 2 = .ok (.iload_n 3, 1) := dk_29 (dk_at dksX25_hear_0 2 rfl rfl)
theorem dX25_hear_3 : decode cX25_hear 3 = .ok (.aload_n 1, 1) := dk_43 (dk_at dksX25_hear_0 3 rfl rfl)
theorem dX25_hear_4 : decode cX25_hear 4 = .ok (.invokevirtual 7, 3) := dk_182 0 7 (dk_at dksX25_hear_0 4 rfl rfl)
theorem dX25_hear_7 : decode cX25_hear 7 = .ok (.if_icmp .ge 88, 3) := dk_162 0 88 (dk_at dksX25_hear_0 7 rfl rfl)
theorem dX25_hear_10 : decode cX25_hear 10 = .ok (.aload_n 2, 1) := dk_44 (dk_at dksX25_hear_0 10 rfl rfl)
theorem dX25_hear_11 : decode cX25_hear 11 = .ok (.aload_n 1, 1) := dk_43 (dk_at dksX25_hear_0 11 rfl rfl)
theorem dX25_hear_12 : decode cX25_hear 12 = .ok (.iload_n 3, 1) := dk_29 (dk_at dksX25_hear_0 12 rfl rfl)
theorem dX25_hear_13 : decode cX25_hear 13 = .ok (.invokevirtual 13, 3) := dk_182 0 13 (dk_at dksX25_hear_0 13 rfl rfl)
theorem dX25_hear_16 : decode cX25_hear 16 = .ok (.lookupswitch 64 #[(99, 44), (119, 59), (121, 54), (122, 49)], 44) := by decide +kernel
theorem dX25_hear_60 : decode cX25_hear 60 = .ok (.bipush 107, 2) := dk_16 107 (dk_at dksX25_hear_2 0 rfl rfl)
theorem dX25_hear_62 : decode cX25_hear 62 = .ok (.goto 23, 3) := dk_167 0 23 (dk_at dksX25_hear_2 2 rfl rfl)
theorem dX25_hear_65 : decode cX25_hear 65 = .ok (.bipush 115, 2) := dk_16 115 (dk_at dksX25_hear_2 5 rfl rfl)
theorem dX25_hear_67 : decode cX25_hear 67 = .ok (.goto 18, 3) := dk_167 0 18 (dk_at dksX25_hear_2 7 rfl rfl)
theorem dX25_hear_70 : decode cX25_hear 70 = .ok (.bipush 105, 2) := dk_16 105 (dk_at dksX25_hear_2 10 rfl rfl)
theorem dX25_hear_72 : decode cX25_hear 72 = .ok (.goto 13, 3) := dk_167 0 13 (dk_at dksX25_hear_2 12 rfl rfl)
theorem dX25_hear_75 : decode cX25_hear 75 = .ok (.bipush 118, 2) := dk_16 118 (dk_at dksX25_hear_2 15 rfl rfl)
theorem dX25_hear_77 : decode cX25_hear 77 = .ok (.goto 8, 3) := dk_167 0 8 (dk_at dksX25_hear_2 17 rfl rfl)
theorem dX25_hear_80 : decode cX25_hear 80 = .ok (.aload_n 1, 1) := dk_43 (dk_at dksX25_hear_2 20 rfl rfl)
theorem dX25_hear_81 : decode cX25_hear 81 = .ok (.iload_n 3, 1) := dk_29 (dk_at dksX25_hear_2 21 rfl rfl)
theorem dX25_hear_82 : decode cX25_hear 82 = .ok (.invokevirtual 13, 3) := dk_182 0 13 (dk_at dksX25_hear_3 0 rfl rfl)
theorem dX25_hear_85 : decode cX25_hear 85 = .ok (.invokevirtual 17, 3) := dk_182 0 17 (dk_at dksX25_hear_3 3 rfl rfl)
theorem dX25_hear_88 : decode cX25_hear 88 = .ok (.pop, 1) := dk_87 (dk_at dksX25_hear_3 6 rfl rfl)
theorem dX25_hear_89 : decode cX25_hear 89 = .ok (.iinc 3 1, 3) := dk_132 3 1 (dk_at dksX25_hear_3 7 rfl rfl)
theorem dX25_hear_92 : decode cX25_hear 92 = .ok (.goto (-90), 3) := dk_167 255 166 (dk_at dksX25_hear_3 10 rfl rfl)
theorem dX25_hear_95 : decode cX25_hear 95 = .ok (.return_, 1) := dk_177 (dk_at dksX25_hear_3 13 rfl rfl)
theorem q707 : (Jvm.Cond.selects "SpokenMarks$Step$3" ({ cls := "java/lang/Object", name := "getClass", desc := "()Ljava/lang/Class;" } : Jvm.MethodName) ({ cls := "java/lang/Object", name := "getClass", desc := "()Ljava/lang/Class;" } : Jvm.MethodName)) ∈ lw_all := lw_g (lw_at lw_m3 108 rfl) rfl
theorem q772 : (Jvm.Cond.selects "SpokenMarks$Step$3" ({ cls := "java/lang/Object", name := "hashCode", desc := "()I" } : Jvm.MethodName) ({ cls := "java/lang/Enum", name := "hashCode", desc := "()I" } : Jvm.MethodName)) ∈ lw_all := lw_g (lw_at lw_m3 173 rfl) rfl
theorem q931 : (Jvm.Cond.selects "SpokenMarks$Step$3" ({ cls := "java/lang/Enum", name := "compareTo", desc := "(Ljava/lang/Enum;)I" } : Jvm.MethodName) ({ cls := "java/lang/Enum", name := "compareTo", desc := "(Ljava/lang/Enum;)I" } : Jvm.MethodName)) ∈ lw_all := lw_g (lw_at lw_m4 92 rfl) rfl
theorem q941 : (Jvm.Cond.selects "SpokenMarks$Step$3" ({ cls := "java/lang/Enum", name := "getDeclaringClass", desc := "()Ljava/lang/Class;" } : Jvm.MethodName) ({ cls := "java/lang/Enum", name := "getDeclaringClass", desc := "()Ljava/lang/Class;" } : Jvm.MethodName)) ∈ lw_all := lw_g (lw_at lw_m4 102 rfl) rfl
theorem q948 : (Jvm.Cond.castable "SpokenMarks$Step$3" "java/lang/Comparable") ∈ lw_tbl := lw_at lw_m4 109 rfl
theorem q949 : (Jvm.Cond.selects "SpokenMarks$Step$3" ({ cls := "java/lang/Comparable", name := "compareTo", desc := "(Ljava/lang/Object;)I" } : Jvm.MethodName) ({ cls := "java/lang/Enum", name := "compareTo", desc := "(Ljava/lang/Object;)I" } : Jvm.MethodName)) ∈ lw_all := lw_g (lw_at lw_m4 110 rfl) rfl
theorem q950 : (Jvm.Cond.unhidden "SpokenMarks$Step$3" "compareTo" "(Ljava/lang/Object;)I") ∈ lw_tbl := lw_at lw_m4 111 rfl
theorem q1176 : (Jvm.Cond.selects "SpokenMarks$Step$3" ({ cls := "java/lang/Object", name := "equals", desc := "(Ljava/lang/Object;)Z" } : Jvm.MethodName) ({ cls := "java/lang/Enum", name := "equals", desc := "(Ljava/lang/Object;)Z" } : Jvm.MethodName)) ∈ lw_all := lw_g (lw_at lw_m5 97 rfl) rfl
theorem q1496 : (Jvm.Cond.selects "SpokenMarks$Step$3" ({ cls := "SpokenMarks$Step", name := "hear", desc := "(Ljava/lang/String;Ljava/lang/StringBuilder;)V" } : Jvm.MethodName) ({ cls := "SpokenMarks$Step$3", name := "hear", desc := "(Ljava/lang/String;Ljava/lang/StringBuilder;)V" } : Jvm.MethodName)) ∈ lw_all := lw_g (lw_at lw_m6 177 rfl) rfl
theorem q1497 : (Jvm.Cond.instanceMethod ({ cls := "SpokenMarks$Step$3", name := "hear", desc := "(Ljava/lang/String;Ljava/lang/StringBuilder;)V" } : Jvm.MethodName)) ∈ lw_all := lw_g (lw_at lw_m6 178 rfl) rfl
theorem q1498 : (Jvm.Cond.code ({ cls := "SpokenMarks$Step$3", name := "hear", desc := "(Ljava/lang/String;Ljava/lang/StringBuilder;)V" } : Jvm.MethodName) prog_20_method_2_code (4 : Nat) (Option.none : Option Jvm.ClassFile.FieldType)) ∈ lw_all := lw_g (lw_at lw_m6 179 rfl) rfl
theorem q1499 : (Jvm.Cond.methodLink "SpokenMarks$Step$3" (7 : Nat) ({ cls := "java/lang/String", name := "length", desc := "()I" } : Jvm.MethodName)) ∈ lw_all := lw_g (lw_at lw_m6 180 rfl) rfl
theorem q1500 : (Jvm.Cond.methodLink "SpokenMarks$Step$3" (13 : Nat) ({ cls := "java/lang/String", name := "charAt", desc := "(I)C" } : Jvm.MethodName)) ∈ lw_all := lw_g (lw_at lw_m6 181 rfl) rfl
theorem q1501 : (Jvm.Cond.methodLink "SpokenMarks$Step$3" (17 : Nat) ({ cls := "java/lang/StringBuilder", name := "append", desc := "(C)Ljava/lang/StringBuilder;" } : Jvm.MethodName)) ∈ lw_all := lw_g (lw_at lw_m6 182 rfl) rfl
theorem q3419 : (Jvm.Cond.castable "SpokenMarks$Step$3" "java/lang/Enum") ∈ lw_tbl := lw_at lw_m14 180 rfl
theorem q3452 : (Jvm.Cond.castable "SpokenMarks$Step$3" "java/lang/Object") ∈ lw_tbl := lw_at lw_m14 213 rfl
theorem q3472 : (Jvm.Cond.castable "SpokenMarks$Step$3" "SpokenMarks$Step") ∈ lw_tbl := lw_at lw_m14 233 rfl
/-! SpokenMarks$Step$4 -/
set_option maxRecDepth 100000
def RX26 : String := "SpokenMarks$Step$4"
abbrev cX26_hear : ByteArray := prog_21_method_2_code
def yX26_hear : MethodName := ⟨RX26, "hear", "(Ljava/lang/String;Ljava/lang/StringBuilder;)V"⟩
def dkwX26_hear_1 : List UInt8 := [44, 43, 29, 182, 0, 13, 182, 0, 17, 87, 132, 3, 1, 167, 255, 221, 177]
abbrev dktX26_hear_1 : List UInt8 := dkwX26_hear_1 ++ []
def dkwX26_hear_0 : List UInt8 := [3, 62, 29, 43, 182, 0, 7, 162, 0, 33, 29, 153, 0, 13, 43, 29, 182, 0, 13, 16, 104, 159, 0, 13]
abbrev dktX26_hear_0 : List UInt8 := dkwX26_hear_0 ++ dktX26_hear_1
theorem dksX26_hear_0 : cX26_hear.data.toList.drop 0 = dktX26_hear_0 := by decide +kernel
theorem dksX26_hear_1 : cX26_hear.data.toList.drop 24 = dktX26_hear_1 := dk_seg dksX26_hear_0 24 rfl rfl
theorem dX26_hear_0 : decode cX26_hear 0 = .ok (.iconst 0, 1) := dk_3 (dk_at dksX26_hear_0 0 rfl rfl)
theorem dX26_hear_1 : decode cX26_hear 1 = .ok (.istore_n 3, 1) := dk_62 (dk_at dksX26_hear_0 1 rfl rfl)
theorem dX26_hear_2 : decode cX26_hear 2 = .ok (.iload_n 3, 1) := dk_29 (dk_at dksX26_hear_0 2 rfl rfl)
theorem dX26_hear_3 : decode cX26_hear 3 = .ok (.aload_n 1, 1) := dk_43 (dk_at dksX26_hear_0 3 rfl rfl)
theorem dX26_hear_4 : decode cX26_hear 4 = .ok (.invokevirtual 7, 3) := dk_182 0 7 (dk_at dksX26_hear_0 4 rfl rfl)
theorem dX26_hear_7 : decode cX26_hear 7 = .ok (.if_icmp .ge 33, 3) := dk_162 0 33 (dk_at dksX26_hear_0 7 rfl rfl)
theorem dX26_hear_10 : decode cX26_hear 10 = .ok (.iload_n 3, 1) := dk_29 (dk_at dksX26_hear_0 10 rfl rfl)
theorem dX26_hear_11 : decode cX26_hear 11 = .ok (.ifCond .eq 13, 3) := dk_153 0 13 (dk_at dksX26_hear_0 11 rfl rfl)
theorem dX26_hear_14 : decode cX26_hear 14 = .ok (.aload_n 1, 1) := dk_43 (dk_at dksX26_hear_0 14 rfl rfl)
theorem dX26_hear_15 : decode cX26_hear 15 = .ok (.iload_n 3, 1) := dk_29 (dk_at dksX26_hear_0 15 rfl rfl)
theorem dX26_hear_16 : decode cX26_hear 16 = .ok (.invokevirtual 13, 3) := dk_182 0 13 (dk_at dksX26_hear_0 16 rfl rfl)
theorem dX26_hear_19 : decode cX26_hear 19 = .ok (.bipush 104, 2) := dk_16 104 (dk_at dksX26_hear_0 19 rfl rfl)
theorem dX26_hear_21 : decode cX26_hear 21 = .ok (.if_icmp .eq 13, 3) := dk_159 0 13 (dk_at dksX26_hear_0 21 rfl rfl)
theorem dX26_hear_24 : decode cX26_hear 24 = .ok (.aload_n 2, 1) := dk_44 (dk_at dksX26_hear_1 0 rfl rfl)
theorem dX26_hear_25 : decode cX26_hear 25 = .ok (.aload_n 1, 1) := dk_43 (dk_at dksX26_hear_1 1 rfl rfl)
theorem dX26_hear_26 : decode cX26_hear 26 = .ok (.iload_n 3, 1) := dk_29 (dk_at dksX26_hear_1 2 rfl rfl)
theorem dX26_hear_27 : decode cX26_hear 27 = .ok (.invokevirtual 13, 3) := dk_182 0 13 (dk_at dksX26_hear_1 3 rfl rfl)
theorem dX26_hear_30 : decode cX26_hear 30 = .ok (.invokevirtual 17, 3) := dk_182 0 17 (dk_at dksX26_hear_1 6 rfl rfl)
theorem dX26_hear_33 : decode cX26_hear 33 = .ok (.pop, 1) := dk_87 (dk_at dksX26_hear_1 9 rfl rfl)
theorem dX26_hear_34 : decode cX26_hear 34 = .ok (.iinc 3 1, 3) := dk_132 3 1 (dk_at dksX26_hear_1 10 rfl rfl)
theorem dX26_hear_37 : decode cX26_hear 37 = .ok (.goto (-35), 3) := dk_167 255 221 (dk_at dksX26_hear_1 13 rfl rfl)
theorem dX26_hear_40 : decode cX26_hear 40 = .ok (.return_, 1) := dk_177 (dk_at dksX26_hear_1 16 rfl rfl)
theorem q708 : (Jvm.Cond.selects "SpokenMarks$Step$4" ({ cls := "java/lang/Object", name := "getClass", desc := "()Ljava/lang/Class;" } : Jvm.MethodName) ({ cls := "java/lang/Object", name := "getClass", desc := "()Ljava/lang/Class;" } : Jvm.MethodName)) ∈ lw_all := lw_g (lw_at lw_m3 109 rfl) rfl
theorem q773 : (Jvm.Cond.selects "SpokenMarks$Step$4" ({ cls := "java/lang/Object", name := "hashCode", desc := "()I" } : Jvm.MethodName) ({ cls := "java/lang/Enum", name := "hashCode", desc := "()I" } : Jvm.MethodName)) ∈ lw_all := lw_g (lw_at lw_m3 174 rfl) rfl
theorem q932 : (Jvm.Cond.selects "SpokenMarks$Step$4" ({ cls := "java/lang/Enum", name := "compareTo", desc := "(Ljava/lang/Enum;)I" } : Jvm.MethodName) ({ cls := "java/lang/Enum", name := "compareTo", desc := "(Ljava/lang/Enum;)I" } : Jvm.MethodName)) ∈ lw_all := lw_g (lw_at lw_m4 93 rfl) rfl
theorem q942 : (Jvm.Cond.selects "SpokenMarks$Step$4" ({ cls := "java/lang/Enum", name := "getDeclaringClass", desc := "()Ljava/lang/Class;" } : Jvm.MethodName) ({ cls := "java/lang/Enum", name := "getDeclaringClass", desc := "()Ljava/lang/Class;" } : Jvm.MethodName)) ∈ lw_all := lw_g (lw_at lw_m4 103 rfl) rfl
theorem q951 : (Jvm.Cond.castable "SpokenMarks$Step$4" "java/lang/Comparable") ∈ lw_tbl := lw_at lw_m4 112 rfl
theorem q952 : (Jvm.Cond.selects "SpokenMarks$Step$4" ({ cls := "java/lang/Comparable", name := "compareTo", desc := "(Ljava/lang/Object;)I" } : Jvm.MethodName) ({ cls := "java/lang/Enum", name := "compareTo", desc := "(Ljava/lang/Object;)I" } : Jvm.MethodName)) ∈ lw_all := lw_g (lw_at lw_m4 113 rfl) rfl
theorem q953 : (Jvm.Cond.unhidden "SpokenMarks$Step$4" "compareTo" "(Ljava/lang/Object;)I") ∈ lw_tbl := lw_at lw_m4 114 rfl
theorem q1177 : (Jvm.Cond.selects "SpokenMarks$Step$4" ({ cls := "java/lang/Object", name := "equals", desc := "(Ljava/lang/Object;)Z" } : Jvm.MethodName) ({ cls := "java/lang/Enum", name := "equals", desc := "(Ljava/lang/Object;)Z" } : Jvm.MethodName)) ∈ lw_all := lw_g (lw_at lw_m5 98 rfl) rfl
theorem q1502 : (Jvm.Cond.selects "SpokenMarks$Step$4" ({ cls := "SpokenMarks$Step", name := "hear", desc := "(Ljava/lang/String;Ljava/lang/StringBuilder;)V" } : Jvm.MethodName) ({ cls := "SpokenMarks$Step$4", name := "hear", desc := "(Ljava/lang/String;Ljava/lang/StringBuilder;)V" } : Jvm.MethodName)) ∈ lw_all := lw_g (lw_at lw_m6 183 rfl) rfl
theorem q1503 : (Jvm.Cond.instanceMethod ({ cls := "SpokenMarks$Step$4", name := "hear", desc := "(Ljava/lang/String;Ljava/lang/StringBuilder;)V" } : Jvm.MethodName)) ∈ lw_all := lw_g (lw_at lw_m6 184 rfl) rfl
theorem q1504 : (Jvm.Cond.code ({ cls := "SpokenMarks$Step$4", name := "hear", desc := "(Ljava/lang/String;Ljava/lang/StringBuilder;)V" } : Jvm.MethodName) prog_21_method_2_code (4 : Nat) (Option.none : Option Jvm.ClassFile.FieldType)) ∈ lw_all := lw_g (lw_at lw_m6 185 rfl) rfl
theorem q1505 : (Jvm.Cond.methodLink "SpokenMarks$Step$4" (7 : Nat) ({ cls := "java/lang/String", name := "length", desc := "()I" } : Jvm.MethodName)) ∈ lw_all := lw_g (lw_at lw_m6 186 rfl) rfl
theorem q1506 : (Jvm.Cond.methodLink "SpokenMarks$Step$4" (13 : Nat) ({ cls := "java/lang/String", name := "charAt", desc := "(I)C" } : Jvm.MethodName)) ∈ lw_all := lw_g (lw_at lw_m6 187 rfl) rfl
theorem q1507 : (Jvm.Cond.methodLink "SpokenMarks$Step$4" (17 : Nat) ({ cls := "java/lang/StringBuilder", name := "append", desc := "(C)Ljava/lang/StringBuilder;" } : Jvm.MethodName)) ∈ lw_all := lw_g (lw_at lw_m6 188 rfl) rfl
theorem q3420 : (Jvm.Cond.castable "SpokenMarks$Step$4" "java/lang/Enum") ∈ lw_tbl := lw_at lw_m14 181 rfl
theorem q3453 : (Jvm.Cond.castable "SpokenMarks$Step$4" "java/lang/Object") ∈ lw_tbl := lw_at lw_m14 214 rfl
theorem q3473 : (Jvm.Cond.castable "SpokenMarks$Step$4" "SpokenMarks$Step") ∈ lw_tbl := lw_at lw_m14 234 rfl
/-! SpokenMarks$Step$5 -/
set_option maxRecDepth 100000
def RX27 : String := "SpokenMarks$Step$5"
abbrev cX27_hear : ByteArray := prog_22_method_2_code
def yX27_hear : MethodName := ⟨RX27, "hear", "(Ljava/lang/String;Ljava/lang/StringBuilder;)V"⟩
def dkwX27_hear_1 : List UInt8 := [182, 0, 13, 159, 0, 13, 44, 43, 29, 182, 0, 13, 182, 0, 17, 87, 132, 3, 1, 167, 255, 216, 177]
abbrev dktX27_hear_1 : List UInt8 := dkwX27_hear_1 ++ []
def dkwX27_hear_0 : List UInt8 := [3, 62, 29, 43, 182, 0, 7, 162, 0, 38, 29, 153, 0, 18, 43, 29, 182, 0, 13, 43, 29, 4, 100]
abbrev dktX27_hear_0 : List UInt8 := dkwX27_hear_0 ++ dktX27_hear_1
theorem dksX27_hear_0 : cX27_hear.data.toList.drop 0 = dktX27_hear_0 := by decide +kernel
theorem dksX27_hear_1 : cX27_hear.data.toList.drop 23 = dktX27_hear_1 := dk_seg dksX27_hear_0 23 rfl rfl
theorem dX27_hear_0 : decode cX27_hear 0 = .ok (.iconst 0, 1) := dk_3 (dk_at dksX27_hear_0 0 rfl rfl)
theorem dX27_hear_1 : decode cX27_hear 1 = .ok (.istore_n 3, 1) := dk_62 (dk_at dksX27_hear_0 1 rfl rfl)
theorem dX27_hear_2 : decode cX27_hear 2 = .ok (.iload_n 3, 1) := dk_29 (dk_at dksX27_hear_0 2 rfl rfl)
theorem dX27_hear_3 : decode cX27_hear 3 = .ok (.aload_n 1, 1) := dk_43 (dk_at dksX27_hear_0 3 rfl rfl)
theorem dX27_hear_4 : decode cX27_hear 4 = .ok (.invokevirtual 7, 3) := dk_182 0 7 (dk_at dksX27_hear_0 4 rfl rfl)
theorem dX27_hear_7 : decode cX27_hear 7 = .ok (.if_icmp .ge 38, 3) := dk_162 0 38 (dk_at dksX27_hear_0 7 rfl rfl)
theorem dX27_hear_10 : decode cX27_hear 10 = .ok (.iload_n 3, 1) := dk_29 (dk_at dksX27_hear_0 10 rfl rfl)
theorem dX27_hear_11 : decode cX27_hear 11 = .ok (.ifCond .eq 18, 3) := dk_153 0 18 (dk_at dksX27_hear_0 11 rfl rfl)
theorem dX27_hear_14 : decode cX27_hear 14 = .ok (.aload_n 1, 1) := dk_43 (dk_at dksX27_hear_0 14 rfl rfl)
theorem dX27_hear_15 : decode cX27_hear 15 = .ok (.iload_n 3, 1) := dk_29 (dk_at dksX27_hear_0 15 rfl rfl)
theorem dX27_hear_16 : decode cX27_hear 16 = .ok (.invokevirtual 13, 3) := dk_182 0 13 (dk_at dksX27_hear_0 16 rfl rfl)
theorem dX27_hear_19 : decode cX27_hear 19 = .ok (.aload_n 1, 1) := dk_43 (dk_at dksX27_hear_0 19 rfl rfl)
theorem dX27_hear_20 : decode cX27_hear 20 = .ok (.iload_n 3, 1) := dk_29 (dk_at dksX27_hear_0 20 rfl rfl)
theorem dX27_hear_21 : decode cX27_hear 21 = .ok (.iconst 1, 1) := dk_4 (dk_at dksX27_hear_0 21 rfl rfl)
theorem dX27_hear_22 : decode cX27_hear 22 = .ok (.isub, 1) := dk_100 (dk_at dksX27_hear_0 22 rfl rfl)
theorem dX27_hear_23 : decode cX27_hear 23 = .ok (.invokevirtual 13, 3) := dk_182 0 13 (dk_at dksX27_hear_1 0 rfl rfl)
theorem dX27_hear_26 : decode cX27_hear 26 = .ok (.if_icmp .eq 13, 3) := dk_159 0 13 (dk_at dksX27_hear_1 3 rfl rfl)
theorem dX27_hear_29 : decode cX27_hear 29 = .ok (.aload_n 2, 1) := dk_44 (dk_at dksX27_hear_1 6 rfl rfl)
theorem dX27_hear_30 : decode cX27_hear 30 = .ok (.aload_n 1, 1) := dk_43 (dk_at dksX27_hear_1 7 rfl rfl)
theorem dX27_hear_31 : decode cX27_hear 31 = .ok (.iload_n 3, 1) := dk_29 (dk_at dksX27_hear_1 8 rfl rfl)
theorem dX27_hear_32 : decode cX27_hear 32 = .ok (.invokevirtual 13, 3) := dk_182 0 13 (dk_at dksX27_hear_1 9 rfl rfl)
theorem dX27_hear_35 : decode cX27_hear 35 = .ok (.invokevirtual 17, 3) := dk_182 0 17 (dk_at dksX27_hear_1 12 rfl rfl)
theorem dX27_hear_38 : decode cX27_hear 38 = .ok (.pop, 1) := dk_87 (dk_at dksX27_hear_1 15 rfl rfl)
theorem dX27_hear_39 : decode cX27_hear 39 = .ok (.iinc 3 1, 3) := dk_132 3 1 (dk_at dksX27_hear_1 16 rfl rfl)
theorem dX27_hear_42 : decode cX27_hear 42 = .ok (.goto (-40), 3) := dk_167 255 216 (dk_at dksX27_hear_1 19 rfl rfl)
theorem dX27_hear_45 : decode cX27_hear 45 = .ok (.return_, 1) := dk_177 (dk_at dksX27_hear_1 22 rfl rfl)
theorem q709 : (Jvm.Cond.selects "SpokenMarks$Step$5" ({ cls := "java/lang/Object", name := "getClass", desc := "()Ljava/lang/Class;" } : Jvm.MethodName) ({ cls := "java/lang/Object", name := "getClass", desc := "()Ljava/lang/Class;" } : Jvm.MethodName)) ∈ lw_all := lw_g (lw_at lw_m3 110 rfl) rfl
theorem q774 : (Jvm.Cond.selects "SpokenMarks$Step$5" ({ cls := "java/lang/Object", name := "hashCode", desc := "()I" } : Jvm.MethodName) ({ cls := "java/lang/Enum", name := "hashCode", desc := "()I" } : Jvm.MethodName)) ∈ lw_all := lw_g (lw_at lw_m3 175 rfl) rfl
theorem q933 : (Jvm.Cond.selects "SpokenMarks$Step$5" ({ cls := "java/lang/Enum", name := "compareTo", desc := "(Ljava/lang/Enum;)I" } : Jvm.MethodName) ({ cls := "java/lang/Enum", name := "compareTo", desc := "(Ljava/lang/Enum;)I" } : Jvm.MethodName)) ∈ lw_all := lw_g (lw_at lw_m4 94 rfl) rfl
theorem q943 : (Jvm.Cond.selects "SpokenMarks$Step$5" ({ cls := "java/lang/Enum", name := "getDeclaringClass", desc := "()Ljava/lang/Class;" } : Jvm.MethodName) ({ cls := "java/lang/Enum", name := "getDeclaringClass", desc := "()Ljava/lang/Class;" } : Jvm.MethodName)) ∈ lw_all := lw_g (lw_at lw_m4 104 rfl) rfl
theorem q954 : (Jvm.Cond.castable "SpokenMarks$Step$5" "java/lang/Comparable") ∈ lw_tbl := lw_at lw_m4 115 rfl
theorem q955 : (Jvm.Cond.selects "SpokenMarks$Step$5" ({ cls := "java/lang/Comparable", name := "compareTo", desc := "(Ljava/lang/Object;)I" } : Jvm.MethodName) ({ cls := "java/lang/Enum", name := "compareTo", desc := "(Ljava/lang/Object;)I" } : Jvm.MethodName)) ∈ lw_all := lw_g (lw_at lw_m4 116 rfl) rfl
theorem q956 : (Jvm.Cond.unhidden "SpokenMarks$Step$5" "compareTo" "(Ljava/lang/Object;)I") ∈ lw_tbl := lw_at lw_m4 117 rfl
theorem q1178 : (Jvm.Cond.selects "SpokenMarks$Step$5" ({ cls := "java/lang/Object", name := "equals", desc := "(Ljava/lang/Object;)Z" } : Jvm.MethodName) ({ cls := "java/lang/Enum", name := "equals", desc := "(Ljava/lang/Object;)Z" } : Jvm.MethodName)) ∈ lw_all := lw_g (lw_at lw_m5 99 rfl) rfl
theorem q1508 : (Jvm.Cond.selects "SpokenMarks$Step$5" ({ cls := "SpokenMarks$Step", name := "hear", desc := "(Ljava/lang/String;Ljava/lang/StringBuilder;)V" } : Jvm.MethodName) ({ cls := "SpokenMarks$Step$5", name := "hear", desc := "(Ljava/lang/String;Ljava/lang/StringBuilder;)V" } : Jvm.MethodName)) ∈ lw_all := lw_g (lw_at lw_m6 189 rfl) rfl
theorem q1509 : (Jvm.Cond.instanceMethod ({ cls := "SpokenMarks$Step$5", name := "hear", desc := "(Ljava/lang/String;Ljava/lang/StringBuilder;)V" } : Jvm.MethodName)) ∈ lw_all := lw_g (lw_at lw_m6 190 rfl) rfl
theorem q1510 : (Jvm.Cond.code ({ cls := "SpokenMarks$Step$5", name := "hear", desc := "(Ljava/lang/String;Ljava/lang/StringBuilder;)V" } : Jvm.MethodName) prog_22_method_2_code (4 : Nat) (Option.none : Option Jvm.ClassFile.FieldType)) ∈ lw_all := lw_g (lw_at lw_m6 191 rfl) rfl
theorem q1511 : (Jvm.Cond.methodLink "SpokenMarks$Step$5" (7 : Nat) ({ cls := "java/lang/String", name := "length", desc := "()I" } : Jvm.MethodName)) ∈ lw_all := lw_g (lw_at lw_m6 192 rfl) rfl
theorem q1512 : (Jvm.Cond.methodLink "SpokenMarks$Step$5" (13 : Nat) ({ cls := "java/lang/String", name := "charAt", desc := "(I)C" } : Jvm.MethodName)) ∈ lw_all := lw_g (lw_at lw_m6 193 rfl) rfl
theorem q1513 : (Jvm.Cond.methodLink "SpokenMarks$Step$5" (17 : Nat) ({ cls := "java/lang/StringBuilder", name := "append", desc := "(C)Ljava/lang/StringBuilder;" } : Jvm.MethodName)) ∈ lw_all := lw_g (lw_at lw_m6 194 rfl) rfl
theorem q3421 : (Jvm.Cond.castable "SpokenMarks$Step$5" "java/lang/Enum") ∈ lw_tbl := lw_at lw_m14 182 rfl
theorem q3454 : (Jvm.Cond.castable "SpokenMarks$Step$5" "java/lang/Object") ∈ lw_tbl := lw_at lw_m14 215 rfl
theorem q3474 : (Jvm.Cond.castable "SpokenMarks$Step$5" "SpokenMarks$Step") ∈ lw_tbl := lw_at lw_m14 235 rfl
