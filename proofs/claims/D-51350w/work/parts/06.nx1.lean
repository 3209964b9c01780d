/-! SpokenMarks -/
set_option maxRecDepth 100000
def RX1 : String := "SpokenMarks"
def TX1 : u_T := fun k => match k with
  | 0 => ("SpokenMarks", "buffer", "[B", true)
  | 1 => ("SpokenMarks", "history", "Ljava/util/ArrayDeque;", true)
  | 2 => ("SpokenMarks", "bufferLength", "I", false)
  | 3 => ("SpokenMarks", "errorPosition", "I", false)
  | 4 => ("SpokenMarks", "cause", "I", false)
  | 5 => ("SpokenMarks", "done", "I", false)
  | 6 => ("SpokenMarks", "refused", "I", false)
  | 7 => ("SpokenMarks", "undone", "I", false)
  | 8 => ("SpokenMarks", "catalogue", "LSpokenMarks$Catalogue;", false)
  | 9 => ("SpokenMarks", "snapshot", "LSpokenMarks$Catalogue;", false)
  | _ => ("SpokenMarks", "formatted", "Ljava/lang/String;", false)
def tyX1 : Nat → FieldType := fun k => match k with
  | 0 => .array .byte
  | 1 => .object "java/util/ArrayDeque"
  | 2 => .int
  | 3 => .int
  | 4 => .int
  | 5 => .int
  | 6 => .int
  | 7 => .int
  | 8 => .object "SpokenMarks$Catalogue"
  | 9 => .object "SpokenMarks$Catalogue"
  | _ => .object "java/lang/String"
abbrev wsX10 : List Cond := u_ws RX1 TX1 11
theorem nmX1 : ∀ a, a < 11 → ∀ b, b < 11 → a ≠ b → (TX1 a).2.1 ≠ (TX1 b).2.1 := by decide +kernel
theorem tyX1_ok : ∀ k, k < 11 → parseFieldDescriptor (TX1 k).2.2.1 = some (tyX1 k) := by decide +kernel
abbrev cX1_init : ByteArray := prog_1_method_6_code
def yX1_init : MethodName := ⟨RX1, "<init>", "()V"⟩
def dkwX1_init_9 : List UInt8 := [54, 5, 177]
abbrev dktX1_init_9 : List UInt8 := dkwX1_init_9 ++ []
def dkwX1_init_8 : List UInt8 := [180, 0, 52, 18, 64, 182, 0, 94, 185, 0, 98, 2, 0, 87, 42, 180, 0, 52, 25, 4, 5, 182, 0, 107]
abbrev dktX1_init_8 : List UInt8 := dkwX1_init_8 ++ dktX1_init_9
def dkwX1_init_7 : List UInt8 := [180, 0, 52, 44, 16, 6, 182, 0, 107, 62, 187, 0, 87, 89, 8, 183, 0, 89, 58, 4, 25, 4, 42]
abbrev dktX1_init_7 : List UInt8 := dkwX1_init_7 ++ dktX1_init_8
def dkwX1_init_6 : List UInt8 := [185, 0, 98, 2, 0, 87, 44, 187, 0, 104, 89, 4, 183, 0, 106, 185, 0, 98, 2, 0, 87, 42]
abbrev dktX1_init_6 : List UInt8 := dkwX1_init_6 ++ dktX1_init_7
def dkwX1_init_5 : List UInt8 := [18, 92, 182, 0, 94, 185, 0, 98, 2, 0, 87, 44, 187, 0, 104, 89, 6, 183, 0, 106]
abbrev dktX1_init_5 : List UInt8 := dkwX1_init_5 ++ dktX1_init_6
def dkwX1_init_4 : List UInt8 := [42, 7, 18, 85, 6, 18, 56, 182, 0, 79, 187, 0, 87, 89, 8, 183, 0, 89, 77, 44, 42, 180, 0, 52]
abbrev dktX1_init_4 : List UInt8 := dkwX1_init_4 ++ dktX1_init_5
def dkwX1_init_3 : List UInt8 := [60, 42, 8, 18, 75, 16, 76, 18, 77, 182, 0, 79, 42, 16, 7, 18, 75, 16, 9, 18, 83, 182, 0, 79]
abbrev dktX1_init_3 : List UInt8 := dkwX1_init_3 ++ dktX1_init_4
def dkwX1_init_2 : List UInt8 := [42, 18, 56, 181, 0, 58, 42, 180, 0, 52, 187, 0, 62, 89, 18, 64, 18, 66, 183, 0, 68, 182, 0, 71]
abbrev dktX1_init_2 : List UInt8 := dkwX1_init_2 ++ dktX1_init_3
def dkwX1_init_1 : List UInt8 := [42, 2, 181, 0, 40, 42, 2, 181, 0, 44, 42, 187, 0, 47, 89, 5, 16, 20, 183, 0, 49, 181, 0, 52]
abbrev dktX1_init_1 : List UInt8 := dkwX1_init_1 ++ dktX1_init_2
def dkwX1_init_0 : List UInt8 := [42, 183, 0, 26, 42, 17, 3, 32, 188, 8, 181, 0, 29, 42, 187, 0, 33, 89, 183, 0, 35, 181, 0, 36]
abbrev dktX1_init_0 : List UInt8 := dkwX1_init_0 ++ dktX1_init_1
theorem dksX1_init_0 : cX1_init.data.toList.drop 0 = dktX1_init_0 := by decide +kernel
theorem dksX1_init_1 : cX1_init.data.toList.drop 24 = dktX1_init_1 := dk_seg dksX1_init_0 24 rfl rfl
theorem dksX1_init_2 : cX1_init.data.toList.drop 48 = dktX1_init_2 := dk_seg dksX1_init_1 24 rfl rfl
theorem dksX1_init_3 : cX1_init.data.toList.drop 72 = dktX1_init_3 := dk_seg dksX1_init_2 24 rfl rfl
theorem dksX1_init_4 : cX1_init.data.toList.drop 96 = dktX1_init_4 := dk_seg dksX1_init_3 24 rfl rfl
theorem dksX1_init_5 : cX1_init.data.toList.drop 120 = dktX1_init_5 := dk_seg dksX1_init_4 24 rfl rfl
theorem dksX1_init_6 : cX1_init.data.toList.drop 140 = dktX1_init_6 := dk_seg dksX1_init_5 20 rfl rfl
theorem dksX1_init_7 : cX1_init.data.toList.drop 162 = dktX1_init_7 := dk_seg dksX1_init_6 22 rfl rfl
theorem dksX1_init_8 : cX1_init.data.toList.drop 185 = dktX1_init_8 := dk_seg dksX1_init_7 23 rfl rfl
theorem dksX1_init_9 : cX1_init.data.toList.drop 209 = dktX1_init_9 := dk_seg dksX1_init_8 24 rfl rfl
theorem dX1_init_0 : decode cX1_init 0 = .ok (.aload_n 0, 1) := dk_42 (dk_at dksX1_init_0 0 rfl rfl)
theorem dX1_init_1 : decode cX1_init 1 = .ok (.invokespecial 26, 3) := dk_183 0 26 (dk_at dksX1_init_0 1 rfl rfl)
theorem dX1_init_4 : decode cX1_init 4 = .ok (.aload_n 0, 1) := dk_42 (dk_at dksX1_init_0 4 rfl rfl)
theorem dX1_init_5 : decode cX1_init 5 = .ok (.sipush 800, 3) := dk_17 3 32 (dk_at dksX1_init_0 5 rfl rfl)
theorem dX1_init_8 : decode cX1_init 8 = .ok (.newarray .byte, 2) := dk_188_8 (dk_at dksX1_init_0 8 rfl rfl)
theorem dX1_init_10 : decode cX1_init 10 = .ok (.putfield 29, 3) := dk_181 0 29 (dk_at dksX1_init_0 10 rfl rfl)
theorem dX1_init_13 : decode cX1_init 13 = .ok (.aload_n 0, 1) := dk_42 (dk_at dksX1_init_0 13 rfl rfl)
theorem dX1_init_14 : decode cX1_init 14 = .ok (.new 33, 3) := dk_187 0 33 (dk_at dksX1_init_0 14 rfl rfl)
theorem dX1_init_17 : decode cX1_init 17 = .ok (.dup, 1) := dk_89 (dk_at dksX1_init_0 17 rfl rfl)
theorem dX1_init_18 : decode cX1_init 18 = .ok (.invokespecial 35, 3) := dk_183 0 35 (dk_at dksX1_init_0 18 rfl rfl)
theorem dX1_init_21 : decode cX1_init 21 = .ok (.putfield 36, 3) := dk_181 0 36 (dk_at dksX1_init_0 21 rfl rfl)
theorem dX1_init_24 : decode cX1_init 24 = .ok (.aload_n 0, 1) := dk_42 (dk_at dksX1_init_1 0 rfl rfl)
theorem dX1_init_25 : decode cX1_init 25 = .ok (.iconst (-1), 1) := dk_2 (dk_at dksX1_init_1 1 rfl rfl)
theorem dX1_init_26 : decode cX1_init 26 = .ok (.putfield 40, 3) := dk_181 0 40 (dk_at dksX1_init_1 2 rfl rfl)
theorem dX1_init_29 : decode cX1_init 29 = .ok (.aload_n 0, 1) := dk_42 (dk_at dksX1_init_1 5 rfl rfl)
theorem dX1_init_30 : decode cX1_init 30 = .ok (.iconst (-1), 1) := dk_2 (dk_at dksX1_init_1 6 rfl rfl)
theorem dX1_init_31 : decode cX1_init 31 = .ok (.putfield 44, 3) := dk_181 0 44 (dk_at dksX1_init_1 7 rfl rfl)
theorem dX1_init_34 : decode cX1_init 34 = .ok (.aload_n 0, 1) := dk_42 (dk_at dksX1_init_1 10 rfl rfl)
theorem dX1_init_35 : decode cX1_init 35 = .ok (.new 47, 3) := dk_187 0 47 (dk_at dksX1_init_1 11 rfl rfl)
theorem dX1_init_38 : decode cX1_init 38 = .ok (.dup, 1) := dk_89 (dk_at dksX1_init_1 14 rfl rfl)
theorem dX1_init_39 : decode cX1_init 39 = .ok (.iconst 2, 1) := dk_5 (dk_at dksX1_init_1 15 rfl rfl)
theorem dX1_init_40 : decode cX1_init 40 = .ok (.bipush 20, 2) := dk_16 20 (dk_at dksX1_init_1 16 rfl rfl)
theorem dX1_init_42 : decode cX1_init 42 = .ok (.invokespecial 49, 3) := dk_183 0 49 (dk_at dksX1_init_1 18 rfl rfl)
theorem dX1_init_45 : decode cX1_init 45 = .ok (.putfield 52, 3) := dk_181 0 52 (dk_at dksX1_init_1 21 rfl rfl)
theorem dX1_init_48 : decode cX1_init 48 = .ok (.aload_n 0, 1) := dk_42 (dk_at dksX1_init_2 0 rfl rfl)
theorem dX1_init_49 : decode cX1_init 49 = .ok (.ldc 56, 2) := dk_18 56 (dk_at dksX1_init_2 1 rfl rfl)
theorem dX1_init_51 : decode cX1_init 51 = .ok (.putfield 58, 3) := dk_181 0 58 (dk_at dksX1_init_2 3 rfl rfl)
theorem dX1_init_54 : decode cX1_init 54 = .ok (.aload_n 0, 1) := dk_42 (dk_at dksX1_init_2 6 rfl rfl)
theorem dX1_init_55 : decode cX1_init 55 = .ok (.getfield 52, 3) := dk_180 0 52 (dk_at dksX1_init_2 7 rfl rfl)
theorem dX1_init_58 : decode cX1_init 58 = .ok (.new 62, 3) := dk_187 0 62 (dk_at dksX1_init_2 10 rfl rfl)
theorem dX1_init_61 : decode cX1_init 61 = .ok (.dup, 1) := dk_89 (dk_at dksX1_init_2 13 rfl rfl)
theorem dX1_init_62 : decode cX1_init 62 = .ok (.ldc 64, 2) := dk_18 64 (dk_at dksX1_init_2 14 rfl rfl)
theorem dX1_init_64 : decode cX1_init 64 = .ok (.ldc 66, 2) := dk_18 66 (dk_at dksX1_init_2 16 rfl rfl)
theorem dX1_init_66 : decode cX1_init 66 = .ok (.invokespecial 68, 3) := dk_183 0 68 (dk_at dksX1_init_2 18 rfl rfl)
theorem dX1_init_69 : decode cX1_init 69 = .ok (.invokevirtual 71, 3) := dk_182 0 71 (dk_at dksX1_init_2 21 rfl rfl)
theorem dX1_init_72 : decode cX1_init 72 = .ok (.istore_n 1, 1) := dk_60 (dk_at dksX1_init_3 0 rfl rfl)
theorem dX1_init_73 : decode cX1_init 73 = .ok (.aload_n 0, 1) := dk_42 (dk_at dksX1_init_3 1 rfl rfl)
theorem dX1_init_74 : decode cX1_init 74 = .ok (.iconst 5, 1) := dk_8 (dk_at dksX1_init_3 2 rfl rfl)
theorem dX1_init_75 : decode cX1_init 75 = .ok (.ldc 75, 2) := dk_18 75 (dk_at dksX1_init_3 3 rfl rfl)
theorem dX1_init_77 : decode cX1_init 77 = .ok (.bipush 76, 2) := dk_16 76 (dk_at dksX1_init_3 5 rfl rfl)
theorem dX1_init_79 : decode cX1_init 79 = .ok (.ldc 77, 2) := dk_18 77 (dk_at dksX1_init_3 7 rfl rfl)
theorem dX1_init_81 : decode cX1_init 81 = .ok (.invokevirtual 79, 3) := dk_182 0 79 (dk_at dksX1_init_3 9 rfl rfl)
theorem dX1_init_84 : decode cX1_init 84 = .ok (.aload_n 0, 1) := dk_42 (dk_at dksX1_init_3 12 rfl rfl)
theorem dX1_init_85 : decode cX1_init 85 = .ok (.bipush 7, 2) := dk_16 7 (dk_at dksX1_init_3 13 rfl rfl)
theorem dX1_init_87 : decode cX1_init 87 = .ok (.ldc 75, 2) := dk_18 75 (dk_at dksX1_init_3 15 rfl rfl)
theorem dX1_init_89 : decode cX1_init 89 = .ok (.bipush 9, 2) := dk_16 9 (dk_at dksX1_init_3 17 rfl rfl)
theorem dX1_init_91 : decode cX1_init 91 = .ok (.ldc 83, 2) := dk_18 83 (dk_at dksX1_init_3 19 rfl rfl)
theorem dX1_init_93 : decode cX1_init 93 = .ok (.invokevirtual 79, 3) := dk_182 0 79 (dk_at dksX1_init_3 21 rfl rfl)
theorem dX1_init_96 : decode cX1_init 96 = .ok (.aload_n 0, 1) := dk_42 (dk_at dksX1_init_4 0 rfl rfl)
theorem dX1_init_97 : decode cX1_init 97 = .ok (.iconst 4, 1) := dk_7 (dk_at dksX1_init_4 1 rfl rfl)
theorem dX1_init_98 : decode cX1_init 98 = .ok (.ldc 85, 2) := dk_18 85 (dk_at dksX1_init_4 2 rfl rfl)
theorem dX1_init_100 : decode cX1_init 100 = .ok (.iconst 3, 1) := dk_6 (dk_at dksX1_init_4 4 rfl rfl)
theorem dX1_init_101 : decode cX1_init 101 = .ok (.ldc 56, 2) := dk_18 56 (dk_at dksX1_init_4 5 rfl rfl)
theorem dX1_init_103 : decode cX1_init 103 = .ok (.invokevirtual 79, 3) := dk_182 0 79 (dk_at dksX1_init_4 7 rfl rfl)
theorem dX1_init_106 : decode cX1_init 106 = .ok (.new 87, 3) := dk_187 0 87 (dk_at dksX1_init_4 10 rfl rfl)
theorem dX1_init_109 : decode cX1_init 109 = .ok (.dup, 1) := dk_89 (dk_at dksX1_init_4 13 rfl rfl)
theorem dX1_init_110 : decode cX1_init 110 = .ok (.iconst 5, 1) := dk_8 (dk_at dksX1_init_4 14 rfl rfl)
theorem dX1_init_111 : decode cX1_init 111 = .ok (.invokespecial 89, 3) := dk_183 0 89 (dk_at dksX1_init_4 15 rfl rfl)
theorem dX1_init_114 : decode cX1_init 114 = .ok (.astore_n 2, 1) := dk_77 (dk_at dksX1_init_4 18 rfl rfl)
theorem dX1_init_115 : decode cX1_init 115 = .ok (.aload_n 2, 1) := dk_44 (dk_at dksX1_init_4 19 rfl rfl)
theorem dX1_init_116 : decode cX1_init 116 = .ok (.aload_n 0, 1) := dk_42 (dk_at dksX1_init_4 20 rfl rfl)
theorem dX1_init_117 : decode cX1_init 117 = .ok (.getfield 52, 3) := dk_180 0 52 (dk_at dksX1_init_4 21 rfl rfl)
theorem dX1_init_120 : decode cX1_init 120 = .ok (.ldc 92, 2) := dk_18 92 (dk_at dksX1_init_5 0 rfl rfl)
theorem dX1_init_122 : decode cX1_init 122 = .ok (.invokevirtual 94, 3) := dk_182 0 94 (dk_at dksX1_init_5 2 rfl rfl)
theorem dX1_init_125 : decode cX1_init 125 = .ok (.invokeinterface 98 2, 5) := by decide +kernel
theorem dX1_init_130 : decode cX1_init 130 = .ok (.pop, 1) := dk_87 (dk_at dksX1_init_5 10 rfl rfl)
theorem dX1_init_131 : decode cX1_init 131 = .ok (.aload_n 2, 1) := dk_44 (dk_at dksX1_init_5 11 rfl rfl)
theorem dX1_init_132 : decode cX1_init 132 = .ok (.new 104, 3) := dk_187 0 104 (dk_at dksX1_init_5 12 rfl rfl)
theorem dX1_init_135 : decode cX1_init 135 = .ok (.dup, 1) := dk_89 (dk_at dksX1_init_5 15 rfl rfl)
theorem dX1_init_136 : decode cX1_init 136 = .ok (.iconst 3, 1) := dk_6 (dk_at dksX1_init_5 16 rfl rfl)
theorem dX1_init_137 : decode cX1_init 137 = .ok (.invokespecial 106, 3) := dk_183 0 106 (dk_at dksX1_init_5 17 rfl rfl)
theorem dX1_init_140 : decode cX1_init 140 = .ok (.invokeinterface 98 2, 5) := by decide +kernel
theorem dX1_init_145 : decode cX1_init 145 = .ok (.pop, 1) := dk_87 (dk_at dksX1_init_6 5 rfl rfl)
theorem dX1_init_146 : decode cX1_init 146 = .ok (.aload_n 2, 1) := dk_44 (dk_at dksX1_init_6 6 rfl rfl)
theorem dX1_init_147 : decode cX1_init 147 = .ok (.new 104, 3) := dk_187 0 104 (dk_at dksX1_init_6 7 rfl rfl)
theorem dX1_init_150 : decode cX1_init 150 = .ok (.dup, 1) := dk_89 (dk_at dksX1_init_6 10 rfl rfl)
theorem dX1_init_151 : decode cX1_init 151 = .ok (.iconst 1, 1) := dk_4 (dk_at dksX1_init_6 11 rfl rfl)
theorem dX1_init_152 : decode cX1_init 152 = .ok (.invokespecial 106, 3) := dk_183 0 106 (dk_at dksX1_init_6 12 rfl rfl)
theorem dX1_init_155 : decode cX1_init 155 = .ok (.invokeinterface 98 2, 5) := by decide +kernel
theorem dX1_init_160 : decode cX1_init 160 = .ok (.pop, 1) := dk_87 (dk_at dksX1_init_6 20 rfl rfl)
theorem dX1_init_161 : decode cX1_init 161 = .ok (.aload_n 0, 1) := dk_42 (dk_at dksX1_init_6 21 rfl rfl)
theorem dX1_init_162 : decode cX1_init 162 = .ok (.getfield 52, 3) := dk_180 0 52 (dk_at dksX1_init_7 0 rfl rfl)
theorem dX1_init_165 : decode cX1_init 165 = .ok (.aload_n 2, 1) := dk_44 (dk_at dksX1_init_7 3 rfl rfl)
theorem dX1_init_166 : decode cX1_init 166 = .ok (.bipush 6, 2) := dk_16 6 (dk_at dksX1_init_7 4 rfl rfl)
theorem dX1_init_168 : decode cX1_init 168 = .ok (.invokevirtual 107, 3) := dk_182 0 107 (dk_at dksX1_init_7 6 rfl rfl)
theorem dX1_init_171 : decode cX1_init 171 = .ok (.istore_n 3, 1) := dk_62 (dk_at dksX1_init_7 9 rfl rfl)
theorem dX1_init_172 : decode cX1_init 172 = .ok (.new 87, 3) := dk_187 0 87 (dk_at dksX1_init_7 10 rfl rfl)
theorem dX1_init_175 : decode cX1_init 175 = .ok (.dup, 1) := dk_89 (dk_at dksX1_init_7 13 rfl rfl)
theorem dX1_init_176 : decode cX1_init 176 = .ok (.iconst 5, 1) := dk_8 (dk_at dksX1_init_7 14 rfl rfl)
theorem dX1_init_177 : decode cX1_init 177 = .ok (.invokespecial 89, 3) := dk_183 0 89 (dk_at dksX1_init_7 15 rfl rfl)
theorem dX1_init_180 : decode cX1_init 180 = .ok (.astore 4, 2) := dk_58 4 (dk_at dksX1_init_7 18 rfl rfl)
theorem dX1_init_182 : decode cX1_init 182 = .ok (.aload 4, 2) := dk_25 4 (dk_at dksX1_init_7 20 rfl rfl)
theorem dX1_init_184 : decode cX1_init 184 = .ok (.aload_n 0, 1) := dk_42 (dk_at dksX1_init_7 22 rfl rfl)
theorem dX1_init_185 : decode cX1_init 185 = .ok (.getfield 52, 3) := dk_180 0 52 (dk_at dksX1_init_8 0 rfl rfl)
theorem dX1_init_188 : decode cX1_init 188 = .ok (.ldc 64, 2) := dk_18 64 (dk_at dksX1_init_8 3 rfl rfl)
theorem dX1_init_190 : decode cX1_init 190 = .ok (.invokevirtual 94, 3) := dk_182 0 94 (dk_at dksX1_init_8 5 rfl rfl)
theorem dX1_init_193 : decode cX1_init 193 = .ok (.invokeinterface 98 2, 5) := by decide +kernel
theorem dX1_init_198 : decode cX1_init 198 = .ok (.pop, 1) := dk_87 (dk_at dksX1_init_8 13 rfl rfl)
theorem dX1_init_199 : decode cX1_init 199 = .ok (.aload_n 0, 1) := dk_42 (dk_at dksX1_init_8 14 rfl rfl)
theorem dX1_init_200 : decode cX1_init 200 = .ok (.getfield 52, 3) := dk_180 0 52 (dk_at dksX1_init_8 15 rfl rfl)
theorem dX1_init_203 : decode cX1_init 203 = .ok (.aload 4, 2) := dk_25 4 (dk_at dksX1_init_8 18 rfl rfl)
theorem dX1_init_205 : decode cX1_init 205 = .ok (.iconst 2, 1) := dk_5 (dk_at dksX1_init_8 20 rfl rfl)
theorem dX1_init_206 : decode cX1_init 206 = .ok (.invokevirtual 107, 3) := dk_182 0 107 (dk_at dksX1_init_8 21 rfl rfl)
theorem dX1_init_209 : decode cX1_init 209 = .ok (.istore 5, 2) := dk_54 5 (dk_at dksX1_init_9 0 rfl rfl)
theorem dX1_init_211 : decode cX1_init 211 = .ok (.return_, 1) := dk_177 (dk_at dksX1_init_9 2 rfl rfl)
abbrev cX1_bit : ByteArray := prog_1_method_2_code
def yX1_bit : MethodName := ⟨RX1, "bit", "(Z)I"⟩
def dkwX1_bit_0 : List UInt8 := [26, 153, 0, 7, 4, 167, 0, 4, 3, 172]
abbrev dktX1_bit_0 : List UInt8 := dkwX1_bit_0 ++ []
theorem dksX1_bit_0 : cX1_bit.data.toList.drop 0 = dktX1_bit_0 := by decide +kernel
theorem dX1_bit_0 : decode cX1_bit 0 = .ok (.iload_n 0, 1) := dk_26 (dk_at dksX1_bit_0 0 rfl rfl)
theorem dX1_bit_1 : decode cX1_bit 1 = .ok (.ifCond .eq 7, 3) := dk_153 0 7 (dk_at dksX1_bit_0 1 rfl rfl)
theorem dX1_bit_4 : decode cX1_bit 4 = .ok (.iconst 1, 1) := dk_4 (dk_at dksX1_bit_0 4 rfl rfl)
theorem dX1_bit_5 : decode cX1_bit 5 = .ok (.goto 4, 3) := dk_167 0 4 (dk_at dksX1_bit_0 5 rfl rfl)
theorem dX1_bit_8 : decode cX1_bit 8 = .ok (.iconst 0, 1) := dk_3 (dk_at dksX1_bit_0 8 rfl rfl)
theorem dX1_bit_9 : decode cX1_bit 9 = .ok (.ireturn, 1) := dk_172 (dk_at dksX1_bit_0 9 rfl rfl)
abbrev cX1_begin : ByteArray := prog_1_method_7_code
def yX1_begin : MethodName := ⟨RX1, "begin", "(ILjava/lang/String;ILjava/lang/String;)V"⟩
def dkwX1_begin_3 : List UInt8 := [180, 0, 52, 25, 5, 27, 182, 0, 107, 54, 6, 177]
abbrev dktX1_begin_3 : List UInt8 := dkwX1_begin_3 ++ []
def dkwX1_begin_2 : List UInt8 := [182, 0, 110, 154, 0, 20, 25, 5, 42, 180, 0, 52, 25, 4, 182, 0, 94, 185, 0, 98, 2, 0, 87, 42]
abbrev dktX1_begin_2 : List UInt8 := dkwX1_begin_2 ++ dktX1_begin_3
def dkwX1_begin_1 : List UInt8 := [185, 0, 98, 2, 0, 87, 25, 5, 187, 0, 104, 89, 29, 183, 0, 106, 185, 0, 98, 2, 0, 87, 25, 4]
abbrev dktX1_begin_1 : List UInt8 := dkwX1_begin_1 ++ dktX1_begin_2
def dkwX1_begin_0 : List UInt8 := [187, 0, 87, 89, 8, 183, 0, 89, 58, 5, 25, 5, 42, 180, 0, 52, 44, 182, 0, 94]
abbrev dktX1_begin_0 : List UInt8 := dkwX1_begin_0 ++ dktX1_begin_1
theorem dksX1_begin_0 : cX1_begin.data.toList.drop 0 = dktX1_begin_0 := by decide +kernel
theorem dksX1_begin_1 : cX1_begin.data.toList.drop 20 = dktX1_begin_1 := dk_seg dksX1_begin_0 20 rfl rfl
theorem dksX1_begin_2 : cX1_begin.data.toList.drop 44 = dktX1_begin_2 := dk_seg dksX1_begin_1 24 rfl rfl
theorem dksX1_begin_3 : cX1_begin.data.toList.drop 68 = dktX1_begin_3 := dk_seg dksX1_begin_2 24 rfl rfl
theorem dX1_begin_0 : decode cX1_begin 0 = .ok (.new 87, 3) := dk_187 0 87 (dk_at dksX1_begin_0 0 rfl rfl)
theorem dX1_begin_3 : decode cX1_begin 3 = .ok (.dup, 1) := dk_89 (dk_at dksX1_begin_0 3 rfl rfl)
theorem dX1_begin_4 : decode cX1_begin 4 = .ok (.iconst 5, 1) := dk_8 (dk_at dksX1_begin_0 4 rfl rfl)
theorem dX1_begin_5 : decode cX1_begin 5 = .ok (.invokespecial 89, 3) := dk_183 0 89 (dk_at dksX1_begin_0 5 rfl rfl)
theorem dX1_begin_8 : decode cX1_begin 8 = .ok (.astore 5, 2) := dk_58 5 (dk_at dksX1_begin_0 8 rfl rfl)
theorem dX1_begin_10 : decode cX1_begin 10 = .ok (.aload 5, 2) := dk_25 5 (dk_at dksX1_begin_0 10 rfl rfl)
theorem dX1_begin_12 : decode cX1_begin 12 = .ok (.aload_n 0, 1) := dk_42 (dk_at dksX1_begin_0 12 rfl rfl)
theorem dX1_begin_13 : decode cX1_begin 13 = .ok (.getfield 52, 3) := dk_180 0 52 (dk_at dksX1_begin_0 13 rfl rfl)
theorem dX1_begin_16 : decode cX1_begin 16 = .ok (.aload_n 2, 1) := dk_44 (dk_at dksX1_begin_0 16 rfl rfl)
theorem dX1_begin_17 : decode cX1_begin 17 = .ok (.invokevirtual 94, 3) := dk_182 0 94 (dk_at dksX1_begin_0 17 rfl rfl)
theorem dX1_begin_20 : decode cX1_begin 20 = .ok (.invokeinterface 98 2, 5) := by decide +kernel
theorem dX1_begin_25 : decode cX1_begin 25 = .ok (.pop, 1) := dk_87 (dk_at dksX1_begin_1 5 rfl rfl)
theorem dX1_begin_26 : decode cX1_begin 26 = .ok (.aload 5, 2) := dk_25 5 (dk_at dksX1_begin_1 6 rfl rfl)
theorem dX1_begin_28 : decode cX1_begin 28 = .ok (.new 104, 3) := dk_187 0 104 (dk_at dksX1_begin_1 8 rfl rfl)
theorem dX1_begin_31 : decode cX1_begin 31 = .ok (.dup, 1) := dk_89 (dk_at dksX1_begin_1 11 rfl rfl)
theorem dX1_begin_32 : decode cX1_begin 32 = .ok (.iload_n 3, 1) := dk_29 (dk_at dksX1_begin_1 12 rfl rfl)
theorem dX1_begin_33 : decode cX1_begin 33 = .ok (.invokespecial 106, 3) := dk_183 0 106 (dk_at dksX1_begin_1 13 rfl rfl)
theorem dX1_begin_36 : decode cX1_begin 36 = .ok (.invokeinterface 98 2, 5) := by decide +kernel
theorem dX1_begin_41 : decode cX1_begin 41 = .ok (.pop, 1) := dk_87 (dk_at dksX1_begin_1 21 rfl rfl)
theorem dX1_begin_42 : decode cX1_begin 42 = .ok (.aload 4, 2) := dk_25 4 (dk_at dksX1_begin_1 22 rfl rfl)
theorem dX1_begin_44 : decode cX1_begin 44 = .ok (.invokevirtual 110, 3) := dk_182 0 110 (dk_at dksX1_begin_2 0 rfl rfl)
theorem dX1_begin_47 : decode cX1_begin 47 = .ok (.ifCond .ne 20, 3) := dk_154 0 20 (dk_at dksX1_begin_2 3 rfl rfl)
theorem dX1_begin_50 : decode cX1_begin 50 = .ok (.aload 5, 2) := dk_25 5 (dk_at dksX1_begin_2 6 rfl rfl)
theorem dX1_begin_52 : decode cX1_begin 52 = .ok (.aload_n 0, 1) := dk_42 (dk_at dksX1_begin_2 8 rfl rfl)
theorem dX1_begin_53 : decode cX1_begin 53 = .ok (.getfield 52, 3) := dk_180 0 52 (dk_at dksX1_begin_2 9 rfl rfl)
theorem dX1_begin_56 : decode cX1_begin 56 = .ok (.aload 4, 2) := dk_25 4 (dk_at dksX1_begin_2 12 rfl rfl)
theorem dX1_begin_58 : decode cX1_begin 58 = .ok (.invokevirtual 94, 3) := dk_182 0 94 (dk_at dksX1_begin_2 14 rfl rfl)
theorem dX1_begin_61 : decode cX1_begin 61 = .ok (.invokeinterface 98 2, 5) := by decide +kernel
theorem dX1_begin_66 : decode cX1_begin 66 = .ok (.pop, 1) := dk_87 (dk_at dksX1_begin_2 22 rfl rfl)
theorem dX1_begin_67 : decode cX1_begin 67 = .ok (.aload_n 0, 1) := dk_42 (dk_at dksX1_begin_2 23 rfl rfl)
theorem dX1_begin_68 : decode cX1_begin 68 = .ok (.getfield 52, 3) := dk_180 0 52 (dk_at dksX1_begin_3 0 rfl rfl)
theorem dX1_begin_71 : decode cX1_begin 71 = .ok (.aload 5, 2) := dk_25 5 (dk_at dksX1_begin_3 3 rfl rfl)
theorem dX1_begin_73 : decode cX1_begin 73 = .ok (.iload_n 1, 1) := dk_27 (dk_at dksX1_begin_3 5 rfl rfl)
theorem dX1_begin_74 : decode cX1_begin 74 = .ok (.invokevirtual 107, 3) := dk_182 0 107 (dk_at dksX1_begin_3 6 rfl rfl)
theorem dX1_begin_77 : decode cX1_begin 77 = .ok (.istore 6, 2) := dk_54 6 (dk_at dksX1_begin_3 9 rfl rfl)
theorem dX1_begin_79 : decode cX1_begin 79 = .ok (.return_, 1) := dk_177 (dk_at dksX1_begin_3 11 rfl rfl)
abbrev cX1_feed : ByteArray := prog_1_method_15_code
def yX1_feed : MethodName := ⟨RX1, "feed", "(IIIII)I"⟩
def dkwX1_feed_5 : List UInt8 := [172]
abbrev dktX1_feed_5 : List UInt8 := dkwX1_feed_5 ++ []
def dkwX1_feed_4 : List UInt8 := [180, 0, 186, 4, 96, 181, 0, 186, 132, 11, 248, 167, 255, 223, 132, 9, 1, 167, 255, 199, 42, 180, 0, 186]
abbrev dktX1_feed_4 : List UInt8 := dkwX1_feed_4 ++ dktX1_feed_5
def dkwX1_feed_3 : List UInt8 := [21, 11, 155, 0, 34, 42, 180, 0, 29, 42, 180, 0, 186, 21, 10, 21, 11, 122, 145, 84, 42, 89]
abbrev dktX1_feed_3 : List UInt8 := dkwX1_feed_3 ++ dktX1_feed_4
def dkwX1_feed_2 : List UInt8 := [190, 54, 8, 3, 54, 9, 21, 9, 21, 8, 162, 0, 56, 25, 7, 21, 9, 46, 54, 10, 16, 24, 54, 11]
abbrev dktX1_feed_2 : List UInt8 := dkwX1_feed_2 ++ dktX1_feed_3
def dkwX1_feed_1 : List UInt8 := [28, 79, 89, 5, 29, 79, 89, 6, 21, 4, 79, 89, 7, 21, 5, 79, 58, 6, 25, 6, 58, 7, 25, 7]
abbrev dktX1_feed_1 : List UInt8 := dkwX1_feed_1 ++ dktX1_feed_2
def dkwX1_feed_0 : List UInt8 := [42, 180, 0, 186, 16, 20, 96, 17, 3, 32, 164, 0, 5, 2, 172, 8, 188, 10, 89, 3, 27, 79, 89, 4]
abbrev dktX1_feed_0 : List UInt8 := dkwX1_feed_0 ++ dktX1_feed_1
theorem dksX1_feed_0 : cX1_feed.data.toList.drop 0 = dktX1_feed_0 := by decide +kernel
theorem dksX1_feed_1 : cX1_feed.data.toList.drop 24 = dktX1_feed_1 := dk_seg dksX1_feed_0 24 rfl rfl
theorem dksX1_feed_2 : cX1_feed.data.toList.drop 48 = dktX1_feed_2 := dk_seg dksX1_feed_1 24 rfl rfl
theorem dksX1_feed_3 : cX1_feed.data.toList.drop 72 = dktX1_feed_3 := dk_seg dksX1_feed_2 24 rfl rfl
theorem dksX1_feed_4 : cX1_feed.data.toList.drop 94 = dktX1_feed_4 := dk_seg dksX1_feed_3 22 rfl rfl
theorem dksX1_feed_5 : cX1_feed.data.toList.drop 118 = dktX1_feed_5 := dk_seg dksX1_feed_4 24 rfl rfl
theorem dX1_feed_0 : decode cX1_feed 0 = .ok (.aload_n 0, 1) := dk_42 (dk_at dksX1_feed_0 0 rfl rfl)
theorem dX1_feed_1 : decode cX1_feed 1 = .ok (.getfield 186, 3) := dk_180 0 186 (dk_at dksX1_feed_0 1 rfl rfl)
theorem dX1_feed_4 : decode cX1_feed 4 = .ok (.bipush 20, 2) := dk_16 20 (dk_at dksX1_feed_0 4 rfl rfl)
theorem dX1_feed_6 : decode cX1_feed 6 = .ok (.iadd, 1) := dk_96 (dk_at dksX1_feed_0 6 rfl rfl)
theorem dX1_feed_7 : decode cX1_feed 7 = .ok (.sipush 800, 3) := dk_17 3 32 (dk_at dksX1_feed_0 7 rfl rfl)
theorem dX1_feed_10 : decode cX1_feed 10 = .ok (.if_icmp .le 5, 3) := dk_164 0 5 (dk_at dksX1_feed_0 10 rfl rfl)
theorem dX1_feed_13 : decode cX1_feed 13 = .ok (.iconst (-1), 1) := dk_2 (dk_at dksX1_feed_0 13 rfl rfl)
theorem dX1_feed_14 : decode cX1_feed 14 = .ok (.ireturn, 1) := dk_172 (dk_at dksX1_feed_0 14 rfl rfl)
theorem dX1_feed_15 : decode cX1_feed 15 = .ok (.iconst 5, 1) := dk_8 (dk_at dksX1_feed_0 15 rfl rfl)
theorem dX1_feed_16 : decode cX1_feed 16 = .ok (.newarray .int, 2) := dk_188_10 (dk_at dksX1_feed_0 16 rfl rfl)
theorem dX1_feed_18 : decode cX1_feed 18 = .ok (.dup, 1) := dk_89 (dk_at dksX1_feed_0 18 rfl rfl)
theorem dX1_feed_19 : decode cX1_feed 19 = .ok (.iconst 0, 1) := dk_3 (dk_at dksX1_feed_0 19 rfl rfl)
theorem dX1_feed_20 : decode cX1_feed 20 = .ok (.iload_n 1, 1) := dk_27 (dk_at dksX1_feed_0 20 rfl rfl)
theorem dX1_feed_21 : decode cX1_feed 21 = .ok (.iastore, 1) := dk_79 (dk_at dksX1_feed_0 21 rfl rfl)
theorem dX1_feed_22 : decode cX1_feed 22 = .ok (.dup, 1) := dk_89 (dk_at dksX1_feed_0 22 rfl rfl)
theorem dX1_feed_23 : decode cX1_feed 23 = .ok (.iconst 1, 1) := dk_4 (dk_at dksX1_feed_0 23 rfl rfl)
theorem dX1_feed_24 : decode cX1_feed 24 = .ok (.iload_n 2, 1) := dk_28 (dk_at dksX1_feed_1 0 rfl rfl)
theorem dX1_feed_25 : decode cX1_feed 25 = .ok (.iastore, 1) := dk_79 (dk_at dksX1_feed_1 1 rfl rfl)
theorem dX1_feed_26 : decode cX1_feed 26 = .ok (.dup, 1) := dk_89 (dk_at dksX1_feed_1 2 rfl rfl)
theorem dX1_feed_27 : decode cX1_feed 27 = .ok (.iconst 2, 1) := dk_5 (dk_at dksX1_feed_1 3 rfl rfl)
theorem dX1_feed_28 : decode cX1_feed 28 = .ok (.iload_n 3, 1) := dk_29 (dk_at dksX1_feed_1 4 rfl rfl)
theorem dX1_feed_29 : decode cX1_feed 29 = .ok (.iastore, 1) := dk_79 (dk_at dksX1_feed_1 5 rfl rfl)
theorem dX1_feed_30 : decode cX1_feed 30 = .ok (.dup, 1) := dk_89 (dk_at dksX1_feed_1 6 rfl rfl)
theorem dX1_feed_31 : decode cX1_feed 31 = .ok (.iconst 3, 1) := dk_6 (dk_at dksX1_feed_1 7 rfl rfl)
theorem dX1_feed_32 : decode cX1_feed 32 = .ok (.iload 4, 2) := dk_21 4 (dk_at dksX1_feed_1 8 rfl rfl)
theorem dX1_feed_34 : decode cX1_feed 34 = .ok (.iastore, 1) := dk_79 (dk_at dksX1_feed_1 10 rfl rfl)
theorem dX1_feed_35 : decode cX1_feed 35 = .ok (.dup, 1) := dk_89 (dk_at dksX1_feed_1 11 rfl rfl)
theorem dX1_feed_36 : decode cX1_feed 36 = .ok (.iconst 4, 1) := dk_7 (dk_at dksX1_feed_1 12 rfl rfl)
theorem dX1_feed_37 : decode cX1_feed 37 = .ok (.iload 5, 2) := dk_21 5 (dk_at dksX1_feed_1 13 rfl rfl)
theorem dX1_feed_39 : decode cX1_feed 39 = .ok (.iastore, 1) := dk_79 (dk_at dksX1_feed_1 15 rfl rfl)
theorem dX1_feed_40 : decode cX1_feed 40 = .ok (.astore 6, 2) := dk_58 6 (dk_at dksX1_feed_1 16 rfl rfl)
theorem dX1_feed_42 : decode cX1_feed 42 = .ok (.aload 6, 2) := dk_25 6 (dk_at dksX1_feed_1 18 rfl rfl)
theorem dX1_feed_44 : decode cX1_feed 44 = .ok (.astore 7, 2) := dk_58 7 (dk_at dksX1_feed_1 20 rfl rfl)
theorem dX1_feed_46 : decode cX1_feed 46 = .ok (.aload 7, 2) := dk_25 7 (dk_at dksX1_feed_1 22 rfl rfl)
theorem dX1_feed_48 : decode cX1_feed 48 = .ok (.arraylength, 1) := dk_190 (dk_at dksX1_feed_2 0 rfl rfl)
theorem dX1_feed_49 : decode cX1_feed 49 = .ok (.istore 8, 2) := dk_54 8 (dk_at dksX1_feed_2 1 rfl rfl)
theorem dX1_feed_51 : decode cX1_feed 51 = .ok (.iconst 0, 1) := dk_3 (dk_at dksX1_feed_2 3 rfl rfl)
theorem dX1_feed_52 : decode cX1_feed 52 = .ok (.istore 9, 2) := dk_54 9 (dk_at dksX1_feed_2 4 rfl rfl)
theorem dX1_feed_54 : decode cX1_feed 54 = .ok (.iload 9, 2) := dk_21 9 (dk_at dksX1_feed_2 6 rfl rfl)
theorem dX1_feed_56 : decode cX1_feed 56 = .ok (.iload 8, 2) := dk_21 8 (dk_at dksX1_feed_2 8 rfl rfl)
theorem dX1_feed_58 : decode cX1_feed 58 = .ok (.if_icmp .ge 56, 3) := dk_162 0 56 (dk_at dksX1_feed_2 10 rfl rfl)
theorem dX1_feed_61 : decode cX1_feed 61 = .ok (.aload 7, 2) := dk_25 7 (dk_at dksX1_feed_2 13 rfl rfl)
theorem dX1_feed_63 : decode cX1_feed 63 = .ok (.iload 9, 2) := dk_21 9 (dk_at dksX1_feed_2 15 rfl rfl)
theorem dX1_feed_65 : decode cX1_feed 65 = .ok (.iaload, 1) := dk_46 (dk_at dksX1_feed_2 17 rfl rfl)
theorem dX1_feed_66 : decode cX1_feed 66 = .ok (.istore 10, 2) := dk_54 10 (dk_at dksX1_feed_2 18 rfl rfl)
theorem dX1_feed_68 : decode cX1_feed 68 = .ok (.bipush 24, 2) := dk_16 24 (dk_at dksX1_feed_2 20 rfl rfl)
theorem dX1_feed_70 : decode cX1_feed 70 = .ok (.istore 11, 2) := dk_54 11 (dk_at dksX1_feed_2 22 rfl rfl)
theorem dX1_feed_72 : decode cX1_feed 72 = .ok (.iload 11, 2) := dk_21 11 (dk_at dksX1_feed_3 0 rfl rfl)
theorem dX1_feed_74 : decode cX1_feed 74 = .ok (.ifCond .lt 34, 3) := dk_155 0 34 (dk_at dksX1_feed_3 2 rfl rfl)
theorem dX1_feed_77 : decode cX1_feed 77 = .ok (.aload_n 0, 1) := dk_42 (dk_at dksX1_feed_3 5 rfl rfl)
theorem dX1_feed_78 : decode cX1_feed 78 = .ok (.getfield 29, 3) := dk_180 0 29 (dk_at dksX1_feed_3 6 rfl rfl)
theorem dX1_feed_81 : decode cX1_feed 81 = .ok (.aload_n 0, 1) := dk_42 (dk_at dksX1_feed_3 9 rfl rfl)
theorem dX1_feed_82 : decode cX1_feed 82 = .ok (.getfield 186, 3) := dk_180 0 186 (dk_at dksX1_feed_3 10 rfl rfl)
theorem dX1_feed_85 : decode cX1_feed 85 = .ok (.iload 10, 2) := dk_21 10 (dk_at dksX1_feed_3 13 rfl rfl)
theorem dX1_feed_87 : decode cX1_feed 87 = .ok (.iload 11, 2) := dk_21 11 (dk_at dksX1_feed_3 15 rfl rfl)
theorem dX1_feed_89 : decode cX1_feed 89 = .ok (.ishr, 1) := dk_122 (dk_at dksX1_feed_3 17 rfl rfl)
theorem dX1_feed_90 : decode cX1_feed 90 = .ok (.i2b, 1) := dk_145 (dk_at dksX1_feed_3 18 rfl rfl)
theorem dX1_feed_91 : decode cX1_feed 91 = .ok (.bastore, 1) := dk_84 (dk_at dksX1_feed_3 19 rfl rfl)
theorem dX1_feed_92 : decode cX1_feed 92 = .ok (.aload_n 0, 1) := dk_42 (dk_at dksX1_feed_3 20 rfl rfl)
theorem dX1_feed_93 : decode cX1_feed 93 = .ok (.dup, 1) := dk_89 (dk_at dksX1_feed_3 21 rfl rfl)
theorem dX1_feed_94 : decode cX1_feed 94 = .ok (.getfield 186, 3) := dk_180 0 186 (dk_at dksX1_feed_4 0 rfl rfl)
theorem dX1_feed_97 : decode cX1_feed 97 = .ok (.iconst 1, 1) := dk_4 (dk_at dksX1_feed_4 3 rfl rfl)
theorem dX1_feed_98 : decode cX1_feed 98 = .ok (.iadd, 1) := dk_96 (dk_at dksX1_feed_4 4 rfl rfl)
theorem dX1_feed_99 : decode cX1_feed 99 = .ok (.putfield 186, 3) := dk_181 0 186 (dk_at dksX1_feed_4 5 rfl rfl)
theorem dX1_feed_102 : decode cX1_feed 102 = .ok (.iinc 11 (-8), 3) := dk_132 11 248 (dk_at dksX1_feed_4 8 rfl rfl)
theorem dX1_feed_105 : decode cX1_feed 105 = .ok (.goto (-33), 3) := dk_167 255 223 (dk_at dksX1_feed_4 11 rfl rfl)
theorem dX1_feed_108 : decode cX1_feed 108 = .ok (.iinc 9 1, 3) := dk_132 9 1 (dk_at dksX1_feed_4 14 rfl rfl)
theorem dX1_feed_111 : decode cX1_feed 111 = .ok (.goto (-57), 3) := dk_167 255 199 (dk_at dksX1_feed_4 17 rfl rfl)
theorem dX1_feed_114 : decode cX1_feed 114 = .ok (.aload_n 0, 1) := dk_42 (dk_at dksX1_feed_4 20 rfl rfl)
theorem dX1_feed_115 : decode cX1_feed 115 = .ok (.getfield 186, 3) := dk_180 0 186 (dk_at dksX1_feed_4 21 rfl rfl)
theorem dX1_feed_118 : decode cX1_feed 118 = .ok (.ireturn, 1) := dk_172 (dk_at dksX1_feed_5 0 rfl rfl)
abbrev cX1_errorPosition : ByteArray := prog_1_method_19_code
def yX1_errorPosition : MethodName := ⟨RX1, "errorPosition", "()I"⟩
theorem dX1_errorPosition_0 : decode cX1_errorPosition 0 = .ok (.aload_n 0, 1) := by decide +kernel
theorem dX1_errorPosition_1 : decode cX1_errorPosition 1 = .ok (.getfield 40, 3) := by decide +kernel
theorem dX1_errorPosition_4 : decode cX1_errorPosition 4 = .ok (.ireturn, 1) := by decide +kernel
abbrev cX1_at : ByteArray := prog_1_method_22_code
def yX1_at : MethodName := ⟨RX1, "at", "(I)I"⟩
def dkwX1_at_1 : List UInt8 := [180, 0, 52, 180, 0, 160, 27, 185, 0, 164, 2, 0, 192, 0, 168, 180, 0, 243, 167, 0, 4, 2, 172]
abbrev dktX1_at_1 : List UInt8 := dkwX1_at_1 ++ []
def dkwX1_at_0 : List UInt8 := [27, 3, 42, 180, 0, 52, 180, 0, 160, 185, 0, 177, 1, 0, 4, 100, 184, 0, 16, 153, 0, 25, 42]
abbrev dktX1_at_0 : List UInt8 := dkwX1_at_0 ++ dktX1_at_1
theorem dksX1_at_0 : cX1_at.data.toList.drop 0 = dktX1_at_0 := by decide +kernel
theorem dksX1_at_1 : cX1_at.data.toList.drop 23 = dktX1_at_1 := dk_seg dksX1_at_0 23 rfl rfl
theorem dX1_at_0 : decode cX1_at 0 = .ok (.iload_n 1, 1) := dk_27 (dk_at dksX1_at_0 0 rfl rfl)
theorem dX1_at_1 : decode cX1_at 1 = .ok (.iconst 0, 1) := dk_3 (dk_at dksX1_at_0 1 rfl rfl)
theorem dX1_at_2 : decode cX1_at 2 = .ok (.aload_n 0, 1) := dk_42 (dk_at dksX1_at_0 2 rfl rfl)
theorem dX1_at_3 : decode cX1_at 3 = .ok (.getfield 52, 3) := dk_180 0 52 (dk_at dksX1_at_0 3 rfl rfl)
theorem dX1_at_6 : decode cX1_at 6 = .ok (.getfield 160, 3) := dk_180 0 160 (dk_at dksX1_at_0 6 rfl rfl)
theorem dX1_at_9 : decode cX1_at 9 = .ok (.invokeinterface 177 1, 5) := by decide +kernel
theorem dX1_at_14 : decode cX1_at 14 = .ok (.iconst 1, 1) := dk_4 (dk_at dksX1_at_0 14 rfl rfl)
theorem dX1_at_15 : decode cX1_at 15 = .ok (.isub, 1) := dk_100 (dk_at dksX1_at_0 15 rfl rfl)
theorem dX1_at_16 : decode cX1_at 16 = .ok (.invokestatic 16, 3) := dk_184 0 16 (dk_at dksX1_at_0 16 rfl rfl)
theorem dX1_at_19 : decode cX1_at 19 = .ok (.ifCond .eq 25, 3) := dk_153 0 25 (dk_at dksX1_at_0 19 rfl rfl)
theorem dX1_at_22 : decode cX1_at 22 = .ok (.aload_n 0, 1) := dk_42 (dk_at dksX1_at_0 22 rfl rfl)
theorem dX1_at_23 : decode cX1_at 23 = .ok (.getfield 52, 3) := dk_180 0 52 (dk_at dksX1_at_1 0 rfl rfl)
theorem dX1_at_26 : decode cX1_at 26 = .ok (.getfield 160, 3) := dk_180 0 160 (dk_at dksX1_at_1 3 rfl rfl)
theorem dX1_at_29 : decode cX1_at 29 = .ok (.iload_n 1, 1) := dk_27 (dk_at dksX1_at_1 6 rfl rfl)
theorem dX1_at_30 : decode cX1_at 30 = .ok (.invokeinterface 164 2, 5) := by decide +kernel
theorem dX1_at_35 : decode cX1_at 35 = .ok (.checkcast 168, 3) := dk_192 0 168 (dk_at dksX1_at_1 12 rfl rfl)
theorem dX1_at_38 : decode cX1_at 38 = .ok (.getfield 243, 3) := dk_180 0 243 (dk_at dksX1_at_1 15 rfl rfl)
theorem dX1_at_41 : decode cX1_at 41 = .ok (.goto 4, 3) := dk_167 0 4 (dk_at dksX1_at_1 18 rfl rfl)
theorem dX1_at_44 : decode cX1_at 44 = .ok (.iconst (-1), 1) := dk_2 (dk_at dksX1_at_1 21 rfl rfl)
theorem dX1_at_45 : decode cX1_at 45 = .ok (.ireturn, 1) := dk_172 (dk_at dksX1_at_1 22 rfl rfl)
abbrev cX1_inRange : ByteArray := prog_1_method_1_code
def yX1_inRange : MethodName := ⟨RX1, "inRange", "(III)Z"⟩
def dkwX1_inRange_0 : List UInt8 := [27, 26, 163, 0, 12, 26, 28, 163, 0, 7, 4, 167, 0, 4, 3, 172]
abbrev dktX1_inRange_0 : List UInt8 := dkwX1_inRange_0 ++ []
theorem dksX1_inRange_0 : cX1_inRange.data.toList.drop 0 = dktX1_inRange_0 := by decide +kernel
theorem dX1_inRange_0 : decode cX1_inRange 0 = .ok (.iload_n 1, 1) := dk_27 (dk_at dksX1_inRange_0 0 rfl rfl)
theorem dX1_inRange_1 : decode cX1_inRange 1 = .ok (.iload_n 0, 1) := dk_26 (dk_at dksX1_inRange_0 1 rfl rfl)
theorem dX1_inRange_2 : decode cX1_inRange 2 = .ok (.if_icmp .gt 12, 3) := dk_163 0 12 (dk_at dksX1_inRange_0 2 rfl rfl)
theorem dX1_inRange_5 : decode cX1_inRange 5 = .ok (.iload_n 0, 1) := dk_26 (dk_at dksX1_inRange_0 5 rfl rfl)
theorem dX1_inRange_6 : decode cX1_inRange 6 = .ok (.iload_n 2, 1) := dk_28 (dk_at dksX1_inRange_0 6 rfl rfl)
theorem dX1_inRange_7 : decode cX1_inRange 7 = .ok (.if_icmp .gt 7, 3) := dk_163 0 7 (dk_at dksX1_inRange_0 7 rfl rfl)
theorem dX1_inRange_10 : decode cX1_inRange 10 = .ok (.iconst 1, 1) := dk_4 (dk_at dksX1_inRange_0 10 rfl rfl)
theorem dX1_inRange_11 : decode cX1_inRange 11 = .ok (.goto 4, 3) := dk_167 0 4 (dk_at dksX1_inRange_0 11 rfl rfl)
theorem dX1_inRange_14 : decode cX1_inRange 14 = .ok (.iconst 0, 1) := dk_3 (dk_at dksX1_inRange_0 14 rfl rfl)
theorem dX1_inRange_15 : decode cX1_inRange 15 = .ok (.ireturn, 1) := dk_172 (dk_at dksX1_inRange_0 15 rfl rfl)
abbrev cX1_gap : ByteArray := prog_1_method_28_code
def yX1_gap : MethodName := ⟨RX1, "gap", "()I"⟩
def dkwX1_gap_0 : List UInt8 := [42, 180, 0, 52, 182, 1, 47, 172]
abbrev dktX1_gap_0 : List UInt8 := dkwX1_gap_0 ++ []
theorem dksX1_gap_0 : cX1_gap.data.toList.drop 0 = dktX1_gap_0 := by decide +kernel
theorem dX1_gap_0 : decode cX1_gap 0 = .ok (.aload_n 0, 1) := dk_42 (dk_at dksX1_gap_0 0 rfl rfl)
theorem dX1_gap_1 : decode cX1_gap 1 = .ok (.getfield 52, 3) := dk_180 0 52 (dk_at dksX1_gap_0 1 rfl rfl)
theorem dX1_gap_4 : decode cX1_gap 4 = .ok (.invokevirtual 303, 3) := dk_182 1 47 (dk_at dksX1_gap_0 4 rfl rfl)
theorem dX1_gap_7 : decode cX1_gap 7 = .ok (.ireturn, 1) := dk_172 (dk_at dksX1_gap_0 7 rfl rfl)
abbrev cX1_alike : ByteArray := prog_1_method_31_code
def yX1_alike : MethodName := ⟨RX1, "alike", "()I"⟩
def dkwX1_alike_0 : List UInt8 := [42, 180, 0, 52, 182, 1, 71, 172]
abbrev dktX1_alike_0 : List UInt8 := dkwX1_alike_0 ++ []
theorem dksX1_alike_0 : cX1_alike.data.toList.drop 0 = dktX1_alike_0 := by decide +kernel
theorem dX1_alike_0 : decode cX1_alike 0 = .ok (.aload_n 0, 1) := dk_42 (dk_at dksX1_alike_0 0 rfl rfl)
theorem dX1_alike_1 : decode cX1_alike 1 = .ok (.getfield 52, 3) := dk_180 0 52 (dk_at dksX1_alike_0 1 rfl rfl)
theorem dX1_alike_4 : decode cX1_alike 4 = .ok (.invokevirtual 327, 3) := dk_182 1 71 (dk_at dksX1_alike_0 4 rfl rfl)
theorem dX1_alike_7 : decode cX1_alike 7 = .ok (.ireturn, 1) := dk_172 (dk_at dksX1_alike_0 7 rfl rfl)
abbrev cX1_cause : ByteArray := prog_1_method_42_code
def yX1_cause : MethodName := ⟨RX1, "cause", "()I"⟩
theorem dX1_cause_0 : decode cX1_cause 0 = .ok (.aload_n 0, 1) := by decide +kernel
theorem dX1_cause_1 : decode cX1_cause 1 = .ok (.getfield 44, 3) := by decide +kernel
theorem dX1_cause_4 : decode cX1_cause 4 = .ok (.ireturn, 1) := by decide +kernel
abbrev cX1_meanMoves : ByteArray := prog_1_method_44_code
def yX1_meanMoves : MethodName := ⟨RX1, "meanMoves", "()D"⟩
def dkwX1_meanMoves_1 : List UInt8 := [180, 0, 239, 5, 46, 135, 27, 135, 111, 175]
abbrev dktX1_meanMoves_1 : List UInt8 := dkwX1_meanMoves_1 ++ []
def dkwX1_meanMoves_0 : List UInt8 := [42, 180, 0, 52, 180, 0, 239, 3, 46, 60, 27, 154, 0, 7, 14, 167, 0, 16, 42, 180, 0, 52]
abbrev dktX1_meanMoves_0 : List UInt8 := dkwX1_meanMoves_0 ++ dktX1_meanMoves_1
theorem dksX1_meanMoves_0 : cX1_meanMoves.data.toList.drop 0 = dktX1_meanMoves_0 := by decide +kernel
theorem dksX1_meanMoves_1 : cX1_meanMoves.data.toList.drop 22 = dktX1_meanMoves_1 := dk_seg dksX1_meanMoves_0 22 rfl rfl
theorem dX1_meanMoves_0 : decode cX1_meanMoves 0 = .ok (.aload_n 0, 1) := dk_42 (dk_at dksX1_meanMoves_0 0 rfl rfl)
theorem dX1_meanMoves_1 : decode cX1_meanMoves 1 = .ok (.getfield 52, 3) := dk_180 0 52 (dk_at dksX1_meanMoves_0 1 rfl rfl)
theorem dX1_meanMoves_4 : decode cX1_meanMoves 4 = .ok (.getfield 239, 3) := dk_180 0 239 (dk_at dksX1_meanMoves_0 4 rfl rfl)
theorem dX1_meanMoves_7 : decode cX1_meanMoves 7 = .ok (.iconst 0, 1) := dk_3 (dk_at dksX1_meanMoves_0 7 rfl rfl)
theorem dX1_meanMoves_8 : decode cX1_meanMoves 8 = .ok (.iaload, 1) := dk_46 (dk_at dksX1_meanMoves_0 8 rfl rfl)
theorem dX1_meanMoves_9 : decode cX1_meanMoves 9 = .ok (.istore_n 1, 1) := dk_60 (dk_at dksX1_meanMoves_0 9 rfl rfl)
theorem dX1_meanMoves_10 : decode cX1_meanMoves 10 = .ok (.iload_n 1, 1) := dk_27 (dk_at dksX1_meanMoves_0 10 rfl rfl)
theorem dX1_meanMoves_11 : decode cX1_meanMoves 11 = .ok (.ifCond .ne 7, 3) := dk_154 0 7 (dk_at dksX1_meanMoves_0 11 rfl rfl)
theorem dX1_meanMoves_14 : decode cX1_meanMoves 14 = .ok (.dconst 0, 1) := dk_14 (dk_at dksX1_meanMoves_0 14 rfl rfl)
theorem dX1_meanMoves_15 : decode cX1_meanMoves 15 = .ok (.goto 16, 3) := dk_167 0 16 (dk_at dksX1_meanMoves_0 15 rfl rfl)
theorem dX1_meanMoves_18 : decode cX1_meanMoves 18 = .ok (.aload_n 0, 1) := dk_42 (dk_at dksX1_meanMoves_0 18 rfl rfl)
theorem dX1_meanMoves_19 : decode cX1_meanMoves 19 = .ok (.getfield 52, 3) := dk_180 0 52 (dk_at dksX1_meanMoves_0 19 rfl rfl)
theorem dX1_meanMoves_22 : decode cX1_meanMoves 22 = .ok (.getfield 239, 3) := dk_180 0 239 (dk_at dksX1_meanMoves_1 0 rfl rfl)
theorem dX1_meanMoves_25 : decode cX1_meanMoves 25 = .ok (.iconst 2, 1) := dk_5 (dk_at dksX1_meanMoves_1 3 rfl rfl)
theorem dX1_meanMoves_26 : decode cX1_meanMoves 26 = .ok (.iaload, 1) := dk_46 (dk_at dksX1_meanMoves_1 4 rfl rfl)
theorem dX1_meanMoves_27 : decode cX1_meanMoves 27 = .ok (.i2d, 1) := dk_135 (dk_at dksX1_meanMoves_1 5 rfl rfl)
theorem dX1_meanMoves_28 : decode cX1_meanMoves 28 = .ok (.iload_n 1, 1) := dk_27 (dk_at dksX1_meanMoves_1 6 rfl rfl)
theorem dX1_meanMoves_29 : decode cX1_meanMoves 29 = .ok (.i2d, 1) := dk_135 (dk_at dksX1_meanMoves_1 7 rfl rfl)
theorem dX1_meanMoves_30 : decode cX1_meanMoves 30 = .ok (.ddiv, 1) := dk_111 (dk_at dksX1_meanMoves_1 8 rfl rfl)
theorem dX1_meanMoves_31 : decode cX1_meanMoves 31 = .ok (.dreturn, 1) := dk_175 (dk_at dksX1_meanMoves_1 9 rfl rfl)
abbrev cX1_balance : ByteArray := prog_1_method_51_code
def yX1_balance : MethodName := ⟨RX1, "balance", "()I"⟩
def dkwX1_balance_0 : List UInt8 := [42, 187, 1, 177, 89, 4, 183, 1, 179, 182, 1, 152, 172]
abbrev dktX1_balance_0 : List UInt8 := dkwX1_balance_0 ++ []
theorem dksX1_balance_0 : cX1_balance.data.toList.drop 0 = dktX1_balance_0 := by decide +kernel
theorem dX1_balance_0 : decode cX1_balance 0 = .ok (.aload_n 0, 1) := dk_42 (dk_at dksX1_balance_0 0 rfl rfl)
theorem dX1_balance_1 : decode cX1_balance 1 = .ok (.new 433, 3) := dk_187 1 177 (dk_at dksX1_balance_0 1 rfl rfl)
theorem dX1_balance_4 : decode cX1_balance 4 = .ok (.dup, 1) := dk_89 (dk_at dksX1_balance_0 4 rfl rfl)
theorem dX1_balance_5 : decode cX1_balance 5 = .ok (.iconst 1, 1) := dk_4 (dk_at dksX1_balance_0 5 rfl rfl)
theorem dX1_balance_6 : decode cX1_balance 6 = .ok (.invokespecial 435, 3) := dk_183 1 179 (dk_at dksX1_balance_0 6 rfl rfl)
theorem dX1_balance_9 : decode cX1_balance 9 = .ok (.invokevirtual 408, 3) := dk_182 1 152 (dk_at dksX1_balance_0 9 rfl rfl)
theorem dX1_balance_12 : decode cX1_balance 12 = .ok (.ireturn, 1) := dk_172 (dk_at dksX1_balance_0 12 rfl rfl)
abbrev cX1_operate : ByteArray := prog_1_method_10_code
def yX1_operate : MethodName := ⟨RX1, "operate", "(LSpokenMarks$Order;)I"⟩
def dkwX1_operate_1 : List UInt8 := [155, 0, 8, 42, 44, 182, 0, 149, 29, 172]
abbrev dktX1_operate_1 : List UInt8 := dkwX1_operate_1 ++ []
def dkwX1_operate_0 : List UInt8 := [42, 180, 0, 52, 182, 0, 135, 77, 42, 43, 42, 180, 0, 52, 182, 0, 139, 182, 0, 145, 62, 29]
abbrev dktX1_operate_0 : List UInt8 := dkwX1_operate_0 ++ dktX1_operate_1
theorem dksX1_operate_0 : cX1_operate.data.toList.drop 0 = dktX1_operate_0 := by decide +kernel
theorem dksX1_operate_1 : cX1_operate.data.toList.drop 22 = dktX1_operate_1 := dk_seg dksX1_operate_0 22 rfl rfl
theorem dX1_operate_0 : decode cX1_operate 0 = .ok (.aload_n 0, 1) := dk_42 (dk_at dksX1_operate_0 0 rfl rfl)
theorem dX1_operate_1 : decode cX1_operate 1 = .ok (.getfield 52, 3) := dk_180 0 52 (dk_at dksX1_operate_0 1 rfl rfl)
theorem dX1_operate_4 : decode cX1_operate 4 = .ok (.invokevirtual 135, 3) := dk_182 0 135 (dk_at dksX1_operate_0 4 rfl rfl)
theorem dX1_operate_7 : decode cX1_operate 7 = .ok (.astore_n 2, 1) := dk_77 (dk_at dksX1_operate_0 7 rfl rfl)
theorem dX1_operate_8 : decode cX1_operate 8 = .ok (.aload_n 0, 1) := dk_42 (dk_at dksX1_operate_0 8 rfl rfl)
theorem dX1_operate_9 : decode cX1_operate 9 = .ok (.aload_n 1, 1) := dk_43 (dk_at dksX1_operate_0 9 rfl rfl)
theorem dX1_operate_10 : decode cX1_operate 10 = .ok (.aload_n 0, 1) := dk_42 (dk_at dksX1_operate_0 10 rfl rfl)
theorem dX1_operate_11 : decode cX1_operate 11 = .ok (.getfield 52, 3) := dk_180 0 52 (dk_at dksX1_operate_0 11 rfl rfl)
theorem dX1_operate_14 : decode cX1_operate 14 = .ok (.invokevirtual 139, 3) := dk_182 0 139 (dk_at dksX1_operate_0 14 rfl rfl)
theorem dX1_operate_17 : decode cX1_operate 17 = .ok (.invokevirtual 145, 3) := dk_182 0 145 (dk_at dksX1_operate_0 17 rfl rfl)
theorem dX1_operate_20 : decode cX1_operate 20 = .ok (.istore_n 3, 1) := dk_62 (dk_at dksX1_operate_0 20 rfl rfl)
theorem dX1_operate_21 : decode cX1_operate 21 = .ok (.iload_n 3, 1) := dk_29 (dk_at dksX1_operate_0 21 rfl rfl)
theorem dX1_operate_22 : decode cX1_operate 22 = .ok (.ifCond .lt 8, 3) := dk_155 0 8 (dk_at dksX1_operate_1 0 rfl rfl)
theorem dX1_operate_25 : decode cX1_operate 25 = .ok (.aload_n 0, 1) := dk_42 (dk_at dksX1_operate_1 3 rfl rfl)
theorem dX1_operate_26 : decode cX1_operate 26 = .ok (.aload_n 2, 1) := dk_44 (dk_at dksX1_operate_1 4 rfl rfl)
theorem dX1_operate_27 : decode cX1_operate 27 = .ok (.invokevirtual 149, 3) := dk_182 0 149 (dk_at dksX1_operate_1 5 rfl rfl)
theorem dX1_operate_30 : decode cX1_operate 30 = .ok (.iload_n 3, 1) := dk_29 (dk_at dksX1_operate_1 8 rfl rfl)
theorem dX1_operate_31 : decode cX1_operate 31 = .ok (.ireturn, 1) := dk_172 (dk_at dksX1_operate_1 9 rfl rfl)
abbrev cX1_counted : ByteArray := prog_1_method_9_code
def yX1_counted : MethodName := ⟨RX1, "counted", "(I)I"⟩
def dkwX1_counted_1 : List UInt8 := [180, 0, 132, 27, 156, 0, 7, 4, 167, 0, 4, 3, 184, 0, 128, 96, 181, 0, 132, 27, 172]
abbrev dktX1_counted_1 : List UInt8 := dkwX1_counted_1 ++ []
def dkwX1_counted_0 : List UInt8 := [42, 89, 180, 0, 125, 27, 155, 0, 7, 4, 167, 0, 4, 3, 184, 0, 128, 96, 181, 0, 125, 42, 89]
abbrev dktX1_counted_0 : List UInt8 := dkwX1_counted_0 ++ dktX1_counted_1
theorem dksX1_counted_0 : cX1_counted.data.toList.drop 0 = dktX1_counted_0 := by decide +kernel
theorem dksX1_counted_1 : cX1_counted.data.toList.drop 23 = dktX1_counted_1 := dk_seg dksX1_counted_0 23 rfl rfl
theorem dX1_counted_0 : decode cX1_counted 0 = .ok (.aload_n 0, 1) := dk_42 (dk_at dksX1_counted_0 0 rfl rfl)
theorem dX1_counted_1 : decode cX1_counted 1 = .ok (.dup, 1) := dk_89 (dk_at dksX1_counted_0 1 rfl rfl)
theorem dX1_counted_2 : decode cX1_counted 2 = .ok (.getfield 125, 3) := dk_180 0 125 (dk_at dksX1_counted_0 2 rfl rfl)
theorem dX1_counted_5 : decode cX1_counted 5 = .ok (.iload_n 1, 1) := dk_27 (dk_at dksX1_counted_0 5 rfl rfl)
theorem dX1_counted_6 : decode cX1_counted 6 = .ok (.ifCond .lt 7, 3) := dk_155 0 7 (dk_at dksX1_counted_0 6 rfl rfl)
theorem dX1_counted_9 : decode cX1_counted 9 = .ok (.iconst 1, 1) := dk_4 (dk_at dksX1_counted_0 9 rfl rfl)
theorem dX1_counted_10 : decode cX1_counted 10 = .ok (.goto 4, 3) := dk_167 0 4 (dk_at dksX1_counted_0 10 rfl rfl)
theorem dX1_counted_13 : decode cX1_counted 13 = .ok (.iconst 0, 1) := dk_3 (dk_at dksX1_counted_0 13 rfl rfl)
theorem dX1_counted_14 : decode cX1_counted 14 = .ok (.invokestatic 128, 3) := dk_184 0 128 (dk_at dksX1_counted_0 14 rfl rfl)
theorem dX1_counted_17 : decode cX1_counted 17 = .ok (.iadd, 1) := dk_96 (dk_at dksX1_counted_0 17 rfl rfl)
theorem dX1_counted_18 : decode cX1_counted 18 = .ok (.putfield 125, 3) := dk_181 0 125 (dk_at dksX1_counted_0 18 rfl rfl)
theorem dX1_counted_21 : decode cX1_counted 21 = .ok (.aload_n 0, 1) := dk_42 (dk_at dksX1_counted_0 21 rfl rfl)
theorem dX1_counted_22 : decode cX1_counted 22 = .ok (.dup, 1) := dk_89 (dk_at dksX1_counted_0 22 rfl rfl)
theorem dX1_counted_23 : decode cX1_counted 23 = .ok (.getfield 132, 3) := dk_180 0 132 (dk_at dksX1_counted_1 0 rfl rfl)
theorem dX1_counted_26 : decode cX1_counted 26 = .ok (.iload_n 1, 1) := dk_27 (dk_at dksX1_counted_1 3 rfl rfl)
theorem dX1_counted_27 : decode cX1_counted 27 = .ok (.ifCond .ge 7, 3) := dk_156 0 7 (dk_at dksX1_counted_1 4 rfl rfl)
theorem dX1_counted_30 : decode cX1_counted 30 = .ok (.iconst 1, 1) := dk_4 (dk_at dksX1_counted_1 7 rfl rfl)
theorem dX1_counted_31 : decode cX1_counted 31 = .ok (.goto 4, 3) := dk_167 0 4 (dk_at dksX1_counted_1 8 rfl rfl)
theorem dX1_counted_34 : decode cX1_counted 34 = .ok (.iconst 0, 1) := dk_3 (dk_at dksX1_counted_1 11 rfl rfl)
theorem dX1_counted_35 : decode cX1_counted 35 = .ok (.invokestatic 128, 3) := dk_184 0 128 (dk_at dksX1_counted_1 12 rfl rfl)
theorem dX1_counted_38 : decode cX1_counted 38 = .ok (.iadd, 1) := dk_96 (dk_at dksX1_counted_1 15 rfl rfl)
theorem dX1_counted_39 : decode cX1_counted 39 = .ok (.putfield 132, 3) := dk_181 0 132 (dk_at dksX1_counted_1 16 rfl rfl)
theorem dX1_counted_42 : decode cX1_counted 42 = .ok (.iload_n 1, 1) := dk_27 (dk_at dksX1_counted_1 19 rfl rfl)
theorem dX1_counted_43 : decode cX1_counted 43 = .ok (.ireturn, 1) := dk_172 (dk_at dksX1_counted_1 20 rfl rfl)
abbrev cX1_record : ByteArray := prog_1_method_8_code
def yX1_record : MethodName := ⟨RX1, "record", "(LSpokenMarks$Catalogue;)V"⟩
def dkwX1_record_1 : List UInt8 := [43, 182, 0, 121, 177]
abbrev dktX1_record_1 : List UInt8 := dkwX1_record_1 ++ []
def dkwX1_record_0 : List UInt8 := [42, 180, 0, 36, 182, 0, 114, 16, 8, 160, 0, 11, 42, 180, 0, 36, 182, 0, 117, 87, 42, 180, 0, 36]
abbrev dktX1_record_0 : List UInt8 := dkwX1_record_0 ++ dktX1_record_1
theorem dksX1_record_0 : cX1_record.data.toList.drop 0 = dktX1_record_0 := by decide +kernel
theorem dksX1_record_1 : cX1_record.data.toList.drop 24 = dktX1_record_1 := dk_seg dksX1_record_0 24 rfl rfl
theorem dX1_record_0 : decode cX1_record 0 = .ok (.aload_n 0, 1) := dk_42 (dk_at dksX1_record_0 0 rfl rfl)
theorem dX1_record_1 : decode cX1_record 1 = .ok (.getfield 36, 3) := dk_180 0 36 (dk_at dksX1_record_0 1 rfl rfl)
theorem dX1_record_4 : decode cX1_record 4 = .ok (.invokevirtual 114, 3) := dk_182 0 114 (dk_at dksX1_record_0 4 rfl rfl)
theorem dX1_record_7 : decode cX1_record 7 = .ok (.bipush 8, 2) := dk_16 8 (dk_at dksX1_record_0 7 rfl rfl)
theorem dX1_record_9 : decode cX1_record 9 = .ok (.if_icmp .ne 11, 3) := dk_160 0 11 (dk_at dksX1_record_0 9 rfl rfl)
theorem dX1_record_12 : decode cX1_record 12 = .ok (.aload_n 0, 1) := dk_42 (dk_at dksX1_record_0 12 rfl rfl)
theorem dX1_record_13 : decode cX1_record 13 = .ok (.getfield 36, 3) := dk_180 0 36 (dk_at dksX1_record_0 13 rfl rfl)
theorem dX1_record_16 : decode cX1_record 16 = .ok (.invokevirtual 117, 3) := dk_182 0 117 (dk_at dksX1_record_0 16 rfl rfl)
theorem dX1_record_19 : decode cX1_record 19 = .ok (.pop, 1) := dk_87 (dk_at dksX1_record_0 19 rfl rfl)
theorem dX1_record_20 : decode cX1_record 20 = .ok (.aload_n 0, 1) := dk_42 (dk_at dksX1_record_0 20 rfl rfl)
theorem dX1_record_21 : decode cX1_record 21 = .ok (.getfield 36, 3) := dk_180 0 36 (dk_at dksX1_record_0 21 rfl rfl)
theorem dX1_record_24 : decode cX1_record 24 = .ok (.aload_n 1, 1) := dk_43 (dk_at dksX1_record_1 0 rfl rfl)
theorem dX1_record_25 : decode cX1_record 25 = .ok (.invokevirtual 121, 3) := dk_182 0 121 (dk_at dksX1_record_1 1 rfl rfl)
theorem dX1_record_28 : decode cX1_record 28 = .ok (.return_, 1) := dk_177 (dk_at dksX1_record_1 4 rfl rfl)
abbrev cX1_respace : ByteArray := prog_1_method_52_code
def yX1_respace : MethodName := ⟨RX1, "respace", "()I"⟩
def dkwX1_respace_0 : List UInt8 := [42, 187, 1, 177, 89, 3, 183, 1, 179, 182, 1, 152, 172]
abbrev dktX1_respace_0 : List UInt8 := dkwX1_respace_0 ++ []
theorem dksX1_respace_0 : cX1_respace.data.toList.drop 0 = dktX1_respace_0 := by decide +kernel
theorem dX1_respace_0 : decode cX1_respace 0 = .ok (.aload_n 0, 1) := dk_42 (dk_at dksX1_respace_0 0 rfl rfl)
theorem dX1_respace_1 : decode cX1_respace 1 = .ok (.new 433, 3) := dk_187 1 177 (dk_at dksX1_respace_0 1 rfl rfl)
theorem dX1_respace_4 : decode cX1_respace 4 = .ok (.dup, 1) := dk_89 (dk_at dksX1_respace_0 4 rfl rfl)
theorem dX1_respace_5 : decode cX1_respace 5 = .ok (.iconst 0, 1) := dk_3 (dk_at dksX1_respace_0 5 rfl rfl)
theorem dX1_respace_6 : decode cX1_respace 6 = .ok (.invokespecial 435, 3) := dk_183 1 179 (dk_at dksX1_respace_0 6 rfl rfl)
theorem dX1_respace_9 : decode cX1_respace 9 = .ok (.invokevirtual 408, 3) := dk_182 1 152 (dk_at dksX1_respace_0 9 rfl rfl)
theorem dX1_respace_12 : decode cX1_respace 12 = .ok (.ireturn, 1) := dk_172 (dk_at dksX1_respace_0 12 rfl rfl)
abbrev cX1_formattedByte : ByteArray := prog_1_method_56_code
def yX1_formattedByte : MethodName := ⟨RX1, "formattedByte", "(I)I"⟩
def dkwX1_formattedByte_1 : List UInt8 := [182, 0, 22, 167, 0, 4, 2, 172]
abbrev dktX1_formattedByte_1 : List UInt8 := dkwX1_formattedByte_1 ++ []
def dkwX1_formattedByte_0 : List UInt8 := [27, 3, 42, 180, 0, 58, 182, 0, 10, 4, 100, 184, 0, 16, 153, 0, 14, 42, 180, 0, 58, 27]
abbrev dktX1_formattedByte_0 : List UInt8 := dkwX1_formattedByte_0 ++ dktX1_formattedByte_1
theorem dksX1_formattedByte_0 : cX1_formattedByte.data.toList.drop 0 = dktX1_formattedByte_0 := by decide +kernel
theorem dksX1_formattedByte_1 : cX1_formattedByte.data.toList.drop 22 = dktX1_formattedByte_1 := dk_seg dksX1_formattedByte_0 22 rfl rfl
theorem dX1_formattedByte_0 : decode cX1_formattedByte 0 = .ok (.iload_n 1, 1) := dk_27 (dk_at dksX1_formattedByte_0 0 rfl rfl)
theorem dX1_formattedByte_1 : decode cX1_formattedByte 1 = .ok (.iconst 0, 1) := dk_3 (dk_at dksX1_formattedByte_0 1 rfl rfl)
theorem dX1_formattedByte_2 : decode cX1_formattedByte 2 = .ok (.aload_n 0, 1) := dk_42 (dk_at dksX1_formattedByte_0 2 rfl rfl)
theorem dX1_formattedByte_3 : decode cX1_formattedByte 3 = .ok (.getfield 58, 3) := dk_180 0 58 (dk_at dksX1_formattedByte_0 3 rfl rfl)
theorem dX1_formattedByte_6 : decode cX1_formattedByte 6 = .ok (.invokevirtual 10, 3) := dk_182 0 10 (dk_at dksX1_formattedByte_0 6 rfl rfl)
theorem dX1_formattedByte_9 : decode cX1_formattedByte 9 = .ok (.iconst 1, 1) := dk_4 (dk_at dksX1_formattedByte_0 9 rfl rfl)
theorem dX1_formattedByte_10 : decode cX1_formattedByte 10 = .ok (.isub, 1) := dk_100 (dk_at dksX1_formattedByte_0 10 rfl rfl)
theorem dX1_formattedByte_11 : decode cX1_formattedByte 11 = .ok (.invokestatic 16, 3) := dk_184 0 16 (dk_at dksX1_formattedByte_0 11 rfl rfl)
theorem dX1_formattedByte_14 : decode cX1_formattedByte 14 = .ok (.ifCond .eq 14, 3) := dk_153 0 14 (dk_at dksX1_formattedByte_0 14 rfl rfl)
theorem dX1_formattedByte_17 : decode cX1_formattedByte 17 = .ok (.aload_n 0, 1) := dk_42 (dk_at dksX1_formattedByte_0 17 rfl rfl)
theorem dX1_formattedByte_18 : decode cX1_formattedByte 18 = .ok (.getfield 58, 3) := dk_180 0 58 (dk_at dksX1_formattedByte_0 18 rfl rfl)
theorem dX1_formattedByte_21 : decode cX1_formattedByte 21 = .ok (.iload_n 1, 1) := dk_27 (dk_at dksX1_formattedByte_0 21 rfl rfl)
theorem dX1_formattedByte_22 : decode cX1_formattedByte 22 = .ok (.invokevirtual 22, 3) := dk_182 0 22 (dk_at dksX1_formattedByte_1 0 rfl rfl)
theorem dX1_formattedByte_25 : decode cX1_formattedByte 25 = .ok (.goto 4, 3) := dk_167 0 4 (dk_at dksX1_formattedByte_1 3 rfl rfl)
theorem dX1_formattedByte_28 : decode cX1_formattedByte 28 = .ok (.iconst (-1), 1) := dk_2 (dk_at dksX1_formattedByte_1 6 rfl rfl)
theorem dX1_formattedByte_29 : decode cX1_formattedByte 29 = .ok (.ireturn, 1) := dk_172 (dk_at dksX1_formattedByte_1 7 rfl rfl)
abbrev cX1_undoCount : ByteArray := prog_1_method_57_code
def yX1_undoCount : MethodName := ⟨RX1, "undoCount", "()I"⟩
def dkwX1_undoCount_0 : List UInt8 := [42, 180, 0, 36, 182, 0, 114, 172]
abbrev dktX1_undoCount_0 : List UInt8 := dkwX1_undoCount_0 ++ []
theorem dksX1_undoCount_0 : cX1_undoCount.data.toList.drop 0 = dktX1_undoCount_0 := by decide +kernel
theorem dX1_undoCount_0 : decode cX1_undoCount 0 = .ok (.aload_n 0, 1) := dk_42 (dk_at dksX1_undoCount_0 0 rfl rfl)
theorem dX1_undoCount_1 : decode cX1_undoCount 1 = .ok (.getfield 36, 3) := dk_180 0 36 (dk_at dksX1_undoCount_0 1 rfl rfl)
theorem dX1_undoCount_4 : decode cX1_undoCount 4 = .ok (.invokevirtual 114, 3) := dk_182 0 114 (dk_at dksX1_undoCount_0 4 rfl rfl)
theorem dX1_undoCount_7 : decode cX1_undoCount 7 = .ok (.ireturn, 1) := dk_172 (dk_at dksX1_undoCount_0 7 rfl rfl)
abbrev cX1_undo : ByteArray := prog_1_method_58_code
def yX1_undo : MethodName := ⟨RX1, "undo", "()I"⟩
def dkwX1_undo_1 : List UInt8 := [181, 0, 52, 42, 89, 180, 0, 236, 4, 96, 181, 0, 236, 42, 180, 0, 36, 182, 0, 114, 172]
abbrev dktX1_undo_1 : List UInt8 := dkwX1_undo_1 ++ []
def dkwX1_undo_0 : List UInt8 := [42, 180, 0, 36, 182, 1, 214, 153, 0, 5, 2, 172, 42, 42, 180, 0, 36, 182, 1, 215, 192, 0, 47]
abbrev dktX1_undo_0 : List UInt8 := dkwX1_undo_0 ++ dktX1_undo_1
theorem dksX1_undo_0 : cX1_undo.data.toList.drop 0 = dktX1_undo_0 := by decide +kernel
theorem dksX1_undo_1 : cX1_undo.data.toList.drop 23 = dktX1_undo_1 := dk_seg dksX1_undo_0 23 rfl rfl
theorem dX1_undo_0 : decode cX1_undo 0 = .ok (.aload_n 0, 1) := dk_42 (dk_at dksX1_undo_0 0 rfl rfl)
theorem dX1_undo_1 : decode cX1_undo 1 = .ok (.getfield 36, 3) := dk_180 0 36 (dk_at dksX1_undo_0 1 rfl rfl)
theorem dX1_undo_4 : decode cX1_undo 4 = .ok (.invokevirtual 470, 3) := dk_182 1 214 (dk_at dksX1_undo_0 4 rfl rfl)
theorem dX1_undo_7 : decode cX1_undo 7 = .ok (.ifCond .eq 5, 3) := dk_153 0 5 (dk_at dksX1_undo_0 7 rfl rfl)
theorem dX1_undo_10 : decode cX1_undo 10 = .ok (.iconst (-1), 1) := dk_2 (dk_at dksX1_undo_0 10 rfl rfl)
theorem dX1_undo_11 : decode cX1_undo 11 = .ok (.ireturn, 1) := dk_172 (dk_at dksX1_undo_0 11 rfl rfl)
theorem dX1_undo_12 : decode cX1_undo 12 = .ok (.aload_n 0, 1) := dk_42 (dk_at dksX1_undo_0 12 rfl rfl)
theorem dX1_undo_13 : decode cX1_undo 13 = .ok (.aload_n 0, 1) := dk_42 (dk_at dksX1_undo_0 13 rfl rfl)
theorem dX1_undo_14 : decode cX1_undo 14 = .ok (.getfield 36, 3) := dk_180 0 36 (dk_at dksX1_undo_0 14 rfl rfl)
theorem dX1_undo_17 : decode cX1_undo 17 = .ok (.invokevirtual 471, 3) := dk_182 1 215 (dk_at dksX1_undo_0 17 rfl rfl)
theorem dX1_undo_20 : decode cX1_undo 20 = .ok (.checkcast 47, 3) := dk_192 0 47 (dk_at dksX1_undo_0 20 rfl rfl)
theorem dX1_undo_23 : decode cX1_undo 23 = .ok (.putfield 52, 3) := dk_181 0 52 (dk_at dksX1_undo_1 0 rfl rfl)
theorem dX1_undo_26 : decode cX1_undo 26 = .ok (.aload_n 0, 1) := dk_42 (dk_at dksX1_undo_1 3 rfl rfl)
theorem dX1_undo_27 : decode cX1_undo 27 = .ok (.dup, 1) := dk_89 (dk_at dksX1_undo_1 4 rfl rfl)
theorem dX1_undo_28 : decode cX1_undo 28 = .ok (.getfield 236, 3) := dk_180 0 236 (dk_at dksX1_undo_1 5 rfl rfl)
theorem dX1_undo_31 : decode cX1_undo 31 = .ok (.iconst 1, 1) := dk_4 (dk_at dksX1_undo_1 8 rfl rfl)
theorem dX1_undo_32 : decode cX1_undo 32 = .ok (.iadd, 1) := dk_96 (dk_at dksX1_undo_1 9 rfl rfl)
theorem dX1_undo_33 : decode cX1_undo 33 = .ok (.putfield 236, 3) := dk_181 0 236 (dk_at dksX1_undo_1 10 rfl rfl)
theorem dX1_undo_36 : decode cX1_undo 36 = .ok (.aload_n 0, 1) := dk_42 (dk_at dksX1_undo_1 13 rfl rfl)
theorem dX1_undo_37 : decode cX1_undo 37 = .ok (.getfield 36, 3) := dk_180 0 36 (dk_at dksX1_undo_1 14 rfl rfl)
theorem dX1_undo_40 : decode cX1_undo 40 = .ok (.invokevirtual 114, 3) := dk_182 0 114 (dk_at dksX1_undo_1 17 rfl rfl)
theorem dX1_undo_43 : decode cX1_undo 43 = .ok (.ireturn, 1) := dk_172 (dk_at dksX1_undo_1 20 rfl rfl)
abbrev cX1_saveSnapshot : ByteArray := prog_1_method_59_code
def yX1_saveSnapshot : MethodName := ⟨RX1, "saveSnapshot", "()V"⟩
def dkwX1_saveSnapshot_0 : List UInt8 := [42, 42, 180, 0, 52, 182, 0, 135, 181, 0, 218, 177]
abbrev dktX1_saveSnapshot_0 : List UInt8 := dkwX1_saveSnapshot_0 ++ []
theorem dksX1_saveSnapshot_0 : cX1_saveSnapshot.data.toList.drop 0 = dktX1_saveSnapshot_0 := by decide +kernel
theorem dX1_saveSnapshot_0 : decode cX1_saveSnapshot 0 = .ok (.aload_n 0, 1) := dk_42 (dk_at dksX1_saveSnapshot_0 0 rfl rfl)
theorem dX1_saveSnapshot_1 : decode cX1_saveSnapshot 1 = .ok (.aload_n 0, 1) := dk_42 (dk_at dksX1_saveSnapshot_0 1 rfl rfl)
theorem dX1_saveSnapshot_2 : decode cX1_saveSnapshot 2 = .ok (.getfield 52, 3) := dk_180 0 52 (dk_at dksX1_saveSnapshot_0 2 rfl rfl)
theorem dX1_saveSnapshot_5 : decode cX1_saveSnapshot 5 = .ok (.invokevirtual 135, 3) := dk_182 0 135 (dk_at dksX1_saveSnapshot_0 5 rfl rfl)
theorem dX1_saveSnapshot_8 : decode cX1_saveSnapshot 8 = .ok (.putfield 218, 3) := dk_181 0 218 (dk_at dksX1_saveSnapshot_0 8 rfl rfl)
theorem dX1_saveSnapshot_11 : decode cX1_saveSnapshot 11 = .ok (.return_, 1) := dk_177 (dk_at dksX1_saveSnapshot_0 11 rfl rfl)
abbrev cX1_restoreSnapshot : ByteArray := prog_1_method_60_code
def yX1_restoreSnapshot : MethodName := ⟨RX1, "restoreSnapshot", "()Z"⟩
def dkwX1_restoreSnapshot_1 : List UInt8 := [182, 0, 215, 4, 172]
abbrev dktX1_restoreSnapshot_1 : List UInt8 := dkwX1_restoreSnapshot_1 ++ []
def dkwX1_restoreSnapshot_0 : List UInt8 := [42, 180, 0, 218, 199, 0, 5, 3, 172, 42, 42, 180, 0, 218, 182, 0, 135, 181, 0, 52, 42, 180, 0, 36]
abbrev dktX1_restoreSnapshot_0 : List UInt8 := dkwX1_restoreSnapshot_0 ++ dktX1_restoreSnapshot_1
theorem dksX1_restoreSnapshot_0 : cX1_restoreSnapshot.data.toList.drop 0 = dktX1_restoreSnapshot_0 := by decide +kernel
theorem dksX1_restoreSnapshot_1 : cX1_restoreSnapshot.data.toList.drop 24 = dktX1_restoreSnapshot_1 := dk_seg dksX1_restoreSnapshot_0 24 rfl rfl
theorem dX1_restoreSnapshot_0 : decode cX1_restoreSnapshot 0 = .ok (.aload_n 0, 1) := dk_42 (dk_at dksX1_restoreSnapshot_0 0 rfl rfl)
theorem dX1_restoreSnapshot_1 : decode cX1_restoreSnapshot 1 = .ok (.getfield 218, 3) := dk_180 0 218 (dk_at dksX1_restoreSnapshot_0 1 rfl rfl)
theorem dX1_restoreSnapshot_4 : decode cX1_restoreSnapshot 4 = .ok (.ifnonnull 5, 3) := dk_199 0 5 (dk_at dksX1_restoreSnapshot_0 4 rfl rfl)
theorem dX1_restoreSnapshot_7 : decode cX1_restoreSnapshot 7 = .ok (.iconst 0, 1) := dk_3 (dk_at dksX1_restoreSnapshot_0 7 rfl rfl)
theorem dX1_restoreSnapshot_8 : decode cX1_restoreSnapshot 8 = .ok (.ireturn, 1) := dk_172 (dk_at dksX1_restoreSnapshot_0 8 rfl rfl)
theorem dX1_restoreSnapshot_9 : decode cX1_restoreSnapshot 9 = .ok (.aload_n 0, 1) := dk_42 (dk_at dksX1_restoreSnapshot_0 9 rfl rfl)
theorem dX1_restoreSnapshot_10 : decode cX1_restoreSnapshot 10 = .ok (.aload_n 0, 1) := dk_42 (dk_at dksX1_restoreSnapshot_0 10 rfl rfl)
theorem dX1_restoreSnapshot_11 : decode cX1_restoreSnapshot 11 = .ok (.getfield 218, 3) := dk_180 0 218 (dk_at dksX1_restoreSnapshot_0 11 rfl rfl)
theorem dX1_restoreSnapshot_14 : decode cX1_restoreSnapshot 14 = .ok (.invokevirtual 135, 3) := dk_182 0 135 (dk_at dksX1_restoreSnapshot_0 14 rfl rfl)
theorem dX1_restoreSnapshot_17 : decode cX1_restoreSnapshot 17 = .ok (.putfield 52, 3) := dk_181 0 52 (dk_at dksX1_restoreSnapshot_0 17 rfl rfl)
theorem dX1_restoreSnapshot_20 : decode cX1_restoreSnapshot 20 = .ok (.aload_n 0, 1) := dk_42 (dk_at dksX1_restoreSnapshot_0 20 rfl rfl)
theorem dX1_restoreSnapshot_21 : decode cX1_restoreSnapshot 21 = .ok (.getfield 36, 3) := dk_180 0 36 (dk_at dksX1_restoreSnapshot_0 21 rfl rfl)
theorem dX1_restoreSnapshot_24 : decode cX1_restoreSnapshot 24 = .ok (.invokevirtual 215, 3) := dk_182 0 215 (dk_at dksX1_restoreSnapshot_1 0 rfl rfl)
theorem dX1_restoreSnapshot_27 : decode cX1_restoreSnapshot 27 = .ok (.iconst 1, 1) := dk_4 (dk_at dksX1_restoreSnapshot_1 3 rfl rfl)
theorem dX1_restoreSnapshot_28 : decode cX1_restoreSnapshot 28 = .ok (.ireturn, 1) := dk_172 (dk_at dksX1_restoreSnapshot_1 4 rfl rfl)
abbrev cX1_load : ByteArray := prog_1_method_18_code
def yX1_load : MethodName := ⟨RX1, "load", "(I)I"⟩
def dkwX1_load_2 : List UInt8 := [180, 0, 52, 180, 0, 160, 185, 0, 177, 1, 0, 172]
abbrev dktX1_load_2 : List UInt8 := dkwX1_load_2 ++ []
def dkwX1_load_1 : List UInt8 := [167, 0, 10, 77, 42, 44, 182, 0, 211, 172, 42, 180, 0, 36, 182, 0, 215, 42, 1, 181, 0, 218, 42]
abbrev dktX1_load_1 : List UInt8 := dkwX1_load_1 ++ dktX1_load_2
def dkwX1_load_0 : List UInt8 := [42, 27, 182, 0, 200, 42, 187, 0, 203, 89, 42, 180, 0, 29, 27, 183, 0, 205, 182, 0, 208, 181, 0, 52]
abbrev dktX1_load_0 : List UInt8 := dkwX1_load_0 ++ dktX1_load_1
theorem dksX1_load_0 : cX1_load.data.toList.drop 0 = dktX1_load_0 := by decide +kernel
theorem dksX1_load_1 : cX1_load.data.toList.drop 24 = dktX1_load_1 := dk_seg dksX1_load_0 24 rfl rfl
theorem dksX1_load_2 : cX1_load.data.toList.drop 47 = dktX1_load_2 := dk_seg dksX1_load_1 23 rfl rfl
theorem dX1_load_0 : decode cX1_load 0 = .ok (.aload_n 0, 1) := dk_42 (dk_at dksX1_load_0 0 rfl rfl)
theorem dX1_load_1 : decode cX1_load 1 = .ok (.iload_n 1, 1) := dk_27 (dk_at dksX1_load_0 1 rfl rfl)
theorem dX1_load_2 : decode cX1_load 2 = .ok (.invokevirtual 200, 3) := dk_182 0 200 (dk_at dksX1_load_0 2 rfl rfl)
theorem dX1_load_5 : decode cX1_load 5 = .ok (.aload_n 0, 1) := dk_42 (dk_at dksX1_load_0 5 rfl rfl)
theorem dX1_load_6 : decode cX1_load 6 = .ok (.new 203, 3) := dk_187 0 203 (dk_at dksX1_load_0 6 rfl rfl)
theorem dX1_load_9 : decode cX1_load 9 = .ok (.dup, 1) := dk_89 (dk_at dksX1_load_0 9 rfl rfl)
theorem dX1_load_10 : decode cX1_load 10 = .ok (.aload_n 0, 1) := dk_42 (dk_at dksX1_load_0 10 rfl rfl)
theorem dX1_load_11 : decode cX1_load 11 = .ok (.getfield 29, 3) := dk_180 0 29 (dk_at dksX1_load_0 11 rfl rfl)
theorem dX1_load_14 : decode cX1_load 14 = .ok (.iload_n 1, 1) := dk_27 (dk_at dksX1_load_0 14 rfl rfl)
theorem dX1_load_15 : decode cX1_load 15 = .ok (.invokespecial 205, 3) := dk_183 0 205 (dk_at dksX1_load_0 15 rfl rfl)
theorem dX1_load_18 : decode cX1_load 18 = .ok (.invokevirtual 208, 3) := dk_182 0 208 (dk_at dksX1_load_0 18 rfl rfl)
theorem dX1_load_21 : decode cX1_load 21 = .ok (.putfield 52, 3) := dk_181 0 52 (dk_at dksX1_load_0 21 rfl rfl)
theorem dX1_load_24 : decode cX1_load 24 = .ok (.goto 10, 3) := dk_167 0 10 (dk_at dksX1_load_1 0 rfl rfl)
theorem dX1_load_27 : decode cX1_load 27 = .ok (.astore_n 2, 1) := dk_77 (dk_at dksX1_load_1 3 rfl rfl)
theorem dX1_load_28 : decode cX1_load 28 = .ok (.aload_n 0, 1) := dk_42 (dk_at dksX1_load_1 4 rfl rfl)
theorem dX1_load_29 : decode cX1_load 29 = .ok (.aload_n 2, 1) := dk_44 (dk_at dksX1_load_1 5 rfl rfl)
theorem dX1_load_30 : decode cX1_load 30 = .ok (.invokevirtual 211, 3) := dk_182 0 211 (dk_at dksX1_load_1 6 rfl rfl)
theorem dX1_load_33 : decode cX1_load 33 = .ok (.ireturn, 1) := dk_172 (dk_at dksX1_load_1 9 rfl rfl)
theorem dX1_load_34 : decode cX1_load 34 = .ok (.aload_n 0, 1) := dk_42 (dk_at dksX1_load_1 10 rfl rfl)
theorem dX1_load_35 : decode cX1_load 35 = .ok (.getfield 36, 3) := dk_180 0 36 (dk_at dksX1_load_1 11 rfl rfl)
theorem dX1_load_38 : decode cX1_load 38 = .ok (.invokevirtual 215, 3) := dk_182 0 215 (dk_at dksX1_load_1 14 rfl rfl)
theorem dX1_load_41 : decode cX1_load 41 = .ok (.aload_n 0, 1) := dk_42 (dk_at dksX1_load_1 17 rfl rfl)
theorem dX1_load_42 : decode cX1_load 42 = .ok (.aconst_null, 1) := dk_1 (dk_at dksX1_load_1 18 rfl rfl)
theorem dX1_load_43 : decode cX1_load 43 = .ok (.putfield 218, 3) := dk_181 0 218 (dk_at dksX1_load_1 19 rfl rfl)
theorem dX1_load_46 : decode cX1_load 46 = .ok (.aload_n 0, 1) := dk_42 (dk_at dksX1_load_1 22 rfl rfl)
theorem dX1_load_47 : decode cX1_load 47 = .ok (.getfield 52, 3) := dk_180 0 52 (dk_at dksX1_load_2 0 rfl rfl)
theorem dX1_load_50 : decode cX1_load 50 = .ok (.getfield 160, 3) := dk_180 0 160 (dk_at dksX1_load_2 3 rfl rfl)
theorem dX1_load_53 : decode cX1_load 53 = .ok (.invokeinterface 177 1, 5) := by decide +kernel
theorem dX1_load_58 : decode cX1_load 58 = .ok (.ireturn, 1) := dk_172 (dk_at dksX1_load_2 11 rfl rfl)
abbrev cX1_empties : ByteArray := prog_1_method_16_code
def yX1_empties : MethodName := ⟨RX1, "empties", "(I)V"⟩
def dkwX1_empties_0 : List UInt8 := [27, 3, 42, 180, 0, 186, 184, 0, 16, 184, 0, 189, 42, 3, 181, 0, 186, 42, 2, 181, 0, 40, 177]
abbrev dktX1_empties_0 : List UInt8 := dkwX1_empties_0 ++ []
theorem dksX1_empties_0 : cX1_empties.data.toList.drop 0 = dktX1_empties_0 := by decide +kernel
theorem dX1_empties_0 : decode cX1_empties 0 = .ok (.iload_n 1, 1) := dk_27 (dk_at dksX1_empties_0 0 rfl rfl)
theorem dX1_empties_1 : decode cX1_empties 1 = .ok (.iconst 0, 1) := dk_3 (dk_at dksX1_empties_0 1 rfl rfl)
theorem dX1_empties_2 : decode cX1_empties 2 = .ok (.aload_n 0, 1) := dk_42 (dk_at dksX1_empties_0 2 rfl rfl)
theorem dX1_empties_3 : decode cX1_empties 3 = .ok (.getfield 186, 3) := dk_180 0 186 (dk_at dksX1_empties_0 3 rfl rfl)
theorem dX1_empties_6 : decode cX1_empties 6 = .ok (.invokestatic 16, 3) := dk_184 0 16 (dk_at dksX1_empties_0 6 rfl rfl)
theorem dX1_empties_9 : decode cX1_empties 9 = .ok (.invokestatic 189, 3) := dk_184 0 189 (dk_at dksX1_empties_0 9 rfl rfl)
theorem dX1_empties_12 : decode cX1_empties 12 = .ok (.aload_n 0, 1) := dk_42 (dk_at dksX1_empties_0 12 rfl rfl)
theorem dX1_empties_13 : decode cX1_empties 13 = .ok (.iconst 0, 1) := dk_3 (dk_at dksX1_empties_0 13 rfl rfl)
theorem dX1_empties_14 : decode cX1_empties 14 = .ok (.putfield 186, 3) := dk_181 0 186 (dk_at dksX1_empties_0 14 rfl rfl)
theorem dX1_empties_17 : decode cX1_empties 17 = .ok (.aload_n 0, 1) := dk_42 (dk_at dksX1_empties_0 17 rfl rfl)
theorem dX1_empties_18 : decode cX1_empties 18 = .ok (.iconst (-1), 1) := dk_2 (dk_at dksX1_empties_0 18 rfl rfl)
theorem dX1_empties_19 : decode cX1_empties 19 = .ok (.putfield 40, 3) := dk_181 0 40 (dk_at dksX1_empties_0 19 rfl rfl)
theorem dX1_empties_22 : decode cX1_empties 22 = .ok (.return_, 1) := dk_177 (dk_at dksX1_empties_0 22 rfl rfl)
abbrev cX1_require : ByteArray := prog_1_method_4_code
def yX1_require : MethodName := ⟨RX1, "require", "(Z)V"⟩
def dkwX1_require_0 : List UInt8 := [26, 154, 0, 11, 187, 0, 7, 89, 183, 0, 9, 191, 177]
abbrev dktX1_require_0 : List UInt8 := dkwX1_require_0 ++ []
theorem dksX1_require_0 : cX1_require.data.toList.drop 0 = dktX1_require_0 := by decide +kernel
theorem dX1_require_0 : decode cX1_require 0 = .ok (.iload_n 0, 1) := dk_26 (dk_at dksX1_require_0 0 rfl rfl)
theorem dX1_require_1 : decode cX1_require 1 = .ok (.ifCond .ne 11, 3) := dk_154 0 11 (dk_at dksX1_require_0 1 rfl rfl)
theorem dX1_require_4 : decode cX1_require 4 = .ok (.new 7, 3) := dk_187 0 7 (dk_at dksX1_require_0 4 rfl rfl)
theorem dX1_require_7 : decode cX1_require 7 = .ok (.dup, 1) := dk_89 (dk_at dksX1_require_0 7 rfl rfl)
theorem dX1_require_8 : decode cX1_require 8 = .ok (.invokespecial 9, 3) := dk_183 0 9 (dk_at dksX1_require_0 8 rfl rfl)
theorem dX1_require_11 : decode cX1_require 11 = .ok (.athrow, 1) := dk_191 (dk_at dksX1_require_0 11 rfl rfl)
theorem dX1_require_12 : decode cX1_require 12 = .ok (.return_, 1) := dk_177 (dk_at dksX1_require_0 12 rfl rfl)
abbrev cX1_failed : ByteArray := prog_1_method_17_code
def yX1_failed : MethodName := ⟨RX1, "failed", "(LSpokenMarks$TextException;)I"⟩
def dkwX1_failed_0 : List UInt8 := [42, 43, 180, 0, 192, 181, 0, 40, 16, 246, 43, 180, 0, 197, 100, 172]
abbrev dktX1_failed_0 : List UInt8 := dkwX1_failed_0 ++ []
theorem dksX1_failed_0 : cX1_failed.data.toList.drop 0 = dktX1_failed_0 := by decide +kernel
theorem dX1_failed_0 : decode cX1_failed 0 = .ok (.aload_n 0, 1) := dk_42 (dk_at dksX1_failed_0 0 rfl rfl)
theorem dX1_failed_1 : decode cX1_failed 1 = .ok (.aload_n 1, 1) := dk_43 (dk_at dksX1_failed_0 1 rfl rfl)
theorem dX1_failed_2 : decode cX1_failed 2 = .ok (.getfield 192, 3) := dk_180 0 192 (dk_at dksX1_failed_0 2 rfl rfl)
theorem dX1_failed_5 : decode cX1_failed 5 = .ok (.putfield 40, 3) := dk_181 0 40 (dk_at dksX1_failed_0 5 rfl rfl)
theorem dX1_failed_8 : decode cX1_failed 8 = .ok (.bipush (-10), 2) := dk_16 246 (dk_at dksX1_failed_0 8 rfl rfl)
theorem dX1_failed_10 : decode cX1_failed 10 = .ok (.aload_n 1, 1) := dk_43 (dk_at dksX1_failed_0 10 rfl rfl)
theorem dX1_failed_11 : decode cX1_failed 11 = .ok (.getfield 197, 3) := dk_180 0 197 (dk_at dksX1_failed_0 11 rfl rfl)
theorem dX1_failed_14 : decode cX1_failed 14 = .ok (.isub, 1) := dk_100 (dk_at dksX1_failed_0 14 rfl rfl)
theorem dX1_failed_15 : decode cX1_failed 15 = .ok (.ireturn, 1) := dk_172 (dk_at dksX1_failed_0 15 rfl rfl)
abbrev cX1_size : ByteArray := prog_1_method_20_code
def yX1_size : MethodName := ⟨RX1, "size", "(I)I"⟩
def dkwX1_size_6 : List UInt8 := [183, 0, 9, 191, 172]
abbrev dktX1_size_6 : List UInt8 := dkwX1_size_6 ++ []
def dkwX1_size_5 : List UInt8 := [180, 0, 52, 182, 0, 230, 167, 0, 21, 42, 180, 0, 52, 182, 0, 233, 167, 0, 11, 187, 0, 7, 89]
abbrev dktX1_size_5 : List UInt8 := dkwX1_size_5 ++ dktX1_size_6
def dkwX1_size_4 : List UInt8 := [167, 0, 51, 42, 180, 0, 52, 180, 0, 224, 167, 0, 41, 42, 180, 0, 52, 182, 0, 227, 167, 0, 31, 42]
abbrev dktX1_size_4 : List UInt8 := dkwX1_size_4 ++ dktX1_size_5
def dkwX1_size_3 : List UInt8 := [180, 0, 160, 185, 0, 177, 1, 0, 167, 0, 66, 42, 180, 0, 52, 180, 0, 183, 185, 0, 177, 1, 0]
abbrev dktX1_size_3 : List UInt8 := dkwX1_size_3 ++ dktX1_size_4
def dkwX1_size_2 : List UInt8 := [42, 180, 0, 52, 180, 0, 180, 167, 0, 91, 42, 180, 0, 52, 180, 0, 221, 167, 0, 81, 42, 180, 0, 52]
abbrev dktX1_size_2 : List UInt8 := dkwX1_size_2 ++ dktX1_size_3
def dkwX1_size_1 : List UInt8 := [170, 0, 0, 0, 0, 0, 137, 0, 0, 0, 0, 0, 0, 0, 7, 0, 0, 0, 47, 0, 0, 0, 57, 0, 0, 0, 67, 0, 0, 0, 82, 0, 0, 0, 97, 0, 0, 0, 107, 0, 0, 0, 117, 0, 0, 0, 127]
abbrev dktX1_size_1 : List UInt8 := dkwX1_size_1 ++ dktX1_size_2
def dkwX1_size_0 : List UInt8 := [27]
abbrev dktX1_size_0 : List UInt8 := dkwX1_size_0 ++ dktX1_size_1
theorem dksX1_size_0 : cX1_size.data.toList.drop 0 = dktX1_size_0 := by decide +kernel
theorem dksX1_size_1 : cX1_size.data.toList.drop 1 = dktX1_size_1 := dk_seg dksX1_size_0 1 rfl rfl
theorem dksX1_size_2 : cX1_size.data.toList.drop 48 = dktX1_size_2 := dk_seg dksX1_size_1 47 rfl rfl
theorem dksX1_size_3 : cX1_size.data.toList.drop 72 = dktX1_size_3 := dk_seg dksX1_size_2 24 rfl rfl
theorem dksX1_size_4 : cX1_size.data.toList.drop 95 = dktX1_size_4 := dk_seg dksX1_size_3 23 rfl rfl
theorem dksX1_size_5 : cX1_size.data.toList.drop 119 = dktX1_size_5 := dk_seg dksX1_size_4 24 rfl rfl
theorem dksX1_size_6 : cX1_size.data.toList.drop 142 = dktX1_size_6 := dk_seg dksX1_size_5 23 rfl rfl
theorem dX1_size_0 : decode cX1_size 0 = .ok (.iload_n 1, 1) := dk_27 (dk_at dksX1_size_0 0 rfl rfl)
theorem dX1_size_1 : decode cX1_size 1 = .ok (.tableswitch 137 0 7 #[47, 57, 67, 82, 97, 107, 117, 127], 47) := by decide +kernel
theorem dX1_size_48 : decode cX1_size 48 = .ok (.aload_n 0, 1) := dk_42 (dk_at dksX1_size_2 0 rfl rfl)
theorem dX1_size_49 : decode cX1_size 49 = .ok (.getfield 52, 3) := dk_180 0 52 (dk_at dksX1_size_2 1 rfl rfl)
theorem dX1_size_52 : decode cX1_size 52 = .ok (.getfield 180, 3) := dk_180 0 180 (dk_at dksX1_size_2 4 rfl rfl)
theorem dX1_size_55 : decode cX1_size 55 = .ok (.goto 91, 3) := dk_167 0 91 (dk_at dksX1_size_2 7 rfl rfl)
theorem dX1_size_58 : decode cX1_size 58 = .ok (.aload_n 0, 1) := dk_42 (dk_at dksX1_size_2 10 rfl rfl)
theorem dX1_size_59 : decode cX1_size 59 = .ok (.getfield 52, 3) := dk_180 0 52 (dk_at dksX1_size_2 11 rfl rfl)
theorem dX1_size_62 : decode cX1_size 62 = .ok (.getfield 221, 3) := dk_180 0 221 (dk_at dksX1_size_2 14 rfl rfl)
theorem dX1_size_65 : decode cX1_size 65 = .ok (.goto 81, 3) := dk_167 0 81 (dk_at dksX1_size_2 17 rfl rfl)
theorem dX1_size_68 : decode cX1_size 68 = .ok (.aload_n 0, 1) := dk_42 (dk_at dksX1_size_2 20 rfl rfl)
theorem dX1_size_69 : decode cX1_size 69 = .ok (.getfield 52, 3) := dk_180 0 52 (dk_at dksX1_size_2 21 rfl rfl)
theorem dX1_size_72 : decode cX1_size 72 = .ok (.getfield 160, 3) := dk_180 0 160 (dk_at dksX1_size_3 0 rfl rfl)
theorem dX1_size_75 : decode cX1_size 75 = .ok (.invokeinterface 177 1, 5) := by decide +kernel
theorem dX1_size_80 : decode cX1_size 80 = .ok (.goto 66, 3) := dk_167 0 66 (dk_at dksX1_size_3 8 rfl rfl)
theorem dX1_size_83 : decode cX1_size 83 = .ok (.aload_n 0, 1) := dk_42 (dk_at dksX1_size_3 11 rfl rfl)
theorem dX1_size_84 : decode cX1_size 84 = .ok (.getfield 52, 3) := dk_180 0 52 (dk_at dksX1_size_3 12 rfl rfl)
theorem dX1_size_87 : decode cX1_size 87 = .ok (.getfield 183, 3) := dk_180 0 183 (dk_at dksX1_size_3 15 rfl rfl)
theorem dX1_size_90 : decode cX1_size 90 = .ok (.invokeinterface 177 1, 5) := by decide +kernel
theorem dX1_size_95 : decode cX1_size 95 = .ok (.goto 51, 3) := dk_167 0 51 (dk_at dksX1_size_4 0 rfl rfl)
theorem dX1_size_98 : decode cX1_size 98 = .ok (.aload_n 0, 1) := dk_42 (dk_at dksX1_size_4 3 rfl rfl)
theorem dX1_size_99 : decode cX1_size 99 = .ok (.getfield 52, 3) := dk_180 0 52 (dk_at dksX1_size_4 4 rfl rfl)
theorem dX1_size_102 : decode cX1_size 102 = .ok (.getfield 224, 3) := dk_180 0 224 (dk_at dksX1_size_4 7 rfl rfl)
theorem dX1_size_105 : decode cX1_size 105 = .ok (.goto 41, 3) := dk_167 0 41 (dk_at dksX1_size_4 10 rfl rfl)
theorem dX1_size_108 : decode cX1_size 108 = .ok (.aload_n 0, 1) := dk_42 (dk_at dksX1_size_4 13 rfl rfl)
theorem dX1_size_109 : decode cX1_size 109 = .ok (.getfield 52, 3) := dk_180 0 52 (dk_at dksX1_size_4 14 rfl rfl)
theorem dX1_size_112 : decode cX1_size 112 = .ok (.invokevirtual 227, 3) := dk_182 0 227 (dk_at dksX1_size_4 17 rfl rfl)
theorem dX1_size_115 : decode cX1_size 115 = .ok (.goto 31, 3) := dk_167 0 31 (dk_at dksX1_size_4 20 rfl rfl)
theorem dX1_size_118 : decode cX1_size 118 = .ok (.aload_n 0, 1) := dk_42 (dk_at dksX1_size_4 23 rfl rfl)
theorem dX1_size_119 : decode cX1_size 119 = .ok (.getfield 52, 3) := dk_180 0 52 (dk_at dksX1_size_5 0 rfl rfl)
theorem dX1_size_122 : decode cX1_size 122 = .ok (.invokevirtual 230, 3) := dk_182 0 230 (dk_at dksX1_size_5 3 rfl rfl)
theorem dX1_size_125 : decode cX1_size 125 = .ok (.goto 21, 3) := dk_167 0 21 (dk_at dksX1_size_5 6 rfl rfl)
theorem dX1_size_128 : decode cX1_size 128 = .ok (.aload_n 0, 1) := dk_42 (dk_at dksX1_size_5 9 rfl rfl)
theorem dX1_size_129 : decode cX1_size 129 = .ok (.getfield 52, 3) := dk_180 0 52 (dk_at dksX1_size_5 10 rfl rfl)
theorem dX1_size_132 : decode cX1_size 132 = .ok (.invokevirtual 233, 3) := dk_182 0 233 (dk_at dksX1_size_5 13 rfl rfl)
theorem dX1_size_135 : decode cX1_size 135 = .ok (.goto 11, 3) := dk_167 0 11 (dk_at dksX1_size_5 16 rfl rfl)
theorem dX1_size_138 : decode cX1_size 138 = .ok (.new 7, 3) := dk_187 0 7 (dk_at dksX1_size_5 19 rfl rfl)
theorem dX1_size_141 : decode cX1_size 141 = .ok (.dup, 1) := dk_89 (dk_at dksX1_size_5 22 rfl rfl)
theorem dX1_size_142 : decode cX1_size 142 = .ok (.invokespecial 9, 3) := dk_183 0 9 (dk_at dksX1_size_6 0 rfl rfl)
theorem dX1_size_145 : decode cX1_size 145 = .ok (.athrow, 1) := dk_191 (dk_at dksX1_size_6 3 rfl rfl)
theorem dX1_size_146 : decode cX1_size 146 = .ok (.ireturn, 1) := dk_172 (dk_at dksX1_size_6 4 rfl rfl)
abbrev cX1_account : ByteArray := prog_1_method_21_code
def yX1_account : MethodName := ⟨RX1, "account", "(I)I"⟩
def dkwX1_account_2 : List UInt8 := [180, 0, 52, 180, 0, 239, 27, 6, 100, 46, 172]
abbrev dktX1_account_2 : List UInt8 := dkwX1_account_2 ++ []
def dkwX1_account_1 : List UInt8 := [160, 0, 10, 42, 180, 0, 132, 167, 0, 26, 27, 5, 160, 0, 10, 42, 180, 0, 236, 167, 0, 14, 42]
abbrev dktX1_account_1 : List UInt8 := dkwX1_account_1 ++ dktX1_account_2
def dkwX1_account_0 : List UInt8 := [27, 3, 8, 184, 0, 16, 184, 0, 189, 27, 154, 0, 10, 42, 180, 0, 125, 167, 0, 38, 27, 4]
abbrev dktX1_account_0 : List UInt8 := dkwX1_account_0 ++ dktX1_account_1
theorem dksX1_account_0 : cX1_account.data.toList.drop 0 = dktX1_account_0 := by decide +kernel
theorem dksX1_account_1 : cX1_account.data.toList.drop 22 = dktX1_account_1 := dk_seg dksX1_account_0 22 rfl rfl
theorem dksX1_account_2 : cX1_account.data.toList.drop 45 = dktX1_account_2 := dk_seg dksX1_account_1 23 rfl rfl
theorem dX1_account_0 : decode cX1_account 0 = .ok (.iload_n 1, 1) := dk_27 (dk_at dksX1_account_0 0 rfl rfl)
theorem dX1_account_1 : decode cX1_account 1 = .ok (.iconst 0, 1) := dk_3 (dk_at dksX1_account_0 1 rfl rfl)
theorem dX1_account_2 : decode cX1_account 2 = .ok (.iconst 5, 1) := dk_8 (dk_at dksX1_account_0 2 rfl rfl)
theorem dX1_account_3 : decode cX1_account 3 = .ok (.invokestatic 16, 3) := dk_184 0 16 (dk_at dksX1_account_0 3 rfl rfl)
theorem dX1_account_6 : decode cX1_account 6 = .ok (.invokestatic 189, 3) := dk_184 0 189 (dk_at dksX1_account_0 6 rfl rfl)
theorem dX1_account_9 : decode cX1_account 9 = .ok (.iload_n 1, 1) := dk_27 (dk_at dksX1_account_0 9 rfl rfl)
theorem dX1_account_10 : decode cX1_account 10 = .ok (.ifCond .ne 10, 3) := dk_154 0 10 (dk_at dksX1_account_0 10 rfl rfl)
theorem dX1_account_13 : decode cX1_account 13 = .ok (.aload_n 0, 1) := dk_42 (dk_at dksX1_account_0 13 rfl rfl)
theorem dX1_account_14 : decode cX1_account 14 = .ok (.getfield 125, 3) := dk_180 0 125 (dk_at dksX1_account_0 14 rfl rfl)
theorem dX1_account_17 : decode cX1_account 17 = .ok (.goto 38, 3) := dk_167 0 38 (dk_at dksX1_account_0 17 rfl rfl)
theorem dX1_account_20 : decode cX1_account 20 = .ok (.iload_n 1, 1) := dk_27 (dk_at dksX1_account_0 20 rfl rfl)
theorem dX1_account_21 : decode cX1_account 21 = .ok (.iconst 1, 1) := dk_4 (dk_at dksX1_account_0 21 rfl rfl)
theorem dX1_account_22 : decode cX1_account 22 = .ok (.if_icmp .ne 10, 3) := dk_160 0 10 (dk_at dksX1_account_1 0 rfl rfl)
theorem dX1_account_25 : decode cX1_account 25 = .ok (.aload_n 0, 1) := dk_42 (dk_at dksX1_account_1 3 rfl rfl)
theorem dX1_account_26 : decode cX1_account 26 = .ok (.getfield 132, 3) := dk_180 0 132 (dk_at dksX1_account_1 4 rfl rfl)
theorem dX1_account_29 : decode cX1_account 29 = .ok (.goto 26, 3) := dk_167 0 26 (dk_at dksX1_account_1 7 rfl rfl)
theorem dX1_account_32 : decode cX1_account 32 = .ok (.iload_n 1, 1) := dk_27 (dk_at dksX1_account_1 10 rfl rfl)
theorem dX1_account_33 : decode cX1_account 33 = .ok (.iconst 2, 1) := dk_5 (dk_at dksX1_account_1 11 rfl rfl)
theorem dX1_account_34 : decode cX1_account 34 = .ok (.if_icmp .ne 10, 3) := dk_160 0 10 (dk_at dksX1_account_1 12 rfl rfl)
theorem dX1_account_37 : decode cX1_account 37 = .ok (.aload_n 0, 1) := dk_42 (dk_at dksX1_account_1 15 rfl rfl)
theorem dX1_account_38 : decode cX1_account 38 = .ok (.getfield 236, 3) := dk_180 0 236 (dk_at dksX1_account_1 16 rfl rfl)
theorem dX1_account_41 : decode cX1_account 41 = .ok (.goto 14, 3) := dk_167 0 14 (dk_at dksX1_account_1 19 rfl rfl)
theorem dX1_account_44 : decode cX1_account 44 = .ok (.aload_n 0, 1) := dk_42 (dk_at dksX1_account_1 22 rfl rfl)
theorem dX1_account_45 : decode cX1_account 45 = .ok (.getfield 52, 3) := dk_180 0 52 (dk_at dksX1_account_2 0 rfl rfl)
theorem dX1_account_48 : decode cX1_account 48 = .ok (.getfield 239, 3) := dk_180 0 239 (dk_at dksX1_account_2 3 rfl rfl)
theorem dX1_account_51 : decode cX1_account 51 = .ok (.iload_n 1, 1) := dk_27 (dk_at dksX1_account_2 6 rfl rfl)
theorem dX1_account_52 : decode cX1_account 52 = .ok (.iconst 3, 1) := dk_6 (dk_at dksX1_account_2 7 rfl rfl)
theorem dX1_account_53 : decode cX1_account 53 = .ok (.isub, 1) := dk_100 (dk_at dksX1_account_2 8 rfl rfl)
theorem dX1_account_54 : decode cX1_account 54 = .ok (.iaload, 1) := dk_46 (dk_at dksX1_account_2 9 rfl rfl)
theorem dX1_account_55 : decode cX1_account 55 = .ok (.ireturn, 1) := dk_172 (dk_at dksX1_account_2 10 rfl rfl)
abbrev cX1_mark : ByteArray := prog_1_method_23_code
def yX1_mark : MethodName := ⟨RX1, "mark", "(II)I"⟩
def dkwX1_mark_4 : List UInt8 := [182, 0, 250, 167, 0, 18, 45, 182, 0, 253, 167, 0, 11, 187, 0, 7, 89, 183, 0, 9, 191, 172]
abbrev dktX1_mark_4 : List UInt8 := dkwX1_mark_4 ++ []
def dkwX1_mark_3 : List UInt8 := [167, 0, 44, 45, 180, 0, 174, 185, 0, 177, 1, 0, 167, 0, 32, 42, 180, 0, 52, 45, 180, 0, 246]
abbrev dktX1_mark_3 : List UInt8 := dkwX1_mark_3 ++ dktX1_mark_4
def dkwX1_mark_2 : List UInt8 := [42, 180, 0, 52, 27, 182, 0, 153, 167, 0, 58, 45, 180, 0, 246, 167, 0, 51, 45, 180, 0, 247]
abbrev dktX1_mark_2 : List UInt8 := dkwX1_mark_2 ++ dktX1_mark_3
def dkwX1_mark_1 : List UInt8 := [170, 0, 0, 0, 95, 0, 0, 0, 0, 0, 0, 0, 5, 0, 0, 0, 37, 0, 0, 0, 48, 0, 0, 0, 55, 0, 0, 0, 62, 0, 0, 0, 74, 0, 0, 0, 88]
abbrev dktX1_mark_1 : List UInt8 := dkwX1_mark_1 ++ dktX1_mark_2
def dkwX1_mark_0 : List UInt8 := [42, 27, 182, 0, 170, 78, 28]
abbrev dktX1_mark_0 : List UInt8 := dkwX1_mark_0 ++ dktX1_mark_1
theorem dksX1_mark_0 : cX1_mark.data.toList.drop 0 = dktX1_mark_0 := by decide +kernel
theorem dksX1_mark_1 : cX1_mark.data.toList.drop 7 = dktX1_mark_1 := dk_seg dksX1_mark_0 7 rfl rfl
theorem dksX1_mark_2 : cX1_mark.data.toList.drop 44 = dktX1_mark_2 := dk_seg dksX1_mark_1 37 rfl rfl
theorem dksX1_mark_3 : cX1_mark.data.toList.drop 66 = dktX1_mark_3 := dk_seg dksX1_mark_2 22 rfl rfl
theorem dksX1_mark_4 : cX1_mark.data.toList.drop 89 = dktX1_mark_4 := dk_seg dksX1_mark_3 23 rfl rfl
theorem dX1_mark_0 : decode cX1_mark 0 = .ok (.aload_n 0, 1) := dk_42 (dk_at dksX1_mark_0 0 rfl rfl)
theorem dX1_mark_1 : decode cX1_mark 1 = .ok (.iload_n 1, 1) := dk_27 (dk_at dksX1_mark_0 1 rfl rfl)
theorem dX1_mark_2 : decode cX1_mark 2 = .ok (.invokevirtual 170, 3) := dk_182 0 170 (dk_at dksX1_mark_0 2 rfl rfl)
theorem dX1_mark_5 : decode cX1_mark 5 = .ok (.astore_n 3, 1) := dk_78 (dk_at dksX1_mark_0 5 rfl rfl)
theorem dX1_mark_6 : decode cX1_mark 6 = .ok (.iload_n 2, 1) := dk_28 (dk_at dksX1_mark_0 6 rfl rfl)
theorem dX1_mark_7 : decode cX1_mark 7 = .ok (.tableswitch 95 0 5 #[37, 48, 55, 62, 74, 88], 37) := by decide +kernel
theorem dX1_mark_44 : decode cX1_mark 44 = .ok (.aload_n 0, 1) := dk_42 (dk_at dksX1_mark_2 0 rfl rfl)
theorem dX1_mark_45 : decode cX1_mark 45 = .ok (.getfield 52, 3) := dk_180 0 52 (dk_at dksX1_mark_2 1 rfl rfl)
theorem dX1_mark_48 : decode cX1_mark 48 = .ok (.iload_n 1, 1) := dk_27 (dk_at dksX1_mark_2 4 rfl rfl)
theorem dX1_mark_49 : decode cX1_mark 49 = .ok (.invokevirtual 153, 3) := dk_182 0 153 (dk_at dksX1_mark_2 5 rfl rfl)
theorem dX1_mark_52 : decode cX1_mark 52 = .ok (.goto 58, 3) := dk_167 0 58 (dk_at dksX1_mark_2 8 rfl rfl)
theorem dX1_mark_55 : decode cX1_mark 55 = .ok (.aload_n 3, 1) := dk_45 (dk_at dksX1_mark_2 11 rfl rfl)
theorem dX1_mark_56 : decode cX1_mark 56 = .ok (.getfield 246, 3) := dk_180 0 246 (dk_at dksX1_mark_2 12 rfl rfl)
theorem dX1_mark_59 : decode cX1_mark 59 = .ok (.goto 51, 3) := dk_167 0 51 (dk_at dksX1_mark_2 15 rfl rfl)
theorem dX1_mark_62 : decode cX1_mark 62 = .ok (.aload_n 3, 1) := dk_45 (dk_at dksX1_mark_2 18 rfl rfl)
theorem dX1_mark_63 : decode cX1_mark 63 = .ok (.getfield 247, 3) := dk_180 0 247 (dk_at dksX1_mark_2 19 rfl rfl)
theorem dX1_mark_66 : decode cX1_mark 66 = .ok (.goto 44, 3) := dk_167 0 44 (dk_at dksX1_mark_3 0 rfl rfl)
theorem dX1_mark_69 : decode cX1_mark 69 = .ok (.aload_n 3, 1) := dk_45 (dk_at dksX1_mark_3 3 rfl rfl)
theorem dX1_mark_70 : decode cX1_mark 70 = .ok (.getfield 174, 3) := dk_180 0 174 (dk_at dksX1_mark_3 4 rfl rfl)
theorem dX1_mark_73 : decode cX1_mark 73 = .ok (.invokeinterface 177 1, 5) := by decide +kernel
theorem dX1_mark_78 : decode cX1_mark 78 = .ok (.goto 32, 3) := dk_167 0 32 (dk_at dksX1_mark_3 12 rfl rfl)
theorem dX1_mark_81 : decode cX1_mark 81 = .ok (.aload_n 0, 1) := dk_42 (dk_at dksX1_mark_3 15 rfl rfl)
theorem dX1_mark_82 : decode cX1_mark 82 = .ok (.getfield 52, 3) := dk_180 0 52 (dk_at dksX1_mark_3 16 rfl rfl)
theorem dX1_mark_85 : decode cX1_mark 85 = .ok (.aload_n 3, 1) := dk_45 (dk_at dksX1_mark_3 19 rfl rfl)
theorem dX1_mark_86 : decode cX1_mark 86 = .ok (.getfield 246, 3) := dk_180 0 246 (dk_at dksX1_mark_3 20 rfl rfl)
theorem dX1_mark_89 : decode cX1_mark 89 = .ok (.invokevirtual 250, 3) := dk_182 0 250 (dk_at dksX1_mark_4 0 rfl rfl)
theorem dX1_mark_92 : decode cX1_mark 92 = .ok (.goto 18, 3) := dk_167 0 18 (dk_at dksX1_mark_4 3 rfl rfl)
theorem dX1_mark_95 : decode cX1_mark 95 = .ok (.aload_n 3, 1) := dk_45 (dk_at dksX1_mark_4 6 rfl rfl)
theorem dX1_mark_96 : decode cX1_mark 96 = .ok (.invokevirtual 253, 3) := dk_182 0 253 (dk_at dksX1_mark_4 7 rfl rfl)
theorem dX1_mark_99 : decode cX1_mark 99 = .ok (.goto 11, 3) := dk_167 0 11 (dk_at dksX1_mark_4 10 rfl rfl)
theorem dX1_mark_102 : decode cX1_mark 102 = .ok (.new 7, 3) := dk_187 0 7 (dk_at dksX1_mark_4 13 rfl rfl)
theorem dX1_mark_105 : decode cX1_mark 105 = .ok (.dup, 1) := dk_89 (dk_at dksX1_mark_4 16 rfl rfl)
theorem dX1_mark_106 : decode cX1_mark 106 = .ok (.invokespecial 9, 3) := dk_183 0 9 (dk_at dksX1_mark_4 17 rfl rfl)
theorem dX1_mark_109 : decode cX1_mark 109 = .ok (.athrow, 1) := dk_191 (dk_at dksX1_mark_4 20 rfl rfl)
theorem dX1_mark_110 : decode cX1_mark 110 = .ok (.ireturn, 1) := dk_172 (dk_at dksX1_mark_4 21 rfl rfl)
abbrev cX1_requireMark : ByteArray := prog_1_method_11_code
def yX1_requireMark : MethodName := ⟨RX1, "requireMark", "(I)LSpokenMarks$Mark;"⟩
def dkwX1_requireMark_1 : List UInt8 := [180, 0, 52, 180, 0, 160, 28, 185, 0, 164, 2, 0, 192, 0, 168, 176]
abbrev dktX1_requireMark_1 : List UInt8 := dkwX1_requireMark_1 ++ []
def dkwX1_requireMark_0 : List UInt8 := [42, 180, 0, 52, 27, 182, 0, 153, 61, 28, 2, 159, 0, 7, 4, 167, 0, 4, 3, 184, 0, 156, 42]
abbrev dktX1_requireMark_0 : List UInt8 := dkwX1_requireMark_0 ++ dktX1_requireMark_1
theorem dksX1_requireMark_0 : cX1_requireMark.data.toList.drop 0 = dktX1_requireMark_0 := by decide +kernel
theorem dksX1_requireMark_1 : cX1_requireMark.data.toList.drop 23 = dktX1_requireMark_1 := dk_seg dksX1_requireMark_0 23 rfl rfl
theorem dX1_requireMark_0 : decode cX1_requireMark 0 = .ok (.aload_n 0, 1) := dk_42 (dk_at dksX1_requireMark_0 0 rfl rfl)
theorem dX1_requireMark_1 : decode cX1_requireMark 1 = .ok (.getfield 52, 3) := dk_180 0 52 (dk_at dksX1_requireMark_0 1 rfl rfl)
theorem dX1_requireMark_4 : decode cX1_requireMark 4 = .ok (.iload_n 1, 1) := dk_27 (dk_at dksX1_requireMark_0 4 rfl rfl)
theorem dX1_requireMark_5 : decode cX1_requireMark 5 = .ok (.invokevirtual 153, 3) := dk_182 0 153 (dk_at dksX1_requireMark_0 5 rfl rfl)
theorem dX1_requireMark_8 : decode cX1_requireMark 8 = .ok (.istore_n 2, 1) := dk_61 (dk_at dksX1_requireMark_0 8 rfl rfl)
theorem dX1_requireMark_9 : decode cX1_requireMark 9 = .ok (.iload_n 2, 1) := dk_28 (dk_at dksX1_requireMark_0 9 rfl rfl)
theorem dX1_requireMark_10 : decode cX1_requireMark 10 = .ok (.iconst (-1), 1) := dk_2 (dk_at dksX1_requireMark_0 10 rfl rfl)
theorem dX1_requireMark_11 : decode cX1_requireMark 11 = .ok (.if_icmp .eq 7, 3) := dk_159 0 7 (dk_at dksX1_requireMark_0 11 rfl rfl)
theorem dX1_requireMark_14 : decode cX1_requireMark 14 = .ok (.iconst 1, 1) := dk_4 (dk_at dksX1_requireMark_0 14 rfl rfl)
theorem dX1_requireMark_15 : decode cX1_requireMark 15 = .ok (.goto 4, 3) := dk_167 0 4 (dk_at dksX1_requireMark_0 15 rfl rfl)
theorem dX1_requireMark_18 : decode cX1_requireMark 18 = .ok (.iconst 0, 1) := dk_3 (dk_at dksX1_requireMark_0 18 rfl rfl)
theorem dX1_requireMark_19 : decode cX1_requireMark 19 = .ok (.invokestatic 156, 3) := dk_184 0 156 (dk_at dksX1_requireMark_0 19 rfl rfl)
theorem dX1_requireMark_22 : decode cX1_requireMark 22 = .ok (.aload_n 0, 1) := dk_42 (dk_at dksX1_requireMark_0 22 rfl rfl)
theorem dX1_requireMark_23 : decode cX1_requireMark 23 = .ok (.getfield 52, 3) := dk_180 0 52 (dk_at dksX1_requireMark_1 0 rfl rfl)
theorem dX1_requireMark_26 : decode cX1_requireMark 26 = .ok (.getfield 160, 3) := dk_180 0 160 (dk_at dksX1_requireMark_1 3 rfl rfl)
theorem dX1_requireMark_29 : decode cX1_requireMark 29 = .ok (.iload_n 2, 1) := dk_28 (dk_at dksX1_requireMark_1 6 rfl rfl)
theorem dX1_requireMark_30 : decode cX1_requireMark 30 = .ok (.invokeinterface 164 2, 5) := by decide +kernel
theorem dX1_requireMark_35 : decode cX1_requireMark 35 = .ok (.checkcast 168, 3) := dk_192 0 168 (dk_at dksX1_requireMark_1 12 rfl rfl)
theorem dX1_requireMark_38 : decode cX1_requireMark 38 = .ok (.areturn, 1) := dk_176 (dk_at dksX1_requireMark_1 15 rfl rfl)
abbrev cX1_requireExists : ByteArray := prog_1_method_3_code
def yX1_requireExists : MethodName := ⟨RX1, "requireExists", "(Z)V"⟩
def dkwX1_requireExists_0 : List UInt8 := [26, 154, 0, 11, 187, 0, 1, 89, 183, 0, 3, 191, 177]
abbrev dktX1_requireExists_0 : List UInt8 := dkwX1_requireExists_0 ++ []
theorem dksX1_requireExists_0 : cX1_requireExists.data.toList.drop 0 = dktX1_requireExists_0 := by decide +kernel
theorem dX1_requireExists_0 : decode cX1_requireExists 0 = .ok (.iload_n 0, 1) := dk_26 (dk_at dksX1_requireExists_0 0 rfl rfl)
theorem dX1_requireExists_1 : decode cX1_requireExists 1 = .ok (.ifCond .ne 11, 3) := dk_154 0 11 (dk_at dksX1_requireExists_0 1 rfl rfl)
theorem dX1_requireExists_4 : decode cX1_requireExists 4 = .ok (.new 1, 3) := dk_187 0 1 (dk_at dksX1_requireExists_0 4 rfl rfl)
theorem dX1_requireExists_7 : decode cX1_requireExists 7 = .ok (.dup, 1) := dk_89 (dk_at dksX1_requireExists_0 7 rfl rfl)
theorem dX1_requireExists_8 : decode cX1_requireExists 8 = .ok (.invokespecial 3, 3) := dk_183 0 3 (dk_at dksX1_requireExists_0 8 rfl rfl)
theorem dX1_requireExists_11 : decode cX1_requireExists 11 = .ok (.athrow, 1) := dk_191 (dk_at dksX1_requireExists_0 11 rfl rfl)
theorem dX1_requireExists_12 : decode cX1_requireExists 12 = .ok (.return_, 1) := dk_177 (dk_at dksX1_requireExists_0 12 rfl rfl)
abbrev cX1_number : ByteArray := prog_1_method_24_code
def yX1_number : MethodName := ⟨RX1, "number", "(II)I"⟩
def dkwX1_number_1 : List UInt8 := [180, 1, 4, 167, 0, 4, 2, 172]
abbrev dktX1_number_1 : List UInt8 := dkwX1_number_1 ++ []
def dkwX1_number_0 : List UInt8 := [42, 27, 28, 182, 1, 0, 58, 4, 25, 4, 193, 0, 104, 153, 0, 16, 25, 4, 192, 0, 104, 78, 45]
abbrev dktX1_number_0 : List UInt8 := dkwX1_number_0 ++ dktX1_number_1
theorem dksX1_number_0 : cX1_number.data.toList.drop 0 = dktX1_number_0 := by decide +kernel
theorem dksX1_number_1 : cX1_number.data.toList.drop 23 = dktX1_number_1 := dk_seg dksX1_number_0 23 rfl rfl
theorem dX1_number_0 : decode cX1_number 0 = .ok (.aload_n 0, 1) := dk_42 (dk_at dksX1_number_0 0 rfl rfl)
theorem dX1_number_1 : decode cX1_number 1 = .ok (.iload_n 1, 1) := dk_27 (dk_at dksX1_number_0 1 rfl rfl)
theorem dX1_number_2 : decode cX1_number 2 = .ok (.iload_n 2, 1) := dk_28 (dk_at dksX1_number_0 2 rfl rfl)
theorem dX1_number_3 : decode cX1_number 3 = .ok (.invokevirtual 256, 3) := dk_182 1 0 (dk_at dksX1_number_0 3 rfl rfl)
theorem dX1_number_6 : decode cX1_number 6 = .ok (.astore 4, 2) := dk_58 4 (dk_at dksX1_number_0 6 rfl rfl)
theorem dX1_number_8 : decode cX1_number 8 = .ok (.aload 4, 2) := dk_25 4 (dk_at dksX1_number_0 8 rfl rfl)
theorem dX1_number_10 : decode cX1_number 10 = .ok (.instanceof 104, 3) := dk_193 0 104 (dk_at dksX1_number_0 10 rfl rfl)
theorem dX1_number_13 : decode cX1_number 13 = .ok (.ifCond .eq 16, 3) := dk_153 0 16 (dk_at dksX1_number_0 13 rfl rfl)
theorem dX1_number_16 : decode cX1_number 16 = .ok (.aload 4, 2) := dk_25 4 (dk_at dksX1_number_0 16 rfl rfl)
theorem dX1_number_18 : decode cX1_number 18 = .ok (.checkcast 104, 3) := dk_192 0 104 (dk_at dksX1_number_0 18 rfl rfl)
theorem dX1_number_21 : decode cX1_number 21 = .ok (.astore_n 3, 1) := dk_78 (dk_at dksX1_number_0 21 rfl rfl)
theorem dX1_number_22 : decode cX1_number 22 = .ok (.aload_n 3, 1) := dk_45 (dk_at dksX1_number_0 22 rfl rfl)
theorem dX1_number_23 : decode cX1_number 23 = .ok (.getfield 260, 3) := dk_180 1 4 (dk_at dksX1_number_1 0 rfl rfl)
theorem dX1_number_26 : decode cX1_number 26 = .ok (.goto 4, 3) := dk_167 0 4 (dk_at dksX1_number_1 3 rfl rfl)
theorem dX1_number_29 : decode cX1_number 29 = .ok (.iconst (-1), 1) := dk_2 (dk_at dksX1_number_1 6 rfl rfl)
theorem dX1_number_30 : decode cX1_number 30 = .ok (.ireturn, 1) := dk_172 (dk_at dksX1_number_1 7 rfl rfl)
abbrev cX1_requirePart : ByteArray := prog_1_method_12_code
def yX1_requirePart : MethodName := ⟨RX1, "requirePart", "(II)LSpokenMarks$Part;"⟩
def dkwX1_requirePart_1 : List UInt8 := [184, 0, 156, 45, 180, 0, 174, 28, 185, 0, 164, 2, 0, 192, 0, 178, 176]
abbrev dktX1_requirePart_1 : List UInt8 := dkwX1_requirePart_1 ++ []
def dkwX1_requirePart_0 : List UInt8 := [42, 27, 182, 0, 170, 78, 28, 3, 45, 180, 0, 174, 185, 0, 177, 1, 0, 4, 100, 184, 0, 16]
abbrev dktX1_requirePart_0 : List UInt8 := dkwX1_requirePart_0 ++ dktX1_requirePart_1
theorem dksX1_requirePart_0 : cX1_requirePart.data.toList.drop 0 = dktX1_requirePart_0 := by decide +kernel
theorem dksX1_requirePart_1 : cX1_requirePart.data.toList.drop 22 = dktX1_requirePart_1 := dk_seg dksX1_requirePart_0 22 rfl rfl
theorem dX1_requirePart_0 : decode cX1_requirePart 0 = .ok (.aload_n 0, 1) := dk_42 (dk_at dksX1_requirePart_0 0 rfl rfl)
theorem dX1_requirePart_1 : decode cX1_requirePart 1 = .ok (.iload_n 1, 1) := dk_27 (dk_at dksX1_requirePart_0 1 rfl rfl)
theorem dX1_requirePart_2 : decode cX1_requirePart 2 = .ok (.invokevirtual 170, 3) := dk_182 0 170 (dk_at dksX1_requirePart_0 2 rfl rfl)
theorem dX1_requirePart_5 : decode cX1_requirePart 5 = .ok (.astore_n 3, 1) := dk_78 (dk_at dksX1_requirePart_0 5 rfl rfl)
theorem dX1_requirePart_6 : decode cX1_requirePart 6 = .ok (.iload_n 2, 1) := dk_28 (dk_at dksX1_requirePart_0 6 rfl rfl)
theorem dX1_requirePart_7 : decode cX1_requirePart 7 = .ok (.iconst 0, 1) := dk_3 (dk_at dksX1_requirePart_0 7 rfl rfl)
theorem dX1_requirePart_8 : decode cX1_requirePart 8 = .ok (.aload_n 3, 1) := dk_45 (dk_at dksX1_requirePart_0 8 rfl rfl)
theorem dX1_requirePart_9 : decode cX1_requirePart 9 = .ok (.getfield 174, 3) := dk_180 0 174 (dk_at dksX1_requirePart_0 9 rfl rfl)
theorem dX1_requirePart_12 : decode cX1_requirePart 12 = .ok (.invokeinterface 177 1, 5) := by decide +kernel
theorem dX1_requirePart_17 : decode cX1_requirePart 17 = .ok (.iconst 1, 1) := dk_4 (dk_at dksX1_requirePart_0 17 rfl rfl)
theorem dX1_requirePart_18 : decode cX1_requirePart 18 = .ok (.isub, 1) := dk_100 (dk_at dksX1_requirePart_0 18 rfl rfl)
theorem dX1_requirePart_19 : decode cX1_requirePart 19 = .ok (.invokestatic 16, 3) := dk_184 0 16 (dk_at dksX1_requirePart_0 19 rfl rfl)
theorem dX1_requirePart_22 : decode cX1_requirePart 22 = .ok (.invokestatic 156, 3) := dk_184 0 156 (dk_at dksX1_requirePart_1 0 rfl rfl)
theorem dX1_requirePart_25 : decode cX1_requirePart 25 = .ok (.aload_n 3, 1) := dk_45 (dk_at dksX1_requirePart_1 3 rfl rfl)
theorem dX1_requirePart_26 : decode cX1_requirePart 26 = .ok (.getfield 174, 3) := dk_180 0 174 (dk_at dksX1_requirePart_1 4 rfl rfl)
theorem dX1_requirePart_29 : decode cX1_requirePart 29 = .ok (.iload_n 2, 1) := dk_28 (dk_at dksX1_requirePart_1 7 rfl rfl)
theorem dX1_requirePart_30 : decode cX1_requirePart 30 = .ok (.invokeinterface 164 2, 5) := by decide +kernel
theorem dX1_requirePart_35 : decode cX1_requirePart 35 = .ok (.checkcast 178, 3) := dk_192 0 178 (dk_at dksX1_requirePart_1 13 rfl rfl)
theorem dX1_requirePart_38 : decode cX1_requirePart 38 = .ok (.areturn, 1) := dk_176 (dk_at dksX1_requirePart_1 16 rfl rfl)
abbrev cX1_letter : ByteArray := prog_1_method_25_code
def yX1_letter : MethodName := ⟨RX1, "letter", "(IIZI)I"⟩
def dkwX1_letter_2 : List UInt8 := [2, 172]
abbrev dktX1_letter_2 : List UInt8 := dkwX1_letter_2 ++ []
def dkwX1_letter_1 : List UInt8 := [153, 0, 11, 25, 5, 180, 1, 9, 167, 0, 8, 25, 5, 180, 1, 12, 21, 4, 184, 1, 15, 167, 0, 4]
abbrev dktX1_letter_1 : List UInt8 := dkwX1_letter_1 ++ dktX1_letter_2
def dkwX1_letter_0 : List UInt8 := [42, 27, 28, 182, 1, 0, 58, 6, 25, 6, 193, 1, 7, 153, 0, 35, 25, 6, 192, 1, 7, 58, 5, 29]
abbrev dktX1_letter_0 : List UInt8 := dkwX1_letter_0 ++ dktX1_letter_1
theorem dksX1_letter_0 : cX1_letter.data.toList.drop 0 = dktX1_letter_0 := by decide +kernel
theorem dksX1_letter_1 : cX1_letter.data.toList.drop 24 = dktX1_letter_1 := dk_seg dksX1_letter_0 24 rfl rfl
theorem dksX1_letter_2 : cX1_letter.data.toList.drop 48 = dktX1_letter_2 := dk_seg dksX1_letter_1 24 rfl rfl
theorem dX1_letter_0 : decode cX1_letter 0 = .ok (.aload_n 0, 1) := dk_42 (dk_at dksX1_letter_0 0 rfl rfl)
theorem dX1_letter_1 : decode cX1_letter 1 = .ok (.iload_n 1, 1) := dk_27 (dk_at dksX1_letter_0 1 rfl rfl)
theorem dX1_letter_2 : decode cX1_letter 2 = .ok (.iload_n 2, 1) := dk_28 (dk_at dksX1_letter_0 2 rfl rfl)
theorem dX1_letter_3 : decode cX1_letter 3 = .ok (.invokevirtual 256, 3) := dk_182 1 0 (dk_at dksX1_letter_0 3 rfl rfl)
theorem dX1_letter_6 : decode cX1_letter 6 = .ok (.astore 6, 2) := dk_58 6 (dk_at dksX1_letter_0 6 rfl rfl)
theorem dX1_letter_8 : decode cX1_letter 8 = .ok (.aload 6, 2) := dk_25 6 (dk_at dksX1_letter_0 8 rfl rfl)
theorem dX1_letter_10 : decode cX1_letter 10 = .ok (.instanceof 263, 3) := dk_193 1 7 (dk_at dksX1_letter_0 10 rfl rfl)
theorem dX1_letter_13 : decode cX1_letter 13 = .ok (.ifCond .eq 35, 3) := dk_153 0 35 (dk_at dksX1_letter_0 13 rfl rfl)
theorem dX1_letter_16 : decode cX1_letter 16 = .ok (.aload 6, 2) := dk_25 6 (dk_at dksX1_letter_0 16 rfl rfl)
theorem dX1_letter_18 : decode cX1_letter 18 = .ok (.checkcast 263, 3) := dk_192 1 7 (dk_at dksX1_letter_0 18 rfl rfl)
theorem dX1_letter_21 : decode cX1_letter 21 = .ok (.astore 5, 2) := dk_58 5 (dk_at dksX1_letter_0 21 rfl rfl)
theorem dX1_letter_23 : decode cX1_letter 23 = .ok (.iload_n 3, 1) := dk_29 (dk_at dksX1_letter_0 23 rfl rfl)
theorem dX1_letter_24 : decode cX1_letter 24 = .ok (.ifCond .eq 11, 3) := dk_153 0 11 (dk_at dksX1_letter_1 0 rfl rfl)
theorem dX1_letter_27 : decode cX1_letter 27 = .ok (.aload 5, 2) := dk_25 5 (dk_at dksX1_letter_1 3 rfl rfl)
theorem dX1_letter_29 : decode cX1_letter 29 = .ok (.getfield 265, 3) := dk_180 1 9 (dk_at dksX1_letter_1 5 rfl rfl)
theorem dX1_letter_32 : decode cX1_letter 32 = .ok (.goto 8, 3) := dk_167 0 8 (dk_at dksX1_letter_1 8 rfl rfl)
theorem dX1_letter_35 : decode cX1_letter 35 = .ok (.aload 5, 2) := dk_25 5 (dk_at dksX1_letter_1 11 rfl rfl)
theorem dX1_letter_37 : decode cX1_letter 37 = .ok (.getfield 268, 3) := dk_180 1 12 (dk_at dksX1_letter_1 13 rfl rfl)
theorem dX1_letter_40 : decode cX1_letter 40 = .ok (.iload 4, 2) := dk_21 4 (dk_at dksX1_letter_1 16 rfl rfl)
theorem dX1_letter_42 : decode cX1_letter 42 = .ok (.invokestatic 271, 3) := dk_184 1 15 (dk_at dksX1_letter_1 18 rfl rfl)
theorem dX1_letter_45 : decode cX1_letter 45 = .ok (.goto 4, 3) := dk_167 0 4 (dk_at dksX1_letter_1 21 rfl rfl)
theorem dX1_letter_48 : decode cX1_letter 48 = .ok (.iconst (-1), 1) := dk_2 (dk_at dksX1_letter_2 0 rfl rfl)
theorem dX1_letter_49 : decode cX1_letter 49 = .ok (.ireturn, 1) := dk_172 (dk_at dksX1_letter_2 1 rfl rfl)
abbrev cX1_letterAt : ByteArray := prog_1_method_5_code
def yX1_letterAt : MethodName := ⟨RX1, "letterAt", "(Ljava/lang/String;I)I"⟩
def dkwX1_letterAt_0 : List UInt8 := [27, 3, 42, 182, 0, 10, 4, 100, 184, 0, 16, 153, 0, 11, 42, 27, 182, 0, 22, 167, 0, 4, 2, 172]
abbrev dktX1_letterAt_0 : List UInt8 := dkwX1_letterAt_0 ++ []
theorem dksX1_letterAt_0 : cX1_letterAt.data.toList.drop 0 = dktX1_letterAt_0 := by decide +kernel
theorem dX1_letterAt_0 : decode cX1_letterAt 0 = .ok (.iload_n 1, 1) := dk_27 (dk_at dksX1_letterAt_0 0 rfl rfl)
theorem dX1_letterAt_1 : decode cX1_letterAt 1 = .ok (.iconst 0, 1) := dk_3 (dk_at dksX1_letterAt_0 1 rfl rfl)
theorem dX1_letterAt_2 : decode cX1_letterAt 2 = .ok (.aload_n 0, 1) := dk_42 (dk_at dksX1_letterAt_0 2 rfl rfl)
theorem dX1_letterAt_3 : decode cX1_letterAt 3 = .ok (.invokevirtual 10, 3) := dk_182 0 10 (dk_at dksX1_letterAt_0 3 rfl rfl)
theorem dX1_letterAt_6 : decode cX1_letterAt 6 = .ok (.iconst 1, 1) := dk_4 (dk_at dksX1_letterAt_0 6 rfl rfl)
theorem dX1_letterAt_7 : decode cX1_letterAt 7 = .ok (.isub, 1) := dk_100 (dk_at dksX1_letterAt_0 7 rfl rfl)
theorem dX1_letterAt_8 : decode cX1_letterAt 8 = .ok (.invokestatic 16, 3) := dk_184 0 16 (dk_at dksX1_letterAt_0 8 rfl rfl)
theorem dX1_letterAt_11 : decode cX1_letterAt 11 = .ok (.ifCond .eq 11, 3) := dk_153 0 11 (dk_at dksX1_letterAt_0 11 rfl rfl)
theorem dX1_letterAt_14 : decode cX1_letterAt 14 = .ok (.aload_n 0, 1) := dk_42 (dk_at dksX1_letterAt_0 14 rfl rfl)
theorem dX1_letterAt_15 : decode cX1_letterAt 15 = .ok (.iload_n 1, 1) := dk_27 (dk_at dksX1_letterAt_0 15 rfl rfl)
theorem dX1_letterAt_16 : decode cX1_letterAt 16 = .ok (.invokevirtual 22, 3) := dk_182 0 22 (dk_at dksX1_letterAt_0 16 rfl rfl)
theorem dX1_letterAt_19 : decode cX1_letterAt 19 = .ok (.goto 4, 3) := dk_167 0 4 (dk_at dksX1_letterAt_0 19 rfl rfl)
theorem dX1_letterAt_22 : decode cX1_letterAt 22 = .ok (.iconst (-1), 1) := dk_2 (dk_at dksX1_letterAt_0 22 rfl rfl)
theorem dX1_letterAt_23 : decode cX1_letterAt 23 = .ok (.ireturn, 1) := dk_172 (dk_at dksX1_letterAt_0 23 rfl rfl)
abbrev cX1_ruleLetter : ByteArray := prog_1_method_26_code
def yX1_ruleLetter : MethodName := ⟨RX1, "ruleLetter", "(IZI)I"⟩
def dkwX1_ruleLetter_1 : List UInt8 := [153, 0, 11, 25, 4, 180, 1, 22, 167, 0, 8, 25, 4, 180, 1, 25, 29, 184, 1, 15, 172]
abbrev dktX1_ruleLetter_1 : List UInt8 := dkwX1_ruleLetter_1 ++ []
def dkwX1_ruleLetter_0 : List UInt8 := [42, 27, 182, 1, 19, 42, 180, 0, 52, 180, 0, 183, 27, 185, 0, 164, 2, 0, 192, 0, 62, 58, 4, 28]
abbrev dktX1_ruleLetter_0 : List UInt8 := dkwX1_ruleLetter_0 ++ dktX1_ruleLetter_1
theorem dksX1_ruleLetter_0 : cX1_ruleLetter.data.toList.drop 0 = dktX1_ruleLetter_0 := by decide +kernel
theorem dksX1_ruleLetter_1 : cX1_ruleLetter.data.toList.drop 24 = dktX1_ruleLetter_1 := dk_seg dksX1_ruleLetter_0 24 rfl rfl
theorem dX1_ruleLetter_0 : decode cX1_ruleLetter 0 = .ok (.aload_n 0, 1) := dk_42 (dk_at dksX1_ruleLetter_0 0 rfl rfl)
theorem dX1_ruleLetter_1 : decode cX1_ruleLetter 1 = .ok (.iload_n 1, 1) := dk_27 (dk_at dksX1_ruleLetter_0 1 rfl rfl)
theorem dX1_ruleLetter_2 : decode cX1_ruleLetter 2 = .ok (.invokevirtual 275, 3) := dk_182 1 19 (dk_at dksX1_ruleLetter_0 2 rfl rfl)
theorem dX1_ruleLetter_5 : decode cX1_ruleLetter 5 = .ok (.aload_n 0, 1) := dk_42 (dk_at dksX1_ruleLetter_0 5 rfl rfl)
theorem dX1_ruleLetter_6 : decode cX1_ruleLetter 6 = .ok (.getfield 52, 3) := dk_180 0 52 (dk_at dksX1_ruleLetter_0 6 rfl rfl)
theorem dX1_ruleLetter_9 : decode cX1_ruleLetter 9 = .ok (.getfield 183, 3) := dk_180 0 183 (dk_at dksX1_ruleLetter_0 9 rfl rfl)
theorem dX1_ruleLetter_12 : decode cX1_ruleLetter 12 = .ok (.iload_n 1, 1) := dk_27 (dk_at dksX1_ruleLetter_0 12 rfl rfl)
theorem dX1_ruleLetter_13 : decode cX1_ruleLetter 13 = .ok (.invokeinterface 164 2, 5) := by decide +kernel
theorem dX1_ruleLetter_18 : decode cX1_ruleLetter 18 = .ok (.checkcast 62, 3) := dk_192 0 62 (dk_at dksX1_ruleLetter_0 18 rfl rfl)
theorem dX1_ruleLetter_21 : decode cX1_ruleLetter 21 = .ok (.astore 4, 2) := dk_58 4 (dk_at dksX1_ruleLetter_0 21 rfl rfl)
theorem dX1_ruleLetter_23 : decode cX1_ruleLetter 23 = .ok (.iload_n 2, 1) := dk_28 (dk_at dksX1_ruleLetter_0 23 rfl rfl)
theorem dX1_ruleLetter_24 : decode cX1_ruleLetter 24 = .ok (.ifCond .eq 11, 3) := dk_153 0 11 (dk_at dksX1_ruleLetter_1 0 rfl rfl)
theorem dX1_ruleLetter_27 : decode cX1_ruleLetter 27 = .ok (.aload 4, 2) := dk_25 4 (dk_at dksX1_ruleLetter_1 3 rfl rfl)
theorem dX1_ruleLetter_29 : decode cX1_ruleLetter 29 = .ok (.getfield 278, 3) := dk_180 1 22 (dk_at dksX1_ruleLetter_1 5 rfl rfl)
theorem dX1_ruleLetter_32 : decode cX1_ruleLetter 32 = .ok (.goto 8, 3) := dk_167 0 8 (dk_at dksX1_ruleLetter_1 8 rfl rfl)
theorem dX1_ruleLetter_35 : decode cX1_ruleLetter 35 = .ok (.aload 4, 2) := dk_25 4 (dk_at dksX1_ruleLetter_1 11 rfl rfl)
theorem dX1_ruleLetter_37 : decode cX1_ruleLetter 37 = .ok (.getfield 281, 3) := dk_180 1 25 (dk_at dksX1_ruleLetter_1 13 rfl rfl)
theorem dX1_ruleLetter_40 : decode cX1_ruleLetter 40 = .ok (.iload_n 3, 1) := dk_29 (dk_at dksX1_ruleLetter_1 16 rfl rfl)
theorem dX1_ruleLetter_41 : decode cX1_ruleLetter 41 = .ok (.invokestatic 271, 3) := dk_184 1 15 (dk_at dksX1_ruleLetter_1 17 rfl rfl)
theorem dX1_ruleLetter_44 : decode cX1_ruleLetter 44 = .ok (.ireturn, 1) := dk_172 (dk_at dksX1_ruleLetter_1 20 rfl rfl)
abbrev cX1_requireRule : ByteArray := prog_1_method_14_code
def yX1_requireRule : MethodName := ⟨RX1, "requireRule", "(I)V"⟩
def dkwX1_requireRule_0 : List UInt8 := [27, 3, 42, 180, 0, 52, 180, 0, 183, 185, 0, 177, 1, 0, 4, 100, 184, 0, 16, 184, 0, 156, 177]
abbrev dktX1_requireRule_0 : List UInt8 := dkwX1_requireRule_0 ++ []
theorem dksX1_requireRule_0 : cX1_requireRule.data.toList.drop 0 = dktX1_requireRule_0 := by decide +kernel
theorem dX1_requireRule_0 : decode cX1_requireRule 0 = .ok (.iload_n 1, 1) := dk_27 (dk_at dksX1_requireRule_0 0 rfl rfl)
theorem dX1_requireRule_1 : decode cX1_requireRule 1 = .ok (.iconst 0, 1) := dk_3 (dk_at dksX1_requireRule_0 1 rfl rfl)
theorem dX1_requireRule_2 : decode cX1_requireRule 2 = .ok (.aload_n 0, 1) := dk_42 (dk_at dksX1_requireRule_0 2 rfl rfl)
theorem dX1_requireRule_3 : decode cX1_requireRule 3 = .ok (.getfield 52, 3) := dk_180 0 52 (dk_at dksX1_requireRule_0 3 rfl rfl)
theorem dX1_requireRule_6 : decode cX1_requireRule 6 = .ok (.getfield 183, 3) := dk_180 0 183 (dk_at dksX1_requireRule_0 6 rfl rfl)
theorem dX1_requireRule_9 : decode cX1_requireRule 9 = .ok (.invokeinterface 177 1, 5) := by decide +kernel
theorem dX1_requireRule_14 : decode cX1_requireRule 14 = .ok (.iconst 1, 1) := dk_4 (dk_at dksX1_requireRule_0 14 rfl rfl)
theorem dX1_requireRule_15 : decode cX1_requireRule 15 = .ok (.isub, 1) := dk_100 (dk_at dksX1_requireRule_0 15 rfl rfl)
theorem dX1_requireRule_16 : decode cX1_requireRule 16 = .ok (.invokestatic 16, 3) := dk_184 0 16 (dk_at dksX1_requireRule_0 16 rfl rfl)
theorem dX1_requireRule_19 : decode cX1_requireRule 19 = .ok (.invokestatic 156, 3) := dk_184 0 156 (dk_at dksX1_requireRule_0 19 rfl rfl)
theorem dX1_requireRule_22 : decode cX1_requireRule 22 = .ok (.return_, 1) := dk_177 (dk_at dksX1_requireRule_0 22 rfl rfl)
abbrev cX1_shelf : ByteArray := prog_1_method_27_code
def yX1_shelf : MethodName := ⟨RX1, "shelf", "(II)I"⟩
def dkwX1_shelf_5 : List UInt8 := [183, 0, 9, 191, 172]
abbrev dktX1_shelf_5 : List UInt8 := dkwX1_shelf_5 ++ []
def dkwX1_shelf_4 : List UInt8 := [180, 0, 52, 27, 28, 8, 160, 0, 7, 4, 167, 0, 4, 3, 182, 1, 43, 167, 0, 11, 187, 0, 7, 89]
abbrev dktX1_shelf_4 : List UInt8 := dkwX1_shelf_4 ++ dktX1_shelf_5
def dkwX1_shelf_3 : List UInt8 := [180, 0, 52, 27, 182, 1, 37, 167, 0, 43, 42, 180, 0, 52, 27, 182, 1, 40, 167, 0, 32, 42]
abbrev dktX1_shelf_3 : List UInt8 := dkwX1_shelf_3 ++ dktX1_shelf_4
def dkwX1_shelf_2 : List UInt8 := [42, 180, 0, 52, 180, 1, 31, 27, 46, 167, 0, 65, 42, 180, 0, 52, 27, 182, 1, 34, 167, 0, 54, 42]
abbrev dktX1_shelf_2 : List UInt8 := dkwX1_shelf_2 ++ dktX1_shelf_3
def dkwX1_shelf_1 : List UInt8 := [170, 0, 0, 0, 0, 104, 0, 0, 0, 0, 0, 0, 0, 5, 0, 0, 0, 38, 0, 0, 0, 50, 0, 0, 0, 61, 0, 0, 0, 72, 0, 0, 0, 83, 0, 0, 0, 83]
abbrev dktX1_shelf_1 : List UInt8 := dkwX1_shelf_1 ++ dktX1_shelf_2
def dkwX1_shelf_0 : List UInt8 := [42, 27, 182, 1, 28, 28]
abbrev dktX1_shelf_0 : List UInt8 := dkwX1_shelf_0 ++ dktX1_shelf_1
theorem dksX1_shelf_0 : cX1_shelf.data.toList.drop 0 = dktX1_shelf_0 := by decide +kernel
theorem dksX1_shelf_1 : cX1_shelf.data.toList.drop 6 = dktX1_shelf_1 := dk_seg dksX1_shelf_0 6 rfl rfl
theorem dksX1_shelf_2 : cX1_shelf.data.toList.drop 44 = dktX1_shelf_2 := dk_seg dksX1_shelf_1 38 rfl rfl
theorem dksX1_shelf_3 : cX1_shelf.data.toList.drop 68 = dktX1_shelf_3 := dk_seg dksX1_shelf_2 24 rfl rfl
theorem dksX1_shelf_4 : cX1_shelf.data.toList.drop 90 = dktX1_shelf_4 := dk_seg dksX1_shelf_3 22 rfl rfl
theorem dksX1_shelf_5 : cX1_shelf.data.toList.drop 114 = dktX1_shelf_5 := dk_seg dksX1_shelf_4 24 rfl rfl
theorem dX1_shelf_0 : decode cX1_shelf 0 = .ok (.aload_n 0, 1) := dk_42 (dk_at dksX1_shelf_0 0 rfl rfl)
theorem dX1_shelf_1 : decode cX1_shelf 1 = .ok (.iload_n 1, 1) := dk_27 (dk_at dksX1_shelf_0 1 rfl rfl)
theorem dX1_shelf_2 : decode cX1_shelf 2 = .ok (.invokevirtual 284, 3) := dk_182 1 28 (dk_at dksX1_shelf_0 2 rfl rfl)
theorem dX1_shelf_5 : decode cX1_shelf 5 = .ok (.iload_n 2, 1) := dk_28 (dk_at dksX1_shelf_0 5 rfl rfl)
theorem dX1_shelf_6 : decode cX1_shelf 6 = .ok (.tableswitch 104 0 5 #[38, 50, 61, 72, 83, 83], 38) := by decide +kernel
theorem dX1_shelf_44 : decode cX1_shelf 44 = .ok (.aload_n 0, 1) := dk_42 (dk_at dksX1_shelf_2 0 rfl rfl)
theorem dX1_shelf_45 : decode cX1_shelf 45 = .ok (.getfield 52, 3) := dk_180 0 52 (dk_at dksX1_shelf_2 1 rfl rfl)
theorem dX1_shelf_48 : decode cX1_shelf 48 = .ok (.getfield 287, 3) := dk_180 1 31 (dk_at dksX1_shelf_2 4 rfl rfl)
theorem dX1_shelf_51 : decode cX1_shelf 51 = .ok (.iload_n 1, 1) := dk_27 (dk_at dksX1_shelf_2 7 rfl rfl)
theorem dX1_shelf_52 : decode cX1_shelf 52 = .ok (.iaload, 1) := dk_46 (dk_at dksX1_shelf_2 8 rfl rfl)
theorem dX1_shelf_53 : decode cX1_shelf 53 = .ok (.goto 65, 3) := dk_167 0 65 (dk_at dksX1_shelf_2 9 rfl rfl)
theorem dX1_shelf_56 : decode cX1_shelf 56 = .ok (.aload_n 0, 1) := dk_42 (dk_at dksX1_shelf_2 12 rfl rfl)
theorem dX1_shelf_57 : decode cX1_shelf 57 = .ok (.getfield 52, 3) := dk_180 0 52 (dk_at dksX1_shelf_2 13 rfl rfl)
theorem dX1_shelf_60 : decode cX1_shelf 60 = .ok (.iload_n 1, 1) := dk_27 (dk_at dksX1_shelf_2 16 rfl rfl)
theorem dX1_shelf_61 : decode cX1_shelf 61 = .ok (.invokevirtual 290, 3) := dk_182 1 34 (dk_at dksX1_shelf_2 17 rfl rfl)
theorem dX1_shelf_64 : decode cX1_shelf 64 = .ok (.goto 54, 3) := dk_167 0 54 (dk_at dksX1_shelf_2 20 rfl rfl)
theorem dX1_shelf_67 : decode cX1_shelf 67 = .ok (.aload_n 0, 1) := dk_42 (dk_at dksX1_shelf_2 23 rfl rfl)
theorem dX1_shelf_68 : decode cX1_shelf 68 = .ok (.getfield 52, 3) := dk_180 0 52 (dk_at dksX1_shelf_3 0 rfl rfl)
theorem dX1_shelf_71 : decode cX1_shelf 71 = .ok (.iload_n 1, 1) := dk_27 (dk_at dksX1_shelf_3 3 rfl rfl)
theorem dX1_shelf_72 : decode cX1_shelf 72 = .ok (.invokevirtual 293, 3) := dk_182 1 37 (dk_at dksX1_shelf_3 4 rfl rfl)
theorem dX1_shelf_75 : decode cX1_shelf 75 = .ok (.goto 43, 3) := dk_167 0 43 (dk_at dksX1_shelf_3 7 rfl rfl)
theorem dX1_shelf_78 : decode cX1_shelf 78 = .ok (.aload_n 0, 1) := dk_42 (dk_at dksX1_shelf_3 10 rfl rfl)
theorem dX1_shelf_79 : decode cX1_shelf 79 = .ok (.getfield 52, 3) := dk_180 0 52 (dk_at dksX1_shelf_3 11 rfl rfl)
theorem dX1_shelf_82 : decode cX1_shelf 82 = .ok (.iload_n 1, 1) := dk_27 (dk_at dksX1_shelf_3 14 rfl rfl)
theorem dX1_shelf_83 : decode cX1_shelf 83 = .ok (.invokevirtual 296, 3) := dk_182 1 40 (dk_at dksX1_shelf_3 15 rfl rfl)
theorem dX1_shelf_86 : decode cX1_shelf 86 = .ok (.goto 32, 3) := dk_167 0 32 (dk_at dksX1_shelf_3 18 rfl rfl)
theorem dX1_shelf_89 : decode cX1_shelf 89 = .ok (.aload_n 0, 1) := dk_42 (dk_at dksX1_shelf_3 21 rfl rfl)
theorem dX1_shelf_90 : decode cX1_shelf 90 = .ok (.getfield 52, 3) := dk_180 0 52 (dk_at dksX1_shelf_4 0 rfl rfl)
theorem dX1_shelf_93 : decode cX1_shelf 93 = .ok (.iload_n 1, 1) := dk_27 (dk_at dksX1_shelf_4 3 rfl rfl)
theorem dX1_shelf_94 : decode cX1_shelf 94 = .ok (.iload_n 2, 1) := dk_28 (dk_at dksX1_shelf_4 4 rfl rfl)
theorem dX1_shelf_95 : decode cX1_shelf 95 = .ok (.iconst 5, 1) := dk_8 (dk_at dksX1_shelf_4 5 rfl rfl)
theorem dX1_shelf_96 : decode cX1_shelf 96 = .ok (.if_icmp .ne 7, 3) := dk_160 0 7 (dk_at dksX1_shelf_4 6 rfl rfl)
theorem dX1_shelf_99 : decode cX1_shelf 99 = .ok (.iconst 1, 1) := dk_4 (dk_at dksX1_shelf_4 9 rfl rfl)
theorem dX1_shelf_100 : decode cX1_shelf 100 = .ok (.goto 4, 3) := dk_167 0 4 (dk_at dksX1_shelf_4 10 rfl rfl)
theorem dX1_shelf_103 : decode cX1_shelf 103 = .ok (.iconst 0, 1) := dk_3 (dk_at dksX1_shelf_4 13 rfl rfl)
theorem dX1_shelf_104 : decode cX1_shelf 104 = .ok (.invokevirtual 299, 3) := dk_182 1 43 (dk_at dksX1_shelf_4 14 rfl rfl)
theorem dX1_shelf_107 : decode cX1_shelf 107 = .ok (.goto 11, 3) := dk_167 0 11 (dk_at dksX1_shelf_4 17 rfl rfl)
theorem dX1_shelf_110 : decode cX1_shelf 110 = .ok (.new 7, 3) := dk_187 0 7 (dk_at dksX1_shelf_4 20 rfl rfl)
theorem dX1_shelf_113 : decode cX1_shelf 113 = .ok (.dup, 1) := dk_89 (dk_at dksX1_shelf_4 23 rfl rfl)
theorem dX1_shelf_114 : decode cX1_shelf 114 = .ok (.invokespecial 9, 3) := dk_183 0 9 (dk_at dksX1_shelf_5 0 rfl rfl)
theorem dX1_shelf_117 : decode cX1_shelf 117 = .ok (.athrow, 1) := dk_191 (dk_at dksX1_shelf_5 3 rfl rfl)
theorem dX1_shelf_118 : decode cX1_shelf 118 = .ok (.ireturn, 1) := dk_172 (dk_at dksX1_shelf_5 4 rfl rfl)
abbrev cX1_requireShelf : ByteArray := prog_1_method_13_code
def yX1_requireShelf : MethodName := ⟨RX1, "requireShelf", "(I)V"⟩
def dkwX1_requireShelf_0 : List UInt8 := [27, 3, 42, 180, 0, 52, 180, 0, 180, 4, 100, 184, 0, 16, 184, 0, 156, 177]
abbrev dktX1_requireShelf_0 : List UInt8 := dkwX1_requireShelf_0 ++ []
theorem dksX1_requireShelf_0 : cX1_requireShelf.data.toList.drop 0 = dktX1_requireShelf_0 := by decide +kernel
theorem dX1_requireShelf_0 : decode cX1_requireShelf 0 = .ok (.iload_n 1, 1) := dk_27 (dk_at dksX1_requireShelf_0 0 rfl rfl)
theorem dX1_requireShelf_1 : decode cX1_requireShelf 1 = .ok (.iconst 0, 1) := dk_3 (dk_at dksX1_requireShelf_0 1 rfl rfl)
theorem dX1_requireShelf_2 : decode cX1_requireShelf 2 = .ok (.aload_n 0, 1) := dk_42 (dk_at dksX1_requireShelf_0 2 rfl rfl)
theorem dX1_requireShelf_3 : decode cX1_requireShelf 3 = .ok (.getfield 52, 3) := dk_180 0 52 (dk_at dksX1_requireShelf_0 3 rfl rfl)
theorem dX1_requireShelf_6 : decode cX1_requireShelf 6 = .ok (.getfield 180, 3) := dk_180 0 180 (dk_at dksX1_requireShelf_0 6 rfl rfl)
theorem dX1_requireShelf_9 : decode cX1_requireShelf 9 = .ok (.iconst 1, 1) := dk_4 (dk_at dksX1_requireShelf_0 9 rfl rfl)
theorem dX1_requireShelf_10 : decode cX1_requireShelf 10 = .ok (.isub, 1) := dk_100 (dk_at dksX1_requireShelf_0 10 rfl rfl)
theorem dX1_requireShelf_11 : decode cX1_requireShelf 11 = .ok (.invokestatic 16, 3) := dk_184 0 16 (dk_at dksX1_requireShelf_0 11 rfl rfl)
theorem dX1_requireShelf_14 : decode cX1_requireShelf 14 = .ok (.invokestatic 156, 3) := dk_184 0 156 (dk_at dksX1_requireShelf_0 14 rfl rfl)
theorem dX1_requireShelf_17 : decode cX1_requireShelf 17 = .ok (.return_, 1) := dk_177 (dk_at dksX1_requireShelf_0 17 rfl rfl)
abbrev cX1_compare : ByteArray := prog_1_method_29_code
def yX1_compare : MethodName := ⟨RX1, "compare", "(II)I"⟩
def dkwX1_compare_1 : List UInt8 := [184, 1, 60, 172]
abbrev dktX1_compare_1 : List UInt8 := dkwX1_compare_1 ++ []
def dkwX1_compare_0 : List UInt8 := [42, 180, 0, 52, 180, 1, 50, 42, 27, 182, 0, 170, 42, 28, 182, 0, 170, 185, 1, 54, 3, 0]
abbrev dktX1_compare_0 : List UInt8 := dkwX1_compare_0 ++ dktX1_compare_1
theorem dksX1_compare_0 : cX1_compare.data.toList.drop 0 = dktX1_compare_0 := by decide +kernel
theorem dksX1_compare_1 : cX1_compare.data.toList.drop 22 = dktX1_compare_1 := dk_seg dksX1_compare_0 22 rfl rfl
theorem dX1_compare_0 : decode cX1_compare 0 = .ok (.aload_n 0, 1) := dk_42 (dk_at dksX1_compare_0 0 rfl rfl)
theorem dX1_compare_1 : decode cX1_compare 1 = .ok (.getfield 52, 3) := dk_180 0 52 (dk_at dksX1_compare_0 1 rfl rfl)
theorem dX1_compare_4 : decode cX1_compare 4 = .ok (.getfield 306, 3) := dk_180 1 50 (dk_at dksX1_compare_0 4 rfl rfl)
theorem dX1_compare_7 : decode cX1_compare 7 = .ok (.aload_n 0, 1) := dk_42 (dk_at dksX1_compare_0 7 rfl rfl)
theorem dX1_compare_8 : decode cX1_compare 8 = .ok (.iload_n 1, 1) := dk_27 (dk_at dksX1_compare_0 8 rfl rfl)
theorem dX1_compare_9 : decode cX1_compare 9 = .ok (.invokevirtual 170, 3) := dk_182 0 170 (dk_at dksX1_compare_0 9 rfl rfl)
theorem dX1_compare_12 : decode cX1_compare 12 = .ok (.aload_n 0, 1) := dk_42 (dk_at dksX1_compare_0 12 rfl rfl)
theorem dX1_compare_13 : decode cX1_compare 13 = .ok (.iload_n 2, 1) := dk_28 (dk_at dksX1_compare_0 13 rfl rfl)
theorem dX1_compare_14 : decode cX1_compare 14 = .ok (.invokevirtual 170, 3) := dk_182 0 170 (dk_at dksX1_compare_0 14 rfl rfl)
theorem dX1_compare_17 : decode cX1_compare 17 = .ok (.invokeinterface 310 3, 5) := by decide +kernel
theorem dX1_compare_22 : decode cX1_compare 22 = .ok (.invokestatic 316, 3) := dk_184 1 60 (dk_at dksX1_compare_1 0 rfl rfl)
theorem dX1_compare_25 : decode cX1_compare 25 = .ok (.ireturn, 1) := dk_172 (dk_at dksX1_compare_1 3 rfl rfl)
abbrev cX1_differ : ByteArray := prog_1_method_30_code
def yX1_differ : MethodName := ⟨RX1, "differ", "(II)I"⟩
def dkwX1_differ_0 : List UInt8 := [42, 27, 182, 0, 170, 42, 28, 182, 0, 170, 184, 1, 65, 172]
abbrev dktX1_differ_0 : List UInt8 := dkwX1_differ_0 ++ []
theorem dksX1_differ_0 : cX1_differ.data.toList.drop 0 = dktX1_differ_0 := by decide +kernel
theorem dX1_differ_0 : decode cX1_differ 0 = .ok (.aload_n 0, 1) := dk_42 (dk_at dksX1_differ_0 0 rfl rfl)
theorem dX1_differ_1 : decode cX1_differ 1 = .ok (.iload_n 1, 1) := dk_27 (dk_at dksX1_differ_0 1 rfl rfl)
theorem dX1_differ_2 : decode cX1_differ 2 = .ok (.invokevirtual 170, 3) := dk_182 0 170 (dk_at dksX1_differ_0 2 rfl rfl)
theorem dX1_differ_5 : decode cX1_differ 5 = .ok (.aload_n 0, 1) := dk_42 (dk_at dksX1_differ_0 5 rfl rfl)
theorem dX1_differ_6 : decode cX1_differ 6 = .ok (.iload_n 2, 1) := dk_28 (dk_at dksX1_differ_0 6 rfl rfl)
theorem dX1_differ_7 : decode cX1_differ 7 = .ok (.invokevirtual 170, 3) := dk_182 0 170 (dk_at dksX1_differ_0 7 rfl rfl)
theorem dX1_differ_10 : decode cX1_differ 10 = .ok (.invokestatic 321, 3) := dk_184 1 65 (dk_at dksX1_differ_0 10 rfl rfl)
theorem dX1_differ_13 : decode cX1_differ 13 = .ok (.ireturn, 1) := dk_172 (dk_at dksX1_differ_0 13 rfl rfl)
abbrev cX1_free : ByteArray := prog_1_method_32_code
def yX1_free : MethodName := ⟨RX1, "free", "(I)I"⟩
def dkwX1_free_1 : List UInt8 := [180, 0, 246, 100, 4, 100, 172]
abbrev dktX1_free_1 : List UInt8 := dkwX1_free_1 ++ []
def dkwX1_free_0 : List UInt8 := [42, 27, 182, 0, 170, 77, 42, 180, 0, 52, 42, 180, 0, 52, 27, 182, 0, 153, 4, 96, 182, 1, 74, 44]
abbrev dktX1_free_0 : List UInt8 := dkwX1_free_0 ++ dktX1_free_1
theorem dksX1_free_0 : cX1_free.data.toList.drop 0 = dktX1_free_0 := by decide +kernel
theorem dksX1_free_1 : cX1_free.data.toList.drop 24 = dktX1_free_1 := dk_seg dksX1_free_0 24 rfl rfl
theorem dX1_free_0 : decode cX1_free 0 = .ok (.aload_n 0, 1) := dk_42 (dk_at dksX1_free_0 0 rfl rfl)
theorem dX1_free_1 : decode cX1_free 1 = .ok (.iload_n 1, 1) := dk_27 (dk_at dksX1_free_0 1 rfl rfl)
theorem dX1_free_2 : decode cX1_free 2 = .ok (.invokevirtual 170, 3) := dk_182 0 170 (dk_at dksX1_free_0 2 rfl rfl)
theorem dX1_free_5 : decode cX1_free 5 = .ok (.astore_n 2, 1) := dk_77 (dk_at dksX1_free_0 5 rfl rfl)
theorem dX1_free_6 : decode cX1_free 6 = .ok (.aload_n 0, 1) := dk_42 (dk_at dksX1_free_0 6 rfl rfl)
theorem dX1_free_7 : decode cX1_free 7 = .ok (.getfield 52, 3) := dk_180 0 52 (dk_at dksX1_free_0 7 rfl rfl)
theorem dX1_free_10 : decode cX1_free 10 = .ok (.aload_n 0, 1) := dk_42 (dk_at dksX1_free_0 10 rfl rfl)
theorem dX1_free_11 : decode cX1_free 11 = .ok (.getfield 52, 3) := dk_180 0 52 (dk_at dksX1_free_0 11 rfl rfl)
theorem dX1_free_14 : decode cX1_free 14 = .ok (.iload_n 1, 1) := dk_27 (dk_at dksX1_free_0 14 rfl rfl)
theorem dX1_free_15 : decode cX1_free 15 = .ok (.invokevirtual 153, 3) := dk_182 0 153 (dk_at dksX1_free_0 15 rfl rfl)
theorem dX1_free_18 : decode cX1_free 18 = .ok (.iconst 1, 1) := dk_4 (dk_at dksX1_free_0 18 rfl rfl)
theorem dX1_free_19 : decode cX1_free 19 = .ok (.iadd, 1) := dk_96 (dk_at dksX1_free_0 19 rfl rfl)
theorem dX1_free_20 : decode cX1_free 20 = .ok (.invokevirtual 330, 3) := dk_182 1 74 (dk_at dksX1_free_0 20 rfl rfl)
theorem dX1_free_23 : decode cX1_free 23 = .ok (.aload_n 2, 1) := dk_44 (dk_at dksX1_free_0 23 rfl rfl)
theorem dX1_free_24 : decode cX1_free 24 = .ok (.getfield 246, 3) := dk_180 0 246 (dk_at dksX1_free_1 0 rfl rfl)
theorem dX1_free_27 : decode cX1_free 27 = .ok (.isub, 1) := dk_100 (dk_at dksX1_free_1 3 rfl rfl)
theorem dX1_free_28 : decode cX1_free 28 = .ok (.iconst 1, 1) := dk_4 (dk_at dksX1_free_1 4 rfl rfl)
theorem dX1_free_29 : decode cX1_free 29 = .ok (.isub, 1) := dk_100 (dk_at dksX1_free_1 5 rfl rfl)
theorem dX1_free_30 : decode cX1_free 30 = .ok (.ireturn, 1) := dk_172 (dk_at dksX1_free_1 6 rfl rfl)
abbrev cX1_family : ByteArray := prog_1_method_33_code
def yX1_family : MethodName := ⟨RX1, "family", "(I)I"⟩
def dkwX1_family_0 : List UInt8 := [42, 180, 0, 52, 42, 27, 182, 0, 170, 182, 1, 77, 172]
abbrev dktX1_family_0 : List UInt8 := dkwX1_family_0 ++ []
theorem dksX1_family_0 : cX1_family.data.toList.drop 0 = dktX1_family_0 := by decide +kernel
theorem dX1_family_0 : decode cX1_family 0 = .ok (.aload_n 0, 1) := dk_42 (dk_at dksX1_family_0 0 rfl rfl)
theorem dX1_family_1 : decode cX1_family 1 = .ok (.getfield 52, 3) := dk_180 0 52 (dk_at dksX1_family_0 1 rfl rfl)
theorem dX1_family_4 : decode cX1_family 4 = .ok (.aload_n 0, 1) := dk_42 (dk_at dksX1_family_0 4 rfl rfl)
theorem dX1_family_5 : decode cX1_family 5 = .ok (.iload_n 1, 1) := dk_27 (dk_at dksX1_family_0 5 rfl rfl)
theorem dX1_family_6 : decode cX1_family 6 = .ok (.invokevirtual 170, 3) := dk_182 0 170 (dk_at dksX1_family_0 6 rfl rfl)
theorem dX1_family_9 : decode cX1_family 9 = .ok (.invokevirtual 333, 3) := dk_182 1 77 (dk_at dksX1_family_0 9 rfl rfl)
theorem dX1_family_12 : decode cX1_family 12 = .ok (.ireturn, 1) := dk_172 (dk_at dksX1_family_0 12 rfl rfl)
abbrev cX1_soundsLike : ByteArray := prog_1_method_34_code
def yX1_soundsLike : MethodName := ⟨RX1, "soundsLike", "(I)I"⟩
def dkwX1_soundsLike_4 : List UInt8 := [172, 77, 42, 44, 182, 0, 211, 172]
abbrev dktX1_soundsLike_4 : List UInt8 := dkwX1_soundsLike_4 ++ []
def dkwX1_soundsLike_3 : List UInt8 := [192, 0, 168, 58, 6, 21, 4, 25, 6, 45, 182, 1, 107, 184, 0, 128, 96, 54, 4, 167, 255, 220, 21, 4]
abbrev dktX1_soundsLike_3 : List UInt8 := dkwX1_soundsLike_3 ++ dktX1_soundsLike_4
def dkwX1_soundsLike_2 : List UInt8 := [185, 1, 95, 1, 0, 58, 5, 25, 5, 185, 1, 99, 1, 0, 153, 0, 32, 25, 5, 185, 1, 104, 1, 0]
abbrev dktX1_soundsLike_2 : List UInt8 := dkwX1_soundsLike_2 ++ dktX1_soundsLike_3
def dkwX1_soundsLike_1 : List UInt8 := [182, 1, 84, 182, 1, 88, 78, 44, 182, 1, 92, 3, 54, 4, 42, 180, 0, 52, 180, 0, 160]
abbrev dktX1_soundsLike_1 : List UInt8 := dkwX1_soundsLike_1 ++ dktX1_soundsLike_2
def dkwX1_soundsLike_0 : List UInt8 := [42, 27, 182, 0, 200, 187, 1, 81, 89, 42, 180, 0, 29, 27, 183, 1, 83, 77, 42, 180, 0, 52, 44]
abbrev dktX1_soundsLike_0 : List UInt8 := dkwX1_soundsLike_0 ++ dktX1_soundsLike_1
theorem dksX1_soundsLike_0 : cX1_soundsLike.data.toList.drop 0 = dktX1_soundsLike_0 := by decide +kernel
theorem dksX1_soundsLike_1 : cX1_soundsLike.data.toList.drop 23 = dktX1_soundsLike_1 := dk_seg dksX1_soundsLike_0 23 rfl rfl
theorem dksX1_soundsLike_2 : cX1_soundsLike.data.toList.drop 44 = dktX1_soundsLike_2 := dk_seg dksX1_soundsLike_1 21 rfl rfl
theorem dksX1_soundsLike_3 : cX1_soundsLike.data.toList.drop 68 = dktX1_soundsLike_3 := dk_seg dksX1_soundsLike_2 24 rfl rfl
theorem dksX1_soundsLike_4 : cX1_soundsLike.data.toList.drop 92 = dktX1_soundsLike_4 := dk_seg dksX1_soundsLike_3 24 rfl rfl
theorem dX1_soundsLike_0 : decode cX1_soundsLike 0 = .ok (.aload_n 0, 1) := dk_42 (dk_at dksX1_soundsLike_0 0 rfl rfl)
theorem dX1_soundsLike_1 : decode cX1_soundsLike 1 = .ok (.iload_n 1, 1) := dk_27 (dk_at dksX1_soundsLike_0 1 rfl rfl)
theorem dX1_soundsLike_2 : decode cX1_soundsLike 2 = .ok (.invokevirtual 200, 3) := dk_182 0 200 (dk_at dksX1_soundsLike_0 2 rfl rfl)
theorem dX1_soundsLike_5 : decode cX1_soundsLike 5 = .ok (.new 337, 3) := dk_187 1 81 (dk_at dksX1_soundsLike_0 5 rfl rfl)
theorem dX1_soundsLike_8 : decode cX1_soundsLike 8 = .ok (.dup, 1) := dk_89 (dk_at dksX1_soundsLike_0 8 rfl rfl)
theorem dX1_soundsLike_9 : decode cX1_soundsLike 9 = .ok (.aload_n 0, 1) := dk_42 (dk_at dksX1_soundsLike_0 9 rfl rfl)
theorem dX1_soundsLike_10 : decode cX1_soundsLike 10 = .ok (.getfield 29, 3) := dk_180 0 29 (dk_at dksX1_soundsLike_0 10 rfl rfl)
theorem dX1_soundsLike_13 : decode cX1_soundsLike 13 = .ok (.iload_n 1, 1) := dk_27 (dk_at dksX1_soundsLike_0 13 rfl rfl)
theorem dX1_soundsLike_14 : decode cX1_soundsLike 14 = .ok (.invokespecial 339, 3) := dk_183 1 83 (dk_at dksX1_soundsLike_0 14 rfl rfl)
theorem dX1_soundsLike_17 : decode cX1_soundsLike 17 = .ok (.astore_n 2, 1) := dk_77 (dk_at dksX1_soundsLike_0 17 rfl rfl)
theorem dX1_soundsLike_18 : decode cX1_soundsLike 18 = .ok (.aload_n 0, 1) := dk_42 (dk_at dksX1_soundsLike_0 18 rfl rfl)
theorem dX1_soundsLike_19 : decode cX1_soundsLike 19 = .ok (.getfield 52, 3) := dk_180 0 52 (dk_at dksX1_soundsLike_0 19 rfl rfl)
theorem dX1_soundsLike_22 : decode cX1_soundsLike 22 = .ok (.aload_n 2, 1) := dk_44 (dk_at dksX1_soundsLike_0 22 rfl rfl)
theorem dX1_soundsLike_23 : decode cX1_soundsLike 23 = .ok (.invokevirtual 340, 3) := dk_182 1 84 (dk_at dksX1_soundsLike_1 0 rfl rfl)
theorem dX1_soundsLike_26 : decode cX1_soundsLike 26 = .ok (.invokevirtual 344, 3) := dk_182 1 88 (dk_at dksX1_soundsLike_1 3 rfl rfl)
theorem dX1_soundsLike_29 : decode cX1_soundsLike 29 = .ok (.astore_n 3, 1) := dk_78 (dk_at dksX1_soundsLike_1 6 rfl rfl)
theorem dX1_soundsLike_30 : decode cX1_soundsLike 30 = .ok (.aload_n 2, 1) := dk_44 (dk_at dksX1_soundsLike_1 7 rfl rfl)
theorem dX1_soundsLike_31 : decode cX1_soundsLike 31 = .ok (.invokevirtual 348, 3) := dk_182 1 92 (dk_at dksX1_soundsLike_1 8 rfl rfl)
theorem dX1_soundsLike_34 : decode cX1_soundsLike 34 = .ok (.iconst 0, 1) := dk_3 (dk_at dksX1_soundsLike_1 11 rfl rfl)
theorem dX1_soundsLike_35 : decode cX1_soundsLike 35 = .ok (.istore 4, 2) := dk_54 4 (dk_at dksX1_soundsLike_1 12 rfl rfl)
theorem dX1_soundsLike_37 : decode cX1_soundsLike 37 = .ok (.aload_n 0, 1) := dk_42 (dk_at dksX1_soundsLike_1 14 rfl rfl)
theorem dX1_soundsLike_38 : decode cX1_soundsLike 38 = .ok (.getfield 52, 3) := dk_180 0 52 (dk_at dksX1_soundsLike_1 15 rfl rfl)
theorem dX1_soundsLike_41 : decode cX1_soundsLike 41 = .ok (.getfield 160, 3) := dk_180 0 160 (dk_at dksX1_soundsLike_1 18 rfl rfl)
theorem dX1_soundsLike_44 : decode cX1_soundsLike 44 = .ok (.invokeinterface 351 1, 5) := by decide +kernel
theorem dX1_soundsLike_49 : decode cX1_soundsLike 49 = .ok (.astore 5, 2) := dk_58 5 (dk_at dksX1_soundsLike_2 5 rfl rfl)
theorem dX1_soundsLike_51 : decode cX1_soundsLike 51 = .ok (.aload 5, 2) := dk_25 5 (dk_at dksX1_soundsLike_2 7 rfl rfl)
theorem dX1_soundsLike_53 : decode cX1_soundsLike 53 = .ok (.invokeinterface 355 1, 5) := by decide +kernel
theorem dX1_soundsLike_58 : decode cX1_soundsLike 58 = .ok (.ifCond .eq 32, 3) := dk_153 0 32 (dk_at dksX1_soundsLike_2 14 rfl rfl)
theorem dX1_soundsLike_61 : decode cX1_soundsLike 61 = .ok (.aload 5, 2) := dk_25 5 (dk_at dksX1_soundsLike_2 17 rfl rfl)
theorem dX1_soundsLike_63 : decode cX1_soundsLike 63 = .ok (.invokeinterface 360 1, 5) := by decide +kernel
theorem dX1_soundsLike_68 : decode cX1_soundsLike 68 = .ok (.checkcast 168, 3) := dk_192 0 168 (dk_at dksX1_soundsLike_3 0 rfl rfl)
theorem dX1_soundsLike_71 : decode cX1_soundsLike 71 = .ok (.astore 6, 2) := dk_58 6 (dk_at dksX1_soundsLike_3 3 rfl rfl)
theorem dX1_soundsLike_73 : decode cX1_soundsLike 73 = .ok (.iload 4, 2) := dk_21 4 (dk_at dksX1_soundsLike_3 5 rfl rfl)
theorem dX1_soundsLike_75 : decode cX1_soundsLike 75 = .ok (.aload 6, 2) := dk_25 6 (dk_at dksX1_soundsLike_3 7 rfl rfl)
theorem dX1_soundsLike_77 : decode cX1_soundsLike 77 = .ok (.aload_n 3, 1) := dk_45 (dk_at dksX1_soundsLike_3 9 rfl rfl)
theorem dX1_soundsLike_78 : decode cX1_soundsLike 78 = .ok (.invokevirtual 363, 3) := dk_182 1 107 (dk_at dksX1_soundsLike_3 10 rfl rfl)
theorem dX1_soundsLike_81 : decode cX1_soundsLike 81 = .ok (.invokestatic 128, 3) := dk_184 0 128 (dk_at dksX1_soundsLike_3 13 rfl rfl)
theorem dX1_soundsLike_84 : decode cX1_soundsLike 84 = .ok (.iadd, 1) := dk_96 (dk_at dksX1_soundsLike_3 16 rfl rfl)
theorem dX1_soundsLike_85 : decode cX1_soundsLike 85 = .ok (.istore 4, 2) := dk_54 4 (dk_at dksX1_soundsLike_3 17 rfl rfl)
theorem dX1_soundsLike_87 : decode cX1_soundsLike 87 = .ok (.goto (-36), 3) := dk_167 255 220 (dk_at dksX1_soundsLike_3 19 rfl rfl)
theorem dX1_soundsLike_90 : decode cX1_soundsLike 90 = .ok (.iload 4, 2) := dk_21 4 (dk_at dksX1_soundsLike_3 22 rfl rfl)
theorem dX1_soundsLike_92 : decode cX1_soundsLike 92 = .ok (.ireturn, 1) := dk_172 (dk_at dksX1_soundsLike_4 0 rfl rfl)
theorem dX1_soundsLike_93 : decode cX1_soundsLike 93 = .ok (.astore_n 2, 1) := dk_77 (dk_at dksX1_soundsLike_4 1 rfl rfl)
theorem dX1_soundsLike_94 : decode cX1_soundsLike 94 = .ok (.aload_n 0, 1) := dk_42 (dk_at dksX1_soundsLike_4 2 rfl rfl)
theorem dX1_soundsLike_95 : decode cX1_soundsLike 95 = .ok (.aload_n 2, 1) := dk_44 (dk_at dksX1_soundsLike_4 3 rfl rfl)
theorem dX1_soundsLike_96 : decode cX1_soundsLike 96 = .ok (.invokevirtual 211, 3) := dk_182 0 211 (dk_at dksX1_soundsLike_4 4 rfl rfl)
theorem dX1_soundsLike_99 : decode cX1_soundsLike 99 = .ok (.ireturn, 1) := dk_172 (dk_at dksX1_soundsLike_4 7 rfl rfl)
abbrev cX1_rankIf : ByteArray := prog_1_method_37_code
def yX1_rankIf : MethodName := ⟨RX1, "rankIf", "(I)I"⟩
def dkwX1_rankIf_1 : List UInt8 := [172]
abbrev dktX1_rankIf_1 : List UInt8 := dkwX1_rankIf_1 ++ []
def dkwX1_rankIf_0 : List UInt8 := [42, 27, 182, 0, 200, 42, 180, 0, 52, 42, 27, 182, 1, 121, 182, 1, 124, 172, 77, 42, 44, 182, 0, 211]
abbrev dktX1_rankIf_0 : List UInt8 := dkwX1_rankIf_0 ++ dktX1_rankIf_1
theorem dksX1_rankIf_0 : cX1_rankIf.data.toList.drop 0 = dktX1_rankIf_0 := by decide +kernel
theorem dksX1_rankIf_1 : cX1_rankIf.data.toList.drop 24 = dktX1_rankIf_1 := dk_seg dksX1_rankIf_0 24 rfl rfl
theorem dX1_rankIf_0 : decode cX1_rankIf 0 = .ok (.aload_n 0, 1) := dk_42 (dk_at dksX1_rankIf_0 0 rfl rfl)
theorem dX1_rankIf_1 : decode cX1_rankIf 1 = .ok (.iload_n 1, 1) := dk_27 (dk_at dksX1_rankIf_0 1 rfl rfl)
theorem dX1_rankIf_2 : decode cX1_rankIf 2 = .ok (.invokevirtual 200, 3) := dk_182 0 200 (dk_at dksX1_rankIf_0 2 rfl rfl)
theorem dX1_rankIf_5 : decode cX1_rankIf 5 = .ok (.aload_n 0, 1) := dk_42 (dk_at dksX1_rankIf_0 5 rfl rfl)
theorem dX1_rankIf_6 : decode cX1_rankIf 6 = .ok (.getfield 52, 3) := dk_180 0 52 (dk_at dksX1_rankIf_0 6 rfl rfl)
theorem dX1_rankIf_9 : decode cX1_rankIf 9 = .ok (.aload_n 0, 1) := dk_42 (dk_at dksX1_rankIf_0 9 rfl rfl)
theorem dX1_rankIf_10 : decode cX1_rankIf 10 = .ok (.iload_n 1, 1) := dk_27 (dk_at dksX1_rankIf_0 10 rfl rfl)
theorem dX1_rankIf_11 : decode cX1_rankIf 11 = .ok (.invokevirtual 377, 3) := dk_182 1 121 (dk_at dksX1_rankIf_0 11 rfl rfl)
theorem dX1_rankIf_14 : decode cX1_rankIf 14 = .ok (.invokevirtual 380, 3) := dk_182 1 124 (dk_at dksX1_rankIf_0 14 rfl rfl)
theorem dX1_rankIf_17 : decode cX1_rankIf 17 = .ok (.ireturn, 1) := dk_172 (dk_at dksX1_rankIf_0 17 rfl rfl)
theorem dX1_rankIf_18 : decode cX1_rankIf 18 = .ok (.astore_n 2, 1) := dk_77 (dk_at dksX1_rankIf_0 18 rfl rfl)
theorem dX1_rankIf_19 : decode cX1_rankIf 19 = .ok (.aload_n 0, 1) := dk_42 (dk_at dksX1_rankIf_0 19 rfl rfl)
theorem dX1_rankIf_20 : decode cX1_rankIf 20 = .ok (.aload_n 2, 1) := dk_44 (dk_at dksX1_rankIf_0 20 rfl rfl)
theorem dX1_rankIf_21 : decode cX1_rankIf 21 = .ok (.invokevirtual 211, 3) := dk_182 0 211 (dk_at dksX1_rankIf_0 21 rfl rfl)
theorem dX1_rankIf_24 : decode cX1_rankIf 24 = .ok (.ireturn, 1) := dk_172 (dk_at dksX1_rankIf_1 0 rfl rfl)
abbrev cX1_markOf : ByteArray := prog_1_method_36_code
def yX1_markOf : MethodName := ⟨RX1, "markOf", "(I)LSpokenMarks$Mark;"⟩
def dkwX1_markOf_0 : List UInt8 := [187, 0, 168, 89, 3, 42, 27, 182, 1, 114, 4, 2, 183, 1, 118, 176]
abbrev dktX1_markOf_0 : List UInt8 := dkwX1_markOf_0 ++ []
theorem dksX1_markOf_0 : cX1_markOf.data.toList.drop 0 = dktX1_markOf_0 := by decide +kernel
theorem dX1_markOf_0 : decode cX1_markOf 0 = .ok (.new 168, 3) := dk_187 0 168 (dk_at dksX1_markOf_0 0 rfl rfl)
theorem dX1_markOf_3 : decode cX1_markOf 3 = .ok (.dup, 1) := dk_89 (dk_at dksX1_markOf_0 3 rfl rfl)
theorem dX1_markOf_4 : decode cX1_markOf 4 = .ok (.iconst 0, 1) := dk_3 (dk_at dksX1_markOf_0 4 rfl rfl)
theorem dX1_markOf_5 : decode cX1_markOf 5 = .ok (.aload_n 0, 1) := dk_42 (dk_at dksX1_markOf_0 5 rfl rfl)
theorem dX1_markOf_6 : decode cX1_markOf 6 = .ok (.iload_n 1, 1) := dk_27 (dk_at dksX1_markOf_0 6 rfl rfl)
theorem dX1_markOf_7 : decode cX1_markOf 7 = .ok (.invokevirtual 370, 3) := dk_182 1 114 (dk_at dksX1_markOf_0 7 rfl rfl)
theorem dX1_markOf_10 : decode cX1_markOf 10 = .ok (.iconst 1, 1) := dk_4 (dk_at dksX1_markOf_0 10 rfl rfl)
theorem dX1_markOf_11 : decode cX1_markOf 11 = .ok (.iconst (-1), 1) := dk_2 (dk_at dksX1_markOf_0 11 rfl rfl)
theorem dX1_markOf_12 : decode cX1_markOf 12 = .ok (.invokespecial 374, 3) := dk_183 1 118 (dk_at dksX1_markOf_0 12 rfl rfl)
theorem dX1_markOf_15 : decode cX1_markOf 15 = .ok (.areturn, 1) := dk_176 (dk_at dksX1_markOf_0 15 rfl rfl)
abbrev cX1_partsOf : ByteArray := prog_1_method_35_code
def yX1_partsOf : MethodName := ⟨RX1, "partsOf", "(I)Ljava/util/List;"⟩
def dkwX1_partsOf_1 : List UInt8 := [182, 1, 92, 45, 176]
abbrev dktX1_partsOf_1 : List UInt8 := dkwX1_partsOf_1 ++ []
def dkwX1_partsOf_0 : List UInt8 := [187, 1, 81, 89, 42, 180, 0, 29, 27, 183, 1, 83, 77, 44, 42, 180, 0, 52, 182, 1, 111, 78, 44]
abbrev dktX1_partsOf_0 : List UInt8 := dkwX1_partsOf_0 ++ dktX1_partsOf_1
theorem dksX1_partsOf_0 : cX1_partsOf.data.toList.drop 0 = dktX1_partsOf_0 := by decide +kernel
theorem dksX1_partsOf_1 : cX1_partsOf.data.toList.drop 23 = dktX1_partsOf_1 := dk_seg dksX1_partsOf_0 23 rfl rfl
theorem dX1_partsOf_0 : decode cX1_partsOf 0 = .ok (.new 337, 3) := dk_187 1 81 (dk_at dksX1_partsOf_0 0 rfl rfl)
theorem dX1_partsOf_3 : decode cX1_partsOf 3 = .ok (.dup, 1) := dk_89 (dk_at dksX1_partsOf_0 3 rfl rfl)
theorem dX1_partsOf_4 : decode cX1_partsOf 4 = .ok (.aload_n 0, 1) := dk_42 (dk_at dksX1_partsOf_0 4 rfl rfl)
theorem dX1_partsOf_5 : decode cX1_partsOf 5 = .ok (.getfield 29, 3) := dk_180 0 29 (dk_at dksX1_partsOf_0 5 rfl rfl)
theorem dX1_partsOf_8 : decode cX1_partsOf 8 = .ok (.iload_n 1, 1) := dk_27 (dk_at dksX1_partsOf_0 8 rfl rfl)
theorem dX1_partsOf_9 : decode cX1_partsOf 9 = .ok (.invokespecial 339, 3) := dk_183 1 83 (dk_at dksX1_partsOf_0 9 rfl rfl)
theorem dX1_partsOf_12 : decode cX1_partsOf 12 = .ok (.astore_n 2, 1) := dk_77 (dk_at dksX1_partsOf_0 12 rfl rfl)
theorem dX1_partsOf_13 : decode cX1_partsOf 13 = .ok (.aload_n 2, 1) := dk_44 (dk_at dksX1_partsOf_0 13 rfl rfl)
theorem dX1_partsOf_14 : decode cX1_partsOf 14 = .ok (.aload_n 0, 1) := dk_42 (dk_at dksX1_partsOf_0 14 rfl rfl)
theorem dX1_partsOf_15 : decode cX1_partsOf 15 = .ok (.getfield 52, 3) := dk_180 0 52 (dk_at dksX1_partsOf_0 15 rfl rfl)
theorem dX1_partsOf_18 : decode cX1_partsOf 18 = .ok (.invokevirtual 367, 3) := dk_182 1 111 (dk_at dksX1_partsOf_0 18 rfl rfl)
theorem dX1_partsOf_21 : decode cX1_partsOf 21 = .ok (.astore_n 3, 1) := dk_78 (dk_at dksX1_partsOf_0 21 rfl rfl)
theorem dX1_partsOf_22 : decode cX1_partsOf 22 = .ok (.aload_n 2, 1) := dk_44 (dk_at dksX1_partsOf_0 22 rfl rfl)
theorem dX1_partsOf_23 : decode cX1_partsOf 23 = .ok (.invokevirtual 348, 3) := dk_182 1 92 (dk_at dksX1_partsOf_1 0 rfl rfl)
theorem dX1_partsOf_26 : decode cX1_partsOf 26 = .ok (.aload_n 3, 1) := dk_45 (dk_at dksX1_partsOf_1 3 rfl rfl)
theorem dX1_partsOf_27 : decode cX1_partsOf 27 = .ok (.areturn, 1) := dk_176 (dk_at dksX1_partsOf_1 4 rfl rfl)
abbrev cX1_placeIf : ByteArray := prog_1_method_38_code
def yX1_placeIf : MethodName := ⟨RX1, "placeIf", "(I)I"⟩
def dkwX1_placeIf_2 : List UInt8 := [180, 0, 246, 167, 0, 11, 42, 180, 0, 52, 29, 182, 1, 131, 172, 77, 42, 44, 182, 0, 211, 172]
abbrev dktX1_placeIf_2 : List UInt8 := dkwX1_placeIf_2 ++ []
def dkwX1_placeIf_1 : List UInt8 := [44, 182, 1, 127, 153, 0, 25, 42, 180, 0, 52, 180, 0, 160, 29, 185, 0, 164, 2, 0, 192, 0, 168]
abbrev dktX1_placeIf_1 : List UInt8 := dkwX1_placeIf_1 ++ dktX1_placeIf_2
def dkwX1_placeIf_0 : List UInt8 := [42, 27, 182, 0, 200, 42, 27, 182, 1, 121, 77, 42, 180, 0, 52, 44, 182, 1, 124, 62, 42, 180, 0, 52]
abbrev dktX1_placeIf_0 : List UInt8 := dkwX1_placeIf_0 ++ dktX1_placeIf_1
theorem dksX1_placeIf_0 : cX1_placeIf.data.toList.drop 0 = dktX1_placeIf_0 := by decide +kernel
theorem dksX1_placeIf_1 : cX1_placeIf.data.toList.drop 24 = dktX1_placeIf_1 := dk_seg dksX1_placeIf_0 24 rfl rfl
theorem dksX1_placeIf_2 : cX1_placeIf.data.toList.drop 47 = dktX1_placeIf_2 := dk_seg dksX1_placeIf_1 23 rfl rfl
theorem dX1_placeIf_0 : decode cX1_placeIf 0 = .ok (.aload_n 0, 1) := dk_42 (dk_at dksX1_placeIf_0 0 rfl rfl)
theorem dX1_placeIf_1 : decode cX1_placeIf 1 = .ok (.iload_n 1, 1) := dk_27 (dk_at dksX1_placeIf_0 1 rfl rfl)
theorem dX1_placeIf_2 : decode cX1_placeIf 2 = .ok (.invokevirtual 200, 3) := dk_182 0 200 (dk_at dksX1_placeIf_0 2 rfl rfl)
theorem dX1_placeIf_5 : decode cX1_placeIf 5 = .ok (.aload_n 0, 1) := dk_42 (dk_at dksX1_placeIf_0 5 rfl rfl)
theorem dX1_placeIf_6 : decode cX1_placeIf 6 = .ok (.iload_n 1, 1) := dk_27 (dk_at dksX1_placeIf_0 6 rfl rfl)
theorem dX1_placeIf_7 : decode cX1_placeIf 7 = .ok (.invokevirtual 377, 3) := dk_182 1 121 (dk_at dksX1_placeIf_0 7 rfl rfl)
theorem dX1_placeIf_10 : decode cX1_placeIf 10 = .ok (.astore_n 2, 1) := dk_77 (dk_at dksX1_placeIf_0 10 rfl rfl)
theorem dX1_placeIf_11 : decode cX1_placeIf 11 = .ok (.aload_n 0, 1) := dk_42 (dk_at dksX1_placeIf_0 11 rfl rfl)
theorem dX1_placeIf_12 : decode cX1_placeIf 12 = .ok (.getfield 52, 3) := dk_180 0 52 (dk_at dksX1_placeIf_0 12 rfl rfl)
theorem dX1_placeIf_15 : decode cX1_placeIf 15 = .ok (.aload_n 2, 1) := dk_44 (dk_at dksX1_placeIf_0 15 rfl rfl)
theorem dX1_placeIf_16 : decode cX1_placeIf 16 = .ok (.invokevirtual 380, 3) := dk_182 1 124 (dk_at dksX1_placeIf_0 16 rfl rfl)
theorem dX1_placeIf_19 : decode cX1_placeIf 19 = .ok (.istore_n 3, 1) := dk_62 (dk_at dksX1_placeIf_0 19 rfl rfl)
theorem dX1_placeIf_20 : decode cX1_placeIf 20 = .ok (.aload_n 0, 1) := dk_42 (dk_at dksX1_placeIf_0 20 rfl rfl)
theorem dX1_placeIf_21 : decode cX1_placeIf 21 = .ok (.getfield 52, 3) := dk_180 0 52 (dk_at dksX1_placeIf_0 21 rfl rfl)
theorem dX1_placeIf_24 : decode cX1_placeIf 24 = .ok (.aload_n 2, 1) := dk_44 (dk_at dksX1_placeIf_1 0 rfl rfl)
theorem dX1_placeIf_25 : decode cX1_placeIf 25 = .ok (.invokevirtual 383, 3) := dk_182 1 127 (dk_at dksX1_placeIf_1 1 rfl rfl)
theorem dX1_placeIf_28 : decode cX1_placeIf 28 = .ok (.ifCond .eq 25, 3) := dk_153 0 25 (dk_at dksX1_placeIf_1 4 rfl rfl)
theorem dX1_placeIf_31 : decode cX1_placeIf 31 = .ok (.aload_n 0, 1) := dk_42 (dk_at dksX1_placeIf_1 7 rfl rfl)
theorem dX1_placeIf_32 : decode cX1_placeIf 32 = .ok (.getfield 52, 3) := dk_180 0 52 (dk_at dksX1_placeIf_1 8 rfl rfl)
theorem dX1_placeIf_35 : decode cX1_placeIf 35 = .ok (.getfield 160, 3) := dk_180 0 160 (dk_at dksX1_placeIf_1 11 rfl rfl)
theorem dX1_placeIf_38 : decode cX1_placeIf 38 = .ok (.iload_n 3, 1) := dk_29 (dk_at dksX1_placeIf_1 14 rfl rfl)
theorem dX1_placeIf_39 : decode cX1_placeIf 39 = .ok (.invokeinterface 164 2, 5) := by decide +kernel
theorem dX1_placeIf_44 : decode cX1_placeIf 44 = .ok (.checkcast 168, 3) := dk_192 0 168 (dk_at dksX1_placeIf_1 20 rfl rfl)
theorem dX1_placeIf_47 : decode cX1_placeIf 47 = .ok (.getfield 246, 3) := dk_180 0 246 (dk_at dksX1_placeIf_2 0 rfl rfl)
theorem dX1_placeIf_50 : decode cX1_placeIf 50 = .ok (.goto 11, 3) := dk_167 0 11 (dk_at dksX1_placeIf_2 3 rfl rfl)
theorem dX1_placeIf_53 : decode cX1_placeIf 53 = .ok (.aload_n 0, 1) := dk_42 (dk_at dksX1_placeIf_2 6 rfl rfl)
theorem dX1_placeIf_54 : decode cX1_placeIf 54 = .ok (.getfield 52, 3) := dk_180 0 52 (dk_at dksX1_placeIf_2 7 rfl rfl)
theorem dX1_placeIf_57 : decode cX1_placeIf 57 = .ok (.iload_n 3, 1) := dk_29 (dk_at dksX1_placeIf_2 10 rfl rfl)
theorem dX1_placeIf_58 : decode cX1_placeIf 58 = .ok (.invokevirtual 387, 3) := dk_182 1 131 (dk_at dksX1_placeIf_2 11 rfl rfl)
theorem dX1_placeIf_61 : decode cX1_placeIf 61 = .ok (.ireturn, 1) := dk_172 (dk_at dksX1_placeIf_2 14 rfl rfl)
theorem dX1_placeIf_62 : decode cX1_placeIf 62 = .ok (.astore_n 2, 1) := dk_77 (dk_at dksX1_placeIf_2 15 rfl rfl)
theorem dX1_placeIf_63 : decode cX1_placeIf 63 = .ok (.aload_n 0, 1) := dk_42 (dk_at dksX1_placeIf_2 16 rfl rfl)
theorem dX1_placeIf_64 : decode cX1_placeIf 64 = .ok (.aload_n 2, 1) := dk_44 (dk_at dksX1_placeIf_2 17 rfl rfl)
theorem dX1_placeIf_65 : decode cX1_placeIf 65 = .ok (.invokevirtual 211, 3) := dk_182 0 211 (dk_at dksX1_placeIf_2 18 rfl rfl)
theorem dX1_placeIf_68 : decode cX1_placeIf 68 = .ok (.ireturn, 1) := dk_172 (dk_at dksX1_placeIf_2 21 rfl rfl)
abbrev cX1_movesIf : ByteArray := prog_1_method_39_code
def yX1_movesIf : MethodName := ⟨RX1, "movesIf", "(I)I"⟩
def dkwX1_movesIf_2 : List UInt8 := [182, 0, 211, 172]
abbrev dktX1_movesIf_2 : List UInt8 := dkwX1_movesIf_2 ++ []
def dkwX1_movesIf_1 : List UInt8 := [167, 0, 18, 42, 180, 0, 52, 42, 180, 0, 52, 44, 182, 1, 124, 182, 1, 134, 172, 77, 42, 44]
abbrev dktX1_movesIf_1 : List UInt8 := dkwX1_movesIf_1 ++ dktX1_movesIf_2
def dkwX1_movesIf_0 : List UInt8 := [42, 27, 182, 0, 200, 42, 27, 182, 1, 121, 77, 42, 180, 0, 52, 44, 182, 1, 127, 153, 0, 7, 3]
abbrev dktX1_movesIf_0 : List UInt8 := dkwX1_movesIf_0 ++ dktX1_movesIf_1
theorem dksX1_movesIf_0 : cX1_movesIf.data.toList.drop 0 = dktX1_movesIf_0 := by decide +kernel
theorem dksX1_movesIf_1 : cX1_movesIf.data.toList.drop 23 = dktX1_movesIf_1 := dk_seg dksX1_movesIf_0 23 rfl rfl
theorem dksX1_movesIf_2 : cX1_movesIf.data.toList.drop 45 = dktX1_movesIf_2 := dk_seg dksX1_movesIf_1 22 rfl rfl
theorem dX1_movesIf_0 : decode cX1_movesIf 0 = .ok (.aload_n 0, 1) := dk_42 (dk_at dksX1_movesIf_0 0 rfl rfl)
theorem dX1_movesIf_1 : decode cX1_movesIf 1 = .ok (.iload_n 1, 1) := dk_27 (dk_at dksX1_movesIf_0 1 rfl rfl)
theorem dX1_movesIf_2 : decode cX1_movesIf 2 = .ok (.invokevirtual 200, 3) := dk_182 0 200 (dk_at dksX1_movesIf_0 2 rfl rfl)
theorem dX1_movesIf_5 : decode cX1_movesIf 5 = .ok (.aload_n 0, 1) := dk_42 (dk_at dksX1_movesIf_0 5 rfl rfl)
theorem dX1_movesIf_6 : decode cX1_movesIf 6 = .ok (.iload_n 1, 1) := dk_27 (dk_at dksX1_movesIf_0 6 rfl rfl)
theorem dX1_movesIf_7 : decode cX1_movesIf 7 = .ok (.invokevirtual 377, 3) := dk_182 1 121 (dk_at dksX1_movesIf_0 7 rfl rfl)
theorem dX1_movesIf_10 : decode cX1_movesIf 10 = .ok (.astore_n 2, 1) := dk_77 (dk_at dksX1_movesIf_0 10 rfl rfl)
theorem dX1_movesIf_11 : decode cX1_movesIf 11 = .ok (.aload_n 0, 1) := dk_42 (dk_at dksX1_movesIf_0 11 rfl rfl)
theorem dX1_movesIf_12 : decode cX1_movesIf 12 = .ok (.getfield 52, 3) := dk_180 0 52 (dk_at dksX1_movesIf_0 12 rfl rfl)
theorem dX1_movesIf_15 : decode cX1_movesIf 15 = .ok (.aload_n 2, 1) := dk_44 (dk_at dksX1_movesIf_0 15 rfl rfl)
theorem dX1_movesIf_16 : decode cX1_movesIf 16 = .ok (.invokevirtual 383, 3) := dk_182 1 127 (dk_at dksX1_movesIf_0 16 rfl rfl)
theorem dX1_movesIf_19 : decode cX1_movesIf 19 = .ok (.ifCond .eq 7, 3) := dk_153 0 7 (dk_at dksX1_movesIf_0 19 rfl rfl)
theorem dX1_movesIf_22 : decode cX1_movesIf 22 = .ok (.iconst 0, 1) := dk_3 (dk_at dksX1_movesIf_0 22 rfl rfl)
theorem dX1_movesIf_23 : decode cX1_movesIf 23 = .ok (.goto 18, 3) := dk_167 0 18 (dk_at dksX1_movesIf_1 0 rfl rfl)
theorem dX1_movesIf_26 : decode cX1_movesIf 26 = .ok (.aload_n 0, 1) := dk_42 (dk_at dksX1_movesIf_1 3 rfl rfl)
theorem dX1_movesIf_27 : decode cX1_movesIf 27 = .ok (.getfield 52, 3) := dk_180 0 52 (dk_at dksX1_movesIf_1 4 rfl rfl)
theorem dX1_movesIf_30 : decode cX1_movesIf 30 = .ok (.aload_n 0, 1) := dk_42 (dk_at dksX1_movesIf_1 7 rfl rfl)
theorem dX1_movesIf_31 : decode cX1_movesIf 31 = .ok (.getfield 52, 3) := dk_180 0 52 (dk_at dksX1_movesIf_1 8 rfl rfl)
theorem dX1_movesIf_34 : decode cX1_movesIf 34 = .ok (.aload_n 2, 1) := dk_44 (dk_at dksX1_movesIf_1 11 rfl rfl)
theorem dX1_movesIf_35 : decode cX1_movesIf 35 = .ok (.invokevirtual 380, 3) := dk_182 1 124 (dk_at dksX1_movesIf_1 12 rfl rfl)
theorem dX1_movesIf_38 : decode cX1_movesIf 38 = .ok (.invokevirtual 390, 3) := dk_182 1 134 (dk_at dksX1_movesIf_1 15 rfl rfl)
theorem dX1_movesIf_41 : decode cX1_movesIf 41 = .ok (.ireturn, 1) := dk_172 (dk_at dksX1_movesIf_1 18 rfl rfl)
theorem dX1_movesIf_42 : decode cX1_movesIf 42 = .ok (.astore_n 2, 1) := dk_77 (dk_at dksX1_movesIf_1 19 rfl rfl)
theorem dX1_movesIf_43 : decode cX1_movesIf 43 = .ok (.aload_n 0, 1) := dk_42 (dk_at dksX1_movesIf_1 20 rfl rfl)
theorem dX1_movesIf_44 : decode cX1_movesIf 44 = .ok (.aload_n 2, 1) := dk_44 (dk_at dksX1_movesIf_1 21 rfl rfl)
theorem dX1_movesIf_45 : decode cX1_movesIf 45 = .ok (.invokevirtual 211, 3) := dk_182 0 211 (dk_at dksX1_movesIf_2 0 rfl rfl)
theorem dX1_movesIf_48 : decode cX1_movesIf 48 = .ok (.ireturn, 1) := dk_172 (dk_at dksX1_movesIf_2 3 rfl rfl)
abbrev cX1_why : ByteArray := prog_1_method_41_code
def yX1_why : MethodName := ⟨RX1, "why", "(I)I"⟩
def dkwX1_why_1 : List UInt8 := [182, 0, 211, 172]
abbrev dktX1_why_1 : List UInt8 := dkwX1_why_1 ++ []
def dkwX1_why_0 : List UInt8 := [42, 27, 182, 0, 200, 42, 2, 181, 0, 44, 42, 42, 27, 182, 1, 121, 182, 1, 144, 172, 77, 42, 44]
abbrev dktX1_why_0 : List UInt8 := dkwX1_why_0 ++ dktX1_why_1
theorem dksX1_why_0 : cX1_why.data.toList.drop 0 = dktX1_why_0 := by decide +kernel
theorem dksX1_why_1 : cX1_why.data.toList.drop 23 = dktX1_why_1 := dk_seg dksX1_why_0 23 rfl rfl
theorem dX1_why_0 : decode cX1_why 0 = .ok (.aload_n 0, 1) := dk_42 (dk_at dksX1_why_0 0 rfl rfl)
theorem dX1_why_1 : decode cX1_why 1 = .ok (.iload_n 1, 1) := dk_27 (dk_at dksX1_why_0 1 rfl rfl)
theorem dX1_why_2 : decode cX1_why 2 = .ok (.invokevirtual 200, 3) := dk_182 0 200 (dk_at dksX1_why_0 2 rfl rfl)
theorem dX1_why_5 : decode cX1_why 5 = .ok (.aload_n 0, 1) := dk_42 (dk_at dksX1_why_0 5 rfl rfl)
theorem dX1_why_6 : decode cX1_why 6 = .ok (.iconst (-1), 1) := dk_2 (dk_at dksX1_why_0 6 rfl rfl)
theorem dX1_why_7 : decode cX1_why 7 = .ok (.putfield 44, 3) := dk_181 0 44 (dk_at dksX1_why_0 7 rfl rfl)
theorem dX1_why_10 : decode cX1_why 10 = .ok (.aload_n 0, 1) := dk_42 (dk_at dksX1_why_0 10 rfl rfl)
theorem dX1_why_11 : decode cX1_why 11 = .ok (.aload_n 0, 1) := dk_42 (dk_at dksX1_why_0 11 rfl rfl)
theorem dX1_why_12 : decode cX1_why 12 = .ok (.iload_n 1, 1) := dk_27 (dk_at dksX1_why_0 12 rfl rfl)
theorem dX1_why_13 : decode cX1_why 13 = .ok (.invokevirtual 377, 3) := dk_182 1 121 (dk_at dksX1_why_0 13 rfl rfl)
theorem dX1_why_16 : decode cX1_why 16 = .ok (.invokevirtual 400, 3) := dk_182 1 144 (dk_at dksX1_why_0 16 rfl rfl)
theorem dX1_why_19 : decode cX1_why 19 = .ok (.ireturn, 1) := dk_172 (dk_at dksX1_why_0 19 rfl rfl)
theorem dX1_why_20 : decode cX1_why 20 = .ok (.astore_n 2, 1) := dk_77 (dk_at dksX1_why_0 20 rfl rfl)
theorem dX1_why_21 : decode cX1_why 21 = .ok (.aload_n 0, 1) := dk_42 (dk_at dksX1_why_0 21 rfl rfl)
theorem dX1_why_22 : decode cX1_why 22 = .ok (.aload_n 2, 1) := dk_44 (dk_at dksX1_why_0 22 rfl rfl)
theorem dX1_why_23 : decode cX1_why 23 = .ok (.invokevirtual 211, 3) := dk_182 0 211 (dk_at dksX1_why_1 0 rfl rfl)
theorem dX1_why_26 : decode cX1_why 26 = .ok (.ireturn, 1) := dk_172 (dk_at dksX1_why_1 3 rfl rfl)
abbrev cX1_reasonFor : ByteArray := prog_1_method_40_code
def yX1_reasonFor : MethodName := ⟨RX1, "reasonFor", "(LSpokenMarks$Mark;)I"⟩
def dkwX1_reasonFor_6 : List UInt8 := [167, 0, 8, 29, 167, 0, 4, 2, 181, 0, 44, 21, 4, 172]
abbrev dktX1_reasonFor_6 : List UInt8 := dkwX1_reasonFor_6 ++ []
def dkwX1_reasonFor_5 : List UInt8 := [42, 180, 0, 52, 180, 0, 160, 28, 185, 0, 164, 2, 0, 192, 0, 168, 180, 0, 243, 167, 0, 12, 28]
abbrev dktX1_reasonFor_5 : List UInt8 := dkwX1_reasonFor_5 ++ dktX1_reasonFor_6
def dkwX1_reasonFor_4 : List UInt8 := [170, 0, 0, 0, 0, 0, 0, 62, 0, 0, 0, 1, 0, 0, 0, 4, 0, 0, 0, 32, 0, 0, 0, 62, 0, 0, 0, 54, 0, 0, 0, 58]
abbrev dktX1_reasonFor_4 : List UInt8 := dkwX1_reasonFor_4 ++ dktX1_reasonFor_5
def dkwX1_reasonFor_3 : List UInt8 := [159, 0, 7, 7, 167, 0, 4, 3, 54, 4, 42, 21, 4]
abbrev dktX1_reasonFor_3 : List UInt8 := dkwX1_reasonFor_3 ++ dktX1_reasonFor_4
def dkwX1_reasonFor_2 : List UInt8 := [160, 0, 7, 5, 167, 0, 28, 42, 180, 0, 52, 28, 182, 1, 140, 153, 0, 7, 6, 167, 0, 13, 29, 2]
abbrev dktX1_reasonFor_2 : List UInt8 := dkwX1_reasonFor_2 ++ dktX1_reasonFor_3
def dkwX1_reasonFor_1 : List UInt8 := [182, 1, 127, 153, 0, 7, 4, 167, 0, 49, 42, 180, 0, 52, 180, 0, 160, 185, 0, 177, 1, 0, 16, 40]
abbrev dktX1_reasonFor_1 : List UInt8 := dkwX1_reasonFor_1 ++ dktX1_reasonFor_2
def dkwX1_reasonFor_0 : List UInt8 := [42, 180, 0, 52, 43, 182, 1, 124, 61, 42, 180, 0, 52, 43, 182, 1, 137, 62, 42, 180, 0, 52, 43]
abbrev dktX1_reasonFor_0 : List UInt8 := dkwX1_reasonFor_0 ++ dktX1_reasonFor_1
theorem dksX1_reasonFor_0 : cX1_reasonFor.data.toList.drop 0 = dktX1_reasonFor_0 := by decide +kernel
theorem dksX1_reasonFor_1 : cX1_reasonFor.data.toList.drop 23 = dktX1_reasonFor_1 := dk_seg dksX1_reasonFor_0 23 rfl rfl
theorem dksX1_reasonFor_2 : cX1_reasonFor.data.toList.drop 47 = dktX1_reasonFor_2 := dk_seg dksX1_reasonFor_1 24 rfl rfl
theorem dksX1_reasonFor_3 : cX1_reasonFor.data.toList.drop 71 = dktX1_reasonFor_3 := dk_seg dksX1_reasonFor_2 24 rfl rfl
theorem dksX1_reasonFor_4 : cX1_reasonFor.data.toList.drop 84 = dktX1_reasonFor_4 := dk_seg dksX1_reasonFor_3 13 rfl rfl
theorem dksX1_reasonFor_5 : cX1_reasonFor.data.toList.drop 116 = dktX1_reasonFor_5 := dk_seg dksX1_reasonFor_4 32 rfl rfl
theorem dksX1_reasonFor_6 : cX1_reasonFor.data.toList.drop 139 = dktX1_reasonFor_6 := dk_seg dksX1_reasonFor_5 23 rfl rfl
theorem dX1_reasonFor_0 : decode cX1_reasonFor 0 = .ok (.aload_n 0, 1) := dk_42 (dk_at dksX1_reasonFor_0 0 rfl rfl)
theorem dX1_reasonFor_1 : decode cX1_reasonFor 1 = .ok (.getfield 52, 3) := dk_180 0 52 (dk_at dksX1_reasonFor_0 1 rfl rfl)
theorem dX1_reasonFor_4 : decode cX1_reasonFor 4 = .ok (.aload_n 1, 1) := dk_43 (dk_at dksX1_reasonFor_0 4 rfl rfl)
theorem dX1_reasonFor_5 : decode cX1_reasonFor 5 = .ok (.invokevirtual 380, 3) := dk_182 1 124 (dk_at dksX1_reasonFor_0 5 rfl rfl)
theorem dX1_reasonFor_8 : decode cX1_reasonFor 8 = .ok (.istore_n 2, 1) := dk_61 (dk_at dksX1_reasonFor_0 8 rfl rfl)
theorem dX1_reasonFor_9 : decode cX1_reasonFor 9 = .ok (.aload_n 0, 1) := dk_42 (dk_at dksX1_reasonFor_0 9 rfl rfl)
theorem dX1_reasonFor_10 : decode cX1_reasonFor 10 = .ok (.getfield 52, 3) := dk_180 0 52 (dk_at dksX1_reasonFor_0 10 rfl rfl)
theorem dX1_reasonFor_13 : decode cX1_reasonFor 13 = .ok (.aload_n 1, 1) := dk_43 (dk_at dksX1_reasonFor_0 13 rfl rfl)
theorem dX1_reasonFor_14 : decode cX1_reasonFor 14 = .ok (.invokevirtual 393, 3) := dk_182 1 137 (dk_at dksX1_reasonFor_0 14 rfl rfl)
theorem dX1_reasonFor_17 : decode cX1_reasonFor 17 = .ok (.istore_n 3, 1) := dk_62 (dk_at dksX1_reasonFor_0 17 rfl rfl)
theorem dX1_reasonFor_18 : decode cX1_reasonFor 18 = .ok (.aload_n 0, 1) := dk_42 (dk_at dksX1_reasonFor_0 18 rfl rfl)
theorem dX1_reasonFor_19 : decode cX1_reasonFor 19 = .ok (.getfield 52, 3) := dk_180 0 52 (dk_at dksX1_reasonFor_0 19 rfl rfl)
theorem dX1_reasonFor_22 : decode cX1_reasonFor 22 = .ok (.aload_n 1, 1) := dk_43 (dk_at dksX1_reasonFor_0 22 rfl rfl)
theorem dX1_reasonFor_23 : decode cX1_reasonFor 23 = .ok (.invokevirtual 383, 3) := dk_182 1 127 (dk_at dksX1_reasonFor_1 0 rfl rfl)
theorem dX1_reasonFor_26 : decode cX1_reasonFor 26 = .ok (.ifCond .eq 7, 3) := dk_153 0 7 (dk_at dksX1_reasonFor_1 3 rfl rfl)
theorem dX1_reasonFor_29 : decode cX1_reasonFor 29 = .ok (.iconst 1, 1) := dk_4 (dk_at dksX1_reasonFor_1 6 rfl rfl)
theorem dX1_reasonFor_30 : decode cX1_reasonFor 30 = .ok (.goto 49, 3) := dk_167 0 49 (dk_at dksX1_reasonFor_1 7 rfl rfl)
theorem dX1_reasonFor_33 : decode cX1_reasonFor 33 = .ok (.aload_n 0, 1) := dk_42 (dk_at dksX1_reasonFor_1 10 rfl rfl)
theorem dX1_reasonFor_34 : decode cX1_reasonFor 34 = .ok (.getfield 52, 3) := dk_180 0 52 (dk_at dksX1_reasonFor_1 11 rfl rfl)
theorem dX1_reasonFor_37 : decode cX1_reasonFor 37 = .ok (.getfield 160, 3) := dk_180 0 160 (dk_at dksX1_reasonFor_1 14 rfl rfl)
theorem dX1_reasonFor_40 : decode cX1_reasonFor 40 = .ok (.invokeinterface 177 1, 5) := by decide +kernel
theorem dX1_reasonFor_45 : decode cX1_reasonFor 45 = .ok (.bipush 40, 2) := dk_16 40 (dk_at dksX1_reasonFor_1 22 rfl rfl)
theorem dX1_reasonFor_47 : decode cX1_reasonFor 47 = .ok (.if_icmp .ne 7, 3) := dk_160 0 7 (dk_at dksX1_reasonFor_2 0 rfl rfl)
theorem dX1_reasonFor_50 : decode cX1_reasonFor 50 = .ok (.iconst 2, 1) := dk_5 (dk_at dksX1_reasonFor_2 3 rfl rfl)
theorem dX1_reasonFor_51 : decode cX1_reasonFor 51 = .ok (.goto 28, 3) := dk_167 0 28 (dk_at dksX1_reasonFor_2 4 rfl rfl)
theorem dX1_reasonFor_54 : decode cX1_reasonFor 54 = .ok (.aload_n 0, 1) := dk_42 (dk_at dksX1_reasonFor_2 7 rfl rfl)
theorem dX1_reasonFor_55 : decode cX1_reasonFor 55 = .ok (.getfield 52, 3) := dk_180 0 52 (dk_at dksX1_reasonFor_2 8 rfl rfl)
theorem dX1_reasonFor_58 : decode cX1_reasonFor 58 = .ok (.iload_n 2, 1) := dk_28 (dk_at dksX1_reasonFor_2 11 rfl rfl)
theorem dX1_reasonFor_59 : decode cX1_reasonFor 59 = .ok (.invokevirtual 396, 3) := dk_182 1 140 (dk_at dksX1_reasonFor_2 12 rfl rfl)
theorem dX1_reasonFor_62 : decode cX1_reasonFor 62 = .ok (.ifCond .eq 7, 3) := dk_153 0 7 (dk_at dksX1_reasonFor_2 15 rfl rfl)
theorem dX1_reasonFor_65 : decode cX1_reasonFor 65 = .ok (.iconst 3, 1) := dk_6 (dk_at dksX1_reasonFor_2 18 rfl rfl)
theorem dX1_reasonFor_66 : decode cX1_reasonFor 66 = .ok (.goto 13, 3) := dk_167 0 13 (dk_at dksX1_reasonFor_2 19 rfl rfl)
theorem dX1_reasonFor_69 : decode cX1_reasonFor 69 = .ok (.iload_n 3, 1) := dk_29 (dk_at dksX1_reasonFor_2 22 rfl rfl)
theorem dX1_reasonFor_70 : decode cX1_reasonFor 70 = .ok (.iconst (-1), 1) := dk_2 (dk_at dksX1_reasonFor_2 23 rfl rfl)
theorem dX1_reasonFor_71 : decode cX1_reasonFor 71 = .ok (.if_icmp .eq 7, 3) := dk_159 0 7 (dk_at dksX1_reasonFor_3 0 rfl rfl)
theorem dX1_reasonFor_74 : decode cX1_reasonFor 74 = .ok (.iconst 4, 1) := dk_7 (dk_at dksX1_reasonFor_3 3 rfl rfl)
theorem dX1_reasonFor_75 : decode cX1_reasonFor 75 = .ok (.goto 4, 3) := dk_167 0 4 (dk_at dksX1_reasonFor_3 4 rfl rfl)
theorem dX1_reasonFor_78 : decode cX1_reasonFor 78 = .ok (.iconst 0, 1) := dk_3 (dk_at dksX1_reasonFor_3 7 rfl rfl)
theorem dX1_reasonFor_79 : decode cX1_reasonFor 79 = .ok (.istore 4, 2) := dk_54 4 (dk_at dksX1_reasonFor_3 8 rfl rfl)
theorem dX1_reasonFor_81 : decode cX1_reasonFor 81 = .ok (.aload_n 0, 1) := dk_42 (dk_at dksX1_reasonFor_3 10 rfl rfl)
theorem dX1_reasonFor_82 : decode cX1_reasonFor 82 = .ok (.iload 4, 2) := dk_21 4 (dk_at dksX1_reasonFor_3 11 rfl rfl)
theorem dX1_reasonFor_84 : decode cX1_reasonFor 84 = .ok (.tableswitch 62 1 4 #[32, 62, 54, 58], 32) := by decide +kernel
theorem dX1_reasonFor_116 : decode cX1_reasonFor 116 = .ok (.aload_n 0, 1) := dk_42 (dk_at dksX1_reasonFor_5 0 rfl rfl)
theorem dX1_reasonFor_117 : decode cX1_reasonFor 117 = .ok (.getfield 52, 3) := dk_180 0 52 (dk_at dksX1_reasonFor_5 1 rfl rfl)
theorem dX1_reasonFor_120 : decode cX1_reasonFor 120 = .ok (.getfield 160, 3) := dk_180 0 160 (dk_at dksX1_reasonFor_5 4 rfl rfl)
theorem dX1_reasonFor_123 : decode cX1_reasonFor 123 = .ok (.iload_n 2, 1) := dk_28 (dk_at dksX1_reasonFor_5 7 rfl rfl)
theorem dX1_reasonFor_124 : decode cX1_reasonFor 124 = .ok (.invokeinterface 164 2, 5) := by decide +kernel
theorem dX1_reasonFor_129 : decode cX1_reasonFor 129 = .ok (.checkcast 168, 3) := dk_192 0 168 (dk_at dksX1_reasonFor_5 13 rfl rfl)
theorem dX1_reasonFor_132 : decode cX1_reasonFor 132 = .ok (.getfield 243, 3) := dk_180 0 243 (dk_at dksX1_reasonFor_5 16 rfl rfl)
theorem dX1_reasonFor_135 : decode cX1_reasonFor 135 = .ok (.goto 12, 3) := dk_167 0 12 (dk_at dksX1_reasonFor_5 19 rfl rfl)
theorem dX1_reasonFor_138 : decode cX1_reasonFor 138 = .ok (.iload_n 2, 1) := dk_28 (dk_at dksX1_reasonFor_5 22 rfl rfl)
theorem dX1_reasonFor_139 : decode cX1_reasonFor 139 = .ok (.goto 8, 3) := dk_167 0 8 (dk_at dksX1_reasonFor_6 0 rfl rfl)
theorem dX1_reasonFor_142 : decode cX1_reasonFor 142 = .ok (.iload_n 3, 1) := dk_29 (dk_at dksX1_reasonFor_6 3 rfl rfl)
theorem dX1_reasonFor_143 : decode cX1_reasonFor 143 = .ok (.goto 4, 3) := dk_167 0 4 (dk_at dksX1_reasonFor_6 4 rfl rfl)
theorem dX1_reasonFor_146 : decode cX1_reasonFor 146 = .ok (.iconst (-1), 1) := dk_2 (dk_at dksX1_reasonFor_6 7 rfl rfl)
theorem dX1_reasonFor_147 : decode cX1_reasonFor 147 = .ok (.putfield 44, 3) := dk_181 0 44 (dk_at dksX1_reasonFor_6 8 rfl rfl)
theorem dX1_reasonFor_150 : decode cX1_reasonFor 150 = .ok (.iload 4, 2) := dk_21 4 (dk_at dksX1_reasonFor_6 11 rfl rfl)
theorem dX1_reasonFor_152 : decode cX1_reasonFor 152 = .ok (.ireturn, 1) := dk_172 (dk_at dksX1_reasonFor_6 13 rfl rfl)
abbrev cX1_filled : ByteArray := prog_1_method_43_code
def yX1_filled : MethodName := ⟨RX1, "filled", "(I)F"⟩
def dkwX1_filled_0 : List UInt8 := [42, 27, 182, 1, 28, 42, 180, 0, 52, 27, 182, 1, 37, 134, 42, 180, 0, 52, 180, 0, 221, 134, 110, 174]
abbrev dktX1_filled_0 : List UInt8 := dkwX1_filled_0 ++ []
theorem dksX1_filled_0 : cX1_filled.data.toList.drop 0 = dktX1_filled_0 := by decide +kernel
theorem dX1_filled_0 : decode cX1_filled 0 = .ok (.aload_n 0, 1) := dk_42 (dk_at dksX1_filled_0 0 rfl rfl)
theorem dX1_filled_1 : decode cX1_filled 1 = .ok (.iload_n 1, 1) := dk_27 (dk_at dksX1_filled_0 1 rfl rfl)
theorem dX1_filled_2 : decode cX1_filled 2 = .ok (.invokevirtual 284, 3) := dk_182 1 28 (dk_at dksX1_filled_0 2 rfl rfl)
theorem dX1_filled_5 : decode cX1_filled 5 = .ok (.aload_n 0, 1) := dk_42 (dk_at dksX1_filled_0 5 rfl rfl)
theorem dX1_filled_6 : decode cX1_filled 6 = .ok (.getfield 52, 3) := dk_180 0 52 (dk_at dksX1_filled_0 6 rfl rfl)
theorem dX1_filled_9 : decode cX1_filled 9 = .ok (.iload_n 1, 1) := dk_27 (dk_at dksX1_filled_0 9 rfl rfl)
theorem dX1_filled_10 : decode cX1_filled 10 = .ok (.invokevirtual 293, 3) := dk_182 1 37 (dk_at dksX1_filled_0 10 rfl rfl)
theorem dX1_filled_13 : decode cX1_filled 13 = .ok (.i2f, 1) := dk_134 (dk_at dksX1_filled_0 13 rfl rfl)
theorem dX1_filled_14 : decode cX1_filled 14 = .ok (.aload_n 0, 1) := dk_42 (dk_at dksX1_filled_0 14 rfl rfl)
theorem dX1_filled_15 : decode cX1_filled 15 = .ok (.getfield 52, 3) := dk_180 0 52 (dk_at dksX1_filled_0 15 rfl rfl)
theorem dX1_filled_18 : decode cX1_filled 18 = .ok (.getfield 221, 3) := dk_180 0 221 (dk_at dksX1_filled_0 18 rfl rfl)
theorem dX1_filled_21 : decode cX1_filled 21 = .ok (.i2f, 1) := dk_134 (dk_at dksX1_filled_0 21 rfl rfl)
theorem dX1_filled_22 : decode cX1_filled 22 = .ok (.fdiv, 1) := dk_110 (dk_at dksX1_filled_0 22 rfl rfl)
theorem dX1_filled_23 : decode cX1_filled 23 = .ok (.freturn, 1) := dk_174 (dk_at dksX1_filled_0 23 rfl rfl)
abbrev cX1_add : ByteArray := prog_1_method_45_code
def yX1_add : MethodName := ⟨RX1, "add", "(II)I"⟩
def dkwX1_add_1 : List UInt8 := [182, 1, 114, 27, 183, 1, 149, 182, 1, 152, 172, 78, 42, 42, 45, 182, 0, 211, 182, 0, 145, 172]
abbrev dktX1_add_1 : List UInt8 := dkwX1_add_1 ++ []
def dkwX1_add_0 : List UInt8 := [27, 4, 16, 20, 184, 0, 16, 184, 0, 189, 42, 28, 182, 0, 200, 42, 187, 1, 147, 89, 42, 28]
abbrev dktX1_add_0 : List UInt8 := dkwX1_add_0 ++ dktX1_add_1
theorem dksX1_add_0 : cX1_add.data.toList.drop 0 = dktX1_add_0 := by decide +kernel
theorem dksX1_add_1 : cX1_add.data.toList.drop 22 = dktX1_add_1 := dk_seg dksX1_add_0 22 rfl rfl
theorem dX1_add_0 : decode cX1_add 0 = .ok (.iload_n 1, 1) := dk_27 (dk_at dksX1_add_0 0 rfl rfl)
theorem dX1_add_1 : decode cX1_add 1 = .ok (.iconst 1, 1) := dk_4 (dk_at dksX1_add_0 1 rfl rfl)
theorem dX1_add_2 : decode cX1_add 2 = .ok (.bipush 20, 2) := dk_16 20 (dk_at dksX1_add_0 2 rfl rfl)
theorem dX1_add_4 : decode cX1_add 4 = .ok (.invokestatic 16, 3) := dk_184 0 16 (dk_at dksX1_add_0 4 rfl rfl)
theorem dX1_add_7 : decode cX1_add 7 = .ok (.invokestatic 189, 3) := dk_184 0 189 (dk_at dksX1_add_0 7 rfl rfl)
theorem dX1_add_10 : decode cX1_add 10 = .ok (.aload_n 0, 1) := dk_42 (dk_at dksX1_add_0 10 rfl rfl)
theorem dX1_add_11 : decode cX1_add 11 = .ok (.iload_n 2, 1) := dk_28 (dk_at dksX1_add_0 11 rfl rfl)
theorem dX1_add_12 : decode cX1_add 12 = .ok (.invokevirtual 200, 3) := dk_182 0 200 (dk_at dksX1_add_0 12 rfl rfl)
theorem dX1_add_15 : decode cX1_add 15 = .ok (.aload_n 0, 1) := dk_42 (dk_at dksX1_add_0 15 rfl rfl)
theorem dX1_add_16 : decode cX1_add 16 = .ok (.new 403, 3) := dk_187 1 147 (dk_at dksX1_add_0 16 rfl rfl)
theorem dX1_add_19 : decode cX1_add 19 = .ok (.dup, 1) := dk_89 (dk_at dksX1_add_0 19 rfl rfl)
theorem dX1_add_20 : decode cX1_add 20 = .ok (.aload_n 0, 1) := dk_42 (dk_at dksX1_add_0 20 rfl rfl)
theorem dX1_add_21 : decode cX1_add 21 = .ok (.iload_n 2, 1) := dk_28 (dk_at dksX1_add_0 21 rfl rfl)
theorem dX1_add_22 : decode cX1_add 22 = .ok (.invokevirtual 370, 3) := dk_182 1 114 (dk_at dksX1_add_1 0 rfl rfl)
theorem dX1_add_25 : decode cX1_add 25 = .ok (.iload_n 1, 1) := dk_27 (dk_at dksX1_add_1 3 rfl rfl)
theorem dX1_add_26 : decode cX1_add 26 = .ok (.invokespecial 405, 3) := dk_183 1 149 (dk_at dksX1_add_1 4 rfl rfl)
theorem dX1_add_29 : decode cX1_add 29 = .ok (.invokevirtual 408, 3) := dk_182 1 152 (dk_at dksX1_add_1 7 rfl rfl)
theorem dX1_add_32 : decode cX1_add 32 = .ok (.ireturn, 1) := dk_172 (dk_at dksX1_add_1 10 rfl rfl)
theorem dX1_add_33 : decode cX1_add 33 = .ok (.astore_n 3, 1) := dk_78 (dk_at dksX1_add_1 11 rfl rfl)
theorem dX1_add_34 : decode cX1_add 34 = .ok (.aload_n 0, 1) := dk_42 (dk_at dksX1_add_1 12 rfl rfl)
theorem dX1_add_35 : decode cX1_add 35 = .ok (.aload_n 0, 1) := dk_42 (dk_at dksX1_add_1 13 rfl rfl)
theorem dX1_add_36 : decode cX1_add 36 = .ok (.aload_n 3, 1) := dk_45 (dk_at dksX1_add_1 14 rfl rfl)
theorem dX1_add_37 : decode cX1_add 37 = .ok (.invokevirtual 211, 3) := dk_182 0 211 (dk_at dksX1_add_1 15 rfl rfl)
theorem dX1_add_40 : decode cX1_add 40 = .ok (.invokevirtual 145, 3) := dk_182 0 145 (dk_at dksX1_add_1 18 rfl rfl)
theorem dX1_add_43 : decode cX1_add 43 = .ok (.ireturn, 1) := dk_172 (dk_at dksX1_add_1 21 rfl rfl)
abbrev cX1_drop : ByteArray := prog_1_method_46_code
def yX1_drop : MethodName := ⟨RX1, "drop", "(I)I"⟩
def dkwX1_drop_0 : List UInt8 := [42, 27, 182, 0, 170, 77, 42, 187, 1, 156, 89, 27, 183, 1, 158, 182, 1, 152, 172]
abbrev dktX1_drop_0 : List UInt8 := dkwX1_drop_0 ++ []
theorem dksX1_drop_0 : cX1_drop.data.toList.drop 0 = dktX1_drop_0 := by decide +kernel
theorem dX1_drop_0 : decode cX1_drop 0 = .ok (.aload_n 0, 1) := dk_42 (dk_at dksX1_drop_0 0 rfl rfl)
theorem dX1_drop_1 : decode cX1_drop 1 = .ok (.iload_n 1, 1) := dk_27 (dk_at dksX1_drop_0 1 rfl rfl)
theorem dX1_drop_2 : decode cX1_drop 2 = .ok (.invokevirtual 170, 3) := dk_182 0 170 (dk_at dksX1_drop_0 2 rfl rfl)
theorem dX1_drop_5 : decode cX1_drop 5 = .ok (.astore_n 2, 1) := dk_77 (dk_at dksX1_drop_0 5 rfl rfl)
theorem dX1_drop_6 : decode cX1_drop 6 = .ok (.aload_n 0, 1) := dk_42 (dk_at dksX1_drop_0 6 rfl rfl)
theorem dX1_drop_7 : decode cX1_drop 7 = .ok (.new 412, 3) := dk_187 1 156 (dk_at dksX1_drop_0 7 rfl rfl)
theorem dX1_drop_10 : decode cX1_drop 10 = .ok (.dup, 1) := dk_89 (dk_at dksX1_drop_0 10 rfl rfl)
theorem dX1_drop_11 : decode cX1_drop 11 = .ok (.iload_n 1, 1) := dk_27 (dk_at dksX1_drop_0 11 rfl rfl)
theorem dX1_drop_12 : decode cX1_drop 12 = .ok (.invokespecial 414, 3) := dk_183 1 158 (dk_at dksX1_drop_0 12 rfl rfl)
theorem dX1_drop_15 : decode cX1_drop 15 = .ok (.invokevirtual 408, 3) := dk_182 1 152 (dk_at dksX1_drop_0 15 rfl rfl)
theorem dX1_drop_18 : decode cX1_drop 18 = .ok (.ireturn, 1) := dk_172 (dk_at dksX1_drop_0 18 rfl rfl)
abbrev cX1_say : ByteArray := prog_1_method_47_code
def yX1_say : MethodName := ⟨RX1, "say", "(I)I"⟩
def dkwX1_say_2 : List UInt8 := [182, 0, 145, 172]
abbrev dktX1_say_2 : List UInt8 := dkwX1_say_2 ++ []
def dkwX1_say_1 : List UInt8 := [182, 1, 92, 42, 187, 1, 163, 89, 45, 183, 1, 165, 182, 1, 152, 172, 77, 42, 42, 44, 182, 0, 211]
abbrev dktX1_say_1 : List UInt8 := dkwX1_say_1 ++ dktX1_say_2
def dkwX1_say_0 : List UInt8 := [42, 27, 182, 0, 200, 187, 1, 81, 89, 42, 180, 0, 29, 27, 183, 1, 83, 77, 44, 182, 1, 159, 78, 44]
abbrev dktX1_say_0 : List UInt8 := dkwX1_say_0 ++ dktX1_say_1
theorem dksX1_say_0 : cX1_say.data.toList.drop 0 = dktX1_say_0 := by decide +kernel
theorem dksX1_say_1 : cX1_say.data.toList.drop 24 = dktX1_say_1 := dk_seg dksX1_say_0 24 rfl rfl
theorem dksX1_say_2 : cX1_say.data.toList.drop 47 = dktX1_say_2 := dk_seg dksX1_say_1 23 rfl rfl
theorem dX1_say_0 : decode cX1_say 0 = .ok (.aload_n 0, 1) := dk_42 (dk_at dksX1_say_0 0 rfl rfl)
theorem dX1_say_1 : decode cX1_say 1 = .ok (.iload_n 1, 1) := dk_27 (dk_at dksX1_say_0 1 rfl rfl)
theorem dX1_say_2 : decode cX1_say 2 = .ok (.invokevirtual 200, 3) := dk_182 0 200 (dk_at dksX1_say_0 2 rfl rfl)
theorem dX1_say_5 : decode cX1_say 5 = .ok (.new 337, 3) := dk_187 1 81 (dk_at dksX1_say_0 5 rfl rfl)
theorem dX1_say_8 : decode cX1_say 8 = .ok (.dup, 1) := dk_89 (dk_at dksX1_say_0 8 rfl rfl)
theorem dX1_say_9 : decode cX1_say 9 = .ok (.aload_n 0, 1) := dk_42 (dk_at dksX1_say_0 9 rfl rfl)
theorem dX1_say_10 : decode cX1_say 10 = .ok (.getfield 29, 3) := dk_180 0 29 (dk_at dksX1_say_0 10 rfl rfl)
theorem dX1_say_13 : decode cX1_say 13 = .ok (.iload_n 1, 1) := dk_27 (dk_at dksX1_say_0 13 rfl rfl)
theorem dX1_say_14 : decode cX1_say 14 = .ok (.invokespecial 339, 3) := dk_183 1 83 (dk_at dksX1_say_0 14 rfl rfl)
theorem dX1_say_17 : decode cX1_say 17 = .ok (.astore_n 2, 1) := dk_77 (dk_at dksX1_say_0 17 rfl rfl)
theorem dX1_say_18 : decode cX1_say 18 = .ok (.aload_n 2, 1) := dk_44 (dk_at dksX1_say_0 18 rfl rfl)
theorem dX1_say_19 : decode cX1_say 19 = .ok (.invokevirtual 415, 3) := dk_182 1 159 (dk_at dksX1_say_0 19 rfl rfl)
theorem dX1_say_22 : decode cX1_say 22 = .ok (.astore_n 3, 1) := dk_78 (dk_at dksX1_say_0 22 rfl rfl)
theorem dX1_say_23 : decode cX1_say 23 = .ok (.aload_n 2, 1) := dk_44 (dk_at dksX1_say_0 23 rfl rfl)
theorem dX1_say_24 : decode cX1_say 24 = .ok (.invokevirtual 348, 3) := dk_182 1 92 (dk_at dksX1_say_1 0 rfl rfl)
theorem dX1_say_27 : decode cX1_say 27 = .ok (.aload_n 0, 1) := dk_42 (dk_at dksX1_say_1 3 rfl rfl)
theorem dX1_say_28 : decode cX1_say 28 = .ok (.new 419, 3) := dk_187 1 163 (dk_at dksX1_say_1 4 rfl rfl)
theorem dX1_say_31 : decode cX1_say 31 = .ok (.dup, 1) := dk_89 (dk_at dksX1_say_1 7 rfl rfl)
theorem dX1_say_32 : decode cX1_say 32 = .ok (.aload_n 3, 1) := dk_45 (dk_at dksX1_say_1 8 rfl rfl)
theorem dX1_say_33 : decode cX1_say 33 = .ok (.invokespecial 421, 3) := dk_183 1 165 (dk_at dksX1_say_1 9 rfl rfl)
theorem dX1_say_36 : decode cX1_say 36 = .ok (.invokevirtual 408, 3) := dk_182 1 152 (dk_at dksX1_say_1 12 rfl rfl)
theorem dX1_say_39 : decode cX1_say 39 = .ok (.ireturn, 1) := dk_172 (dk_at dksX1_say_1 15 rfl rfl)
theorem dX1_say_40 : decode cX1_say 40 = .ok (.astore_n 2, 1) := dk_77 (dk_at dksX1_say_1 16 rfl rfl)
theorem dX1_say_41 : decode cX1_say 41 = .ok (.aload_n 0, 1) := dk_42 (dk_at dksX1_say_1 17 rfl rfl)
theorem dX1_say_42 : decode cX1_say 42 = .ok (.aload_n 0, 1) := dk_42 (dk_at dksX1_say_1 18 rfl rfl)
theorem dX1_say_43 : decode cX1_say 43 = .ok (.aload_n 2, 1) := dk_44 (dk_at dksX1_say_1 19 rfl rfl)
theorem dX1_say_44 : decode cX1_say 44 = .ok (.invokevirtual 211, 3) := dk_182 0 211 (dk_at dksX1_say_1 20 rfl rfl)
theorem dX1_say_47 : decode cX1_say 47 = .ok (.invokevirtual 145, 3) := dk_182 0 145 (dk_at dksX1_say_2 0 rfl rfl)
theorem dX1_say_50 : decode cX1_say 50 = .ok (.ireturn, 1) := dk_172 (dk_at dksX1_say_2 3 rfl rfl)
abbrev cX1_unsay : ByteArray := prog_1_method_48_code
def yX1_unsay : MethodName := ⟨RX1, "unsay", "(I)I"⟩
def dkwX1_unsay_0 : List UInt8 := [42, 27, 182, 1, 19, 42, 187, 1, 168, 89, 27, 183, 1, 170, 182, 1, 152, 172]
abbrev dktX1_unsay_0 : List UInt8 := dkwX1_unsay_0 ++ []
theorem dksX1_unsay_0 : cX1_unsay.data.toList.drop 0 = dktX1_unsay_0 := by decide +kernel
theorem dX1_unsay_0 : decode cX1_unsay 0 = .ok (.aload_n 0, 1) := dk_42 (dk_at dksX1_unsay_0 0 rfl rfl)
theorem dX1_unsay_1 : decode cX1_unsay 1 = .ok (.iload_n 1, 1) := dk_27 (dk_at dksX1_unsay_0 1 rfl rfl)
theorem dX1_unsay_2 : decode cX1_unsay 2 = .ok (.invokevirtual 275, 3) := dk_182 1 19 (dk_at dksX1_unsay_0 2 rfl rfl)
theorem dX1_unsay_5 : decode cX1_unsay 5 = .ok (.aload_n 0, 1) := dk_42 (dk_at dksX1_unsay_0 5 rfl rfl)
theorem dX1_unsay_6 : decode cX1_unsay 6 = .ok (.new 424, 3) := dk_187 1 168 (dk_at dksX1_unsay_0 6 rfl rfl)
theorem dX1_unsay_9 : decode cX1_unsay 9 = .ok (.dup, 1) := dk_89 (dk_at dksX1_unsay_0 9 rfl rfl)
theorem dX1_unsay_10 : decode cX1_unsay 10 = .ok (.iload_n 1, 1) := dk_27 (dk_at dksX1_unsay_0 10 rfl rfl)
theorem dX1_unsay_11 : decode cX1_unsay 11 = .ok (.invokespecial 426, 3) := dk_183 1 170 (dk_at dksX1_unsay_0 11 rfl rfl)
theorem dX1_unsay_14 : decode cX1_unsay 14 = .ok (.invokevirtual 408, 3) := dk_182 1 152 (dk_at dksX1_unsay_0 14 rfl rfl)
theorem dX1_unsay_17 : decode cX1_unsay 17 = .ok (.ireturn, 1) := dk_172 (dk_at dksX1_unsay_0 17 rfl rfl)
abbrev cX1_setWidth : ByteArray := prog_1_method_49_code
def yX1_setWidth : MethodName := ⟨RX1, "setWidth", "(II)I"⟩
def dkwX1_setWidth_1 : List UInt8 := [183, 1, 173, 182, 1, 152, 172]
abbrev dktX1_setWidth_1 : List UInt8 := dkwX1_setWidth_1 ++ []
def dkwX1_setWidth_0 : List UInt8 := [42, 27, 182, 0, 170, 78, 28, 4, 16, 20, 184, 0, 16, 184, 0, 189, 42, 187, 1, 171, 89, 27, 28]
abbrev dktX1_setWidth_0 : List UInt8 := dkwX1_setWidth_0 ++ dktX1_setWidth_1
theorem dksX1_setWidth_0 : cX1_setWidth.data.toList.drop 0 = dktX1_setWidth_0 := by decide +kernel
theorem dksX1_setWidth_1 : cX1_setWidth.data.toList.drop 23 = dktX1_setWidth_1 := dk_seg dksX1_setWidth_0 23 rfl rfl
theorem dX1_setWidth_0 : decode cX1_setWidth 0 = .ok (.aload_n 0, 1) := dk_42 (dk_at dksX1_setWidth_0 0 rfl rfl)
theorem dX1_setWidth_1 : decode cX1_setWidth 1 = .ok (.iload_n 1, 1) := dk_27 (dk_at dksX1_setWidth_0 1 rfl rfl)
theorem dX1_setWidth_2 : decode cX1_setWidth 2 = .ok (.invokevirtual 170, 3) := dk_182 0 170 (dk_at dksX1_setWidth_0 2 rfl rfl)
theorem dX1_setWidth_5 : decode cX1_setWidth 5 = .ok (.astore_n 3, 1) := dk_78 (dk_at dksX1_setWidth_0 5 rfl rfl)
theorem dX1_setWidth_6 : decode cX1_setWidth 6 = .ok (.iload_n 2, 1) := dk_28 (dk_at dksX1_setWidth_0 6 rfl rfl)
theorem dX1_setWidth_7 : decode cX1_setWidth 7 = .ok (.iconst 1, 1) := dk_4 (dk_at dksX1_setWidth_0 7 rfl rfl)
theorem dX1_setWidth_8 : decode cX1_setWidth 8 = .ok (.bipush 20, 2) := dk_16 20 (dk_at dksX1_setWidth_0 8 rfl rfl)
theorem dX1_setWidth_10 : decode cX1_setWidth 10 = .ok (.invokestatic 16, 3) := dk_184 0 16 (dk_at dksX1_setWidth_0 10 rfl rfl)
theorem dX1_setWidth_13 : decode cX1_setWidth 13 = .ok (.invokestatic 189, 3) := dk_184 0 189 (dk_at dksX1_setWidth_0 13 rfl rfl)
theorem dX1_setWidth_16 : decode cX1_setWidth 16 = .ok (.aload_n 0, 1) := dk_42 (dk_at dksX1_setWidth_0 16 rfl rfl)
theorem dX1_setWidth_17 : decode cX1_setWidth 17 = .ok (.new 427, 3) := dk_187 1 171 (dk_at dksX1_setWidth_0 17 rfl rfl)
theorem dX1_setWidth_20 : decode cX1_setWidth 20 = .ok (.dup, 1) := dk_89 (dk_at dksX1_setWidth_0 20 rfl rfl)
theorem dX1_setWidth_21 : decode cX1_setWidth 21 = .ok (.iload_n 1, 1) := dk_27 (dk_at dksX1_setWidth_0 21 rfl rfl)
theorem dX1_setWidth_22 : decode cX1_setWidth 22 = .ok (.iload_n 2, 1) := dk_28 (dk_at dksX1_setWidth_0 22 rfl rfl)
theorem dX1_setWidth_23 : decode cX1_setWidth 23 = .ok (.invokespecial 429, 3) := dk_183 1 173 (dk_at dksX1_setWidth_1 0 rfl rfl)
theorem dX1_setWidth_26 : decode cX1_setWidth 26 = .ok (.invokevirtual 408, 3) := dk_182 1 152 (dk_at dksX1_setWidth_1 3 rfl rfl)
theorem dX1_setWidth_29 : decode cX1_setWidth 29 = .ok (.ireturn, 1) := dk_172 (dk_at dksX1_setWidth_1 6 rfl rfl)
abbrev cX1_setBound : ByteArray := prog_1_method_50_code
def yX1_setBound : MethodName := ⟨RX1, "setBound", "(II)I"⟩
def dkwX1_setBound_1 : List UInt8 := [183, 1, 176, 182, 1, 152, 172]
abbrev dktX1_setBound_1 : List UInt8 := dkwX1_setBound_1 ++ []
def dkwX1_setBound_0 : List UInt8 := [42, 27, 182, 1, 28, 28, 3, 17, 39, 16, 184, 0, 16, 184, 0, 189, 42, 187, 1, 174, 89, 27, 28]
abbrev dktX1_setBound_0 : List UInt8 := dkwX1_setBound_0 ++ dktX1_setBound_1
theorem dksX1_setBound_0 : cX1_setBound.data.toList.drop 0 = dktX1_setBound_0 := by decide +kernel
theorem dksX1_setBound_1 : cX1_setBound.data.toList.drop 23 = dktX1_setBound_1 := dk_seg dksX1_setBound_0 23 rfl rfl
theorem dX1_setBound_0 : decode cX1_setBound 0 = .ok (.aload_n 0, 1) := dk_42 (dk_at dksX1_setBound_0 0 rfl rfl)
theorem dX1_setBound_1 : decode cX1_setBound 1 = .ok (.iload_n 1, 1) := dk_27 (dk_at dksX1_setBound_0 1 rfl rfl)
theorem dX1_setBound_2 : decode cX1_setBound 2 = .ok (.invokevirtual 284, 3) := dk_182 1 28 (dk_at dksX1_setBound_0 2 rfl rfl)
theorem dX1_setBound_5 : decode cX1_setBound 5 = .ok (.iload_n 2, 1) := dk_28 (dk_at dksX1_setBound_0 5 rfl rfl)
theorem dX1_setBound_6 : decode cX1_setBound 6 = .ok (.iconst 0, 1) := dk_3 (dk_at dksX1_setBound_0 6 rfl rfl)
theorem dX1_setBound_7 : decode cX1_setBound 7 = .ok (.sipush 10000, 3) := dk_17 39 16 (dk_at dksX1_setBound_0 7 rfl rfl)
theorem dX1_setBound_10 : decode cX1_setBound 10 = .ok (.invokestatic 16, 3) := dk_184 0 16 (dk_at dksX1_setBound_0 10 rfl rfl)
theorem dX1_setBound_13 : decode cX1_setBound 13 = .ok (.invokestatic 189, 3) := dk_184 0 189 (dk_at dksX1_setBound_0 13 rfl rfl)
theorem dX1_setBound_16 : decode cX1_setBound 16 = .ok (.aload_n 0, 1) := dk_42 (dk_at dksX1_setBound_0 16 rfl rfl)
theorem dX1_setBound_17 : decode cX1_setBound 17 = .ok (.new 430, 3) := dk_187 1 174 (dk_at dksX1_setBound_0 17 rfl rfl)
theorem dX1_setBound_20 : decode cX1_setBound 20 = .ok (.dup, 1) := dk_89 (dk_at dksX1_setBound_0 20 rfl rfl)
theorem dX1_setBound_21 : decode cX1_setBound 21 = .ok (.iload_n 1, 1) := dk_27 (dk_at dksX1_setBound_0 21 rfl rfl)
theorem dX1_setBound_22 : decode cX1_setBound 22 = .ok (.iload_n 2, 1) := dk_28 (dk_at dksX1_setBound_0 22 rfl rfl)
theorem dX1_setBound_23 : decode cX1_setBound 23 = .ok (.invokespecial 432, 3) := dk_183 1 176 (dk_at dksX1_setBound_1 0 rfl rfl)
theorem dX1_setBound_26 : decode cX1_setBound 26 = .ok (.invokevirtual 408, 3) := dk_182 1 152 (dk_at dksX1_setBound_1 3 rfl rfl)
theorem dX1_setBound_29 : decode cX1_setBound 29 = .ok (.ireturn, 1) := dk_172 (dk_at dksX1_setBound_1 6 rfl rfl)
abbrev cX1_play : ByteArray := prog_1_method_53_code
def yX1_play : MethodName := ⟨RX1, "play", "(I)I"⟩
def dkwX1_play_3 : List UInt8 := [132, 3, 1, 167, 255, 219, 29, 172, 77, 42, 44, 182, 0, 211, 172]
abbrev dktX1_play_3 : List UInt8 := dkwX1_play_3 ++ []
def dkwX1_play_2 : List UInt8 := [42, 44, 29, 185, 0, 164, 2, 0, 192, 0, 140, 42, 180, 0, 52, 182, 0, 139, 182, 0, 145, 155, 0, 9]
abbrev dktX1_play_2 : List UInt8 := dkwX1_play_2 ++ dktX1_play_3
def dkwX1_play_1 : List UInt8 := [77, 42, 42, 180, 0, 52, 182, 0, 135, 182, 0, 149, 3, 62, 29, 44, 185, 0, 177, 1, 0, 162, 0, 33]
abbrev dktX1_play_1 : List UInt8 := dkwX1_play_1 ++ dktX1_play_2
def dkwX1_play_0 : List UInt8 := [42, 27, 182, 0, 200, 187, 1, 181, 89, 42, 180, 0, 29, 27, 42, 180, 0, 52, 183, 1, 183, 182, 1, 186]
abbrev dktX1_play_0 : List UInt8 := dkwX1_play_0 ++ dktX1_play_1
theorem dksX1_play_0 : cX1_play.data.toList.drop 0 = dktX1_play_0 := by decide +kernel
theorem dksX1_play_1 : cX1_play.data.toList.drop 24 = dktX1_play_1 := dk_seg dksX1_play_0 24 rfl rfl
theorem dksX1_play_2 : cX1_play.data.toList.drop 48 = dktX1_play_2 := dk_seg dksX1_play_1 24 rfl rfl
theorem dksX1_play_3 : cX1_play.data.toList.drop 72 = dktX1_play_3 := dk_seg dksX1_play_2 24 rfl rfl
theorem dX1_play_0 : decode cX1_play 0 = .ok (.aload_n 0, 1) := dk_42 (dk_at dksX1_play_0 0 rfl rfl)
theorem dX1_play_1 : decode cX1_play 1 = .ok (.iload_n 1, 1) := dk_27 (dk_at dksX1_play_0 1 rfl rfl)
theorem dX1_play_2 : decode cX1_play 2 = .ok (.invokevirtual 200, 3) := dk_182 0 200 (dk_at dksX1_play_0 2 rfl rfl)
theorem dX1_play_5 : decode cX1_play 5 = .ok (.new 437, 3) := dk_187 1 181 (dk_at dksX1_play_0 5 rfl rfl)
theorem dX1_play_8 : decode cX1_play 8 = .ok (.dup, 1) := dk_89 (dk_at dksX1_play_0 8 rfl rfl)
theorem dX1_play_9 : decode cX1_play 9 = .ok (.aload_n 0, 1) := dk_42 (dk_at dksX1_play_0 9 rfl rfl)
theorem dX1_play_10 : decode cX1_play 10 = .ok (.getfield 29, 3) := dk_180 0 29 (dk_at dksX1_play_0 10 rfl rfl)
theorem dX1_play_13 : decode cX1_play 13 = .ok (.iload_n 1, 1) := dk_27 (dk_at dksX1_play_0 13 rfl rfl)
theorem dX1_play_14 : decode cX1_play 14 = .ok (.aload_n 0, 1) := dk_42 (dk_at dksX1_play_0 14 rfl rfl)
theorem dX1_play_15 : decode cX1_play 15 = .ok (.getfield 52, 3) := dk_180 0 52 (dk_at dksX1_play_0 15 rfl rfl)
theorem dX1_play_18 : decode cX1_play 18 = .ok (.invokespecial 439, 3) := dk_183 1 183 (dk_at dksX1_play_0 18 rfl rfl)
theorem dX1_play_21 : decode cX1_play 21 = .ok (.invokevirtual 442, 3) := dk_182 1 186 (dk_at dksX1_play_0 21 rfl rfl)
theorem dX1_play_24 : decode cX1_play 24 = .ok (.astore_n 2, 1) := dk_77 (dk_at dksX1_play_1 0 rfl rfl)
theorem dX1_play_25 : decode cX1_play 25 = .ok (.aload_n 0, 1) := dk_42 (dk_at dksX1_play_1 1 rfl rfl)
theorem dX1_play_26 : decode cX1_play 26 = .ok (.aload_n 0, 1) := dk_42 (dk_at dksX1_play_1 2 rfl rfl)
theorem dX1_play_27 : decode cX1_play 27 = .ok (.getfield 52, 3) := dk_180 0 52 (dk_at dksX1_play_1 3 rfl rfl)
theorem dX1_play_30 : decode cX1_play 30 = .ok (.invokevirtual 135, 3) := dk_182 0 135 (dk_at dksX1_play_1 6 rfl rfl)
theorem dX1_play_33 : decode cX1_play 33 = .ok (.invokevirtual 149, 3) := dk_182 0 149 (dk_at dksX1_play_1 9 rfl rfl)
theorem dX1_play_36 : decode cX1_play 36 = .ok (.iconst 0, 1) := dk_3 (dk_at dksX1_play_1 12 rfl rfl)
theorem dX1_play_37 : decode cX1_play 37 = .ok (.istore_n 3, 1) := dk_62 (dk_at dksX1_play_1 13 rfl rfl)
theorem dX1_play_38 : decode cX1_play 38 = .ok (.iload_n 3, 1) := dk_29 (dk_at dksX1_play_1 14 rfl rfl)
theorem dX1_play_39 : decode cX1_play 39 = .ok (.aload_n 2, 1) := dk_44 (dk_at dksX1_play_1 15 rfl rfl)
theorem dX1_play_40 : decode cX1_play 40 = .ok (.invokeinterface 177 1, 5) := by decide +kernel
theorem dX1_play_45 : decode cX1_play 45 = .ok (.if_icmp .ge 33, 3) := dk_162 0 33 (dk_at dksX1_play_1 21 rfl rfl)
theorem dX1_play_48 : decode cX1_play 48 = .ok (.aload_n 0, 1) := dk_42 (dk_at dksX1_play_2 0 rfl rfl)
theorem dX1_play_49 : decode cX1_play 49 = .ok (.aload_n 2, 1) := dk_44 (dk_at dksX1_play_2 1 rfl rfl)
theorem dX1_play_50 : decode cX1_play 50 = .ok (.iload_n 3, 1) := dk_29 (dk_at dksX1_play_2 2 rfl rfl)
theorem dX1_play_51 : decode cX1_play 51 = .ok (.invokeinterface 164 2, 5) := by decide +kernel
theorem dX1_play_56 : decode cX1_play 56 = .ok (.checkcast 140, 3) := dk_192 0 140 (dk_at dksX1_play_2 8 rfl rfl)
theorem dX1_play_59 : decode cX1_play 59 = .ok (.aload_n 0, 1) := dk_42 (dk_at dksX1_play_2 11 rfl rfl)
theorem dX1_play_60 : decode cX1_play 60 = .ok (.getfield 52, 3) := dk_180 0 52 (dk_at dksX1_play_2 12 rfl rfl)
theorem dX1_play_63 : decode cX1_play 63 = .ok (.invokevirtual 139, 3) := dk_182 0 139 (dk_at dksX1_play_2 15 rfl rfl)
theorem dX1_play_66 : decode cX1_play 66 = .ok (.invokevirtual 145, 3) := dk_182 0 145 (dk_at dksX1_play_2 18 rfl rfl)
theorem dX1_play_69 : decode cX1_play 69 = .ok (.ifCond .lt 9, 3) := dk_155 0 9 (dk_at dksX1_play_2 21 rfl rfl)
theorem dX1_play_72 : decode cX1_play 72 = .ok (.iinc 3 1, 3) := dk_132 3 1 (dk_at dksX1_play_3 0 rfl rfl)
theorem dX1_play_75 : decode cX1_play 75 = .ok (.goto (-37), 3) := dk_167 255 219 (dk_at dksX1_play_3 3 rfl rfl)
theorem dX1_play_78 : decode cX1_play 78 = .ok (.iload_n 3, 1) := dk_29 (dk_at dksX1_play_3 6 rfl rfl)
theorem dX1_play_79 : decode cX1_play 79 = .ok (.ireturn, 1) := dk_172 (dk_at dksX1_play_3 7 rfl rfl)
theorem dX1_play_80 : decode cX1_play 80 = .ok (.astore_n 2, 1) := dk_77 (dk_at dksX1_play_3 8 rfl rfl)
theorem dX1_play_81 : decode cX1_play 81 = .ok (.aload_n 0, 1) := dk_42 (dk_at dksX1_play_3 9 rfl rfl)
theorem dX1_play_82 : decode cX1_play 82 = .ok (.aload_n 2, 1) := dk_44 (dk_at dksX1_play_3 10 rfl rfl)
theorem dX1_play_83 : decode cX1_play 83 = .ok (.invokevirtual 211, 3) := dk_182 0 211 (dk_at dksX1_play_3 11 rfl rfl)
theorem dX1_play_86 : decode cX1_play 86 = .ok (.ireturn, 1) := dk_172 (dk_at dksX1_play_3 14 rfl rfl)
abbrev cX1_format : ByteArray := prog_1_method_55_code
def yX1_format : MethodName := ⟨RX1, "format", "(I)I"⟩
def dkwX1_format_3 : List UInt8 := [132, 4, 1, 167, 255, 203, 42, 45, 182, 1, 211, 181, 0, 58, 42, 180, 0, 58, 182, 0, 10, 172]
abbrev dktX1_format_3 : List UInt8 := dkwX1_format_3 ++ []
def dkwX1_format_2 : List UInt8 := [182, 1, 189, 87, 44, 180, 0, 174, 21, 4, 185, 0, 164, 2, 0, 192, 0, 178, 45, 184, 1, 207]
abbrev dktX1_format_2 : List UInt8 := dkwX1_format_2 ++ dktX1_format_3
def dkwX1_format_1 : List UInt8 := [185, 0, 177, 1, 0, 162, 0, 45, 45, 21, 4, 158, 0, 9, 19, 1, 205, 167, 0, 5, 18, 56]
abbrev dktX1_format_1 : List UInt8 := dkwX1_format_1 ++ dktX1_format_2
def dkwX1_format_0 : List UInt8 := [42, 27, 182, 0, 170, 77, 187, 1, 190, 89, 183, 1, 204, 78, 3, 54, 4, 21, 4, 44, 180, 0, 174]
abbrev dktX1_format_0 : List UInt8 := dkwX1_format_0 ++ dktX1_format_1
theorem dksX1_format_0 : cX1_format.data.toList.drop 0 = dktX1_format_0 := by decide +kernel
theorem dksX1_format_1 : cX1_format.data.toList.drop 23 = dktX1_format_1 := dk_seg dksX1_format_0 23 rfl rfl
theorem dksX1_format_2 : cX1_format.data.toList.drop 45 = dktX1_format_2 := dk_seg dksX1_format_1 22 rfl rfl
theorem dksX1_format_3 : cX1_format.data.toList.drop 67 = dktX1_format_3 := dk_seg dksX1_format_2 22 rfl rfl
theorem dX1_format_0 : decode cX1_format 0 = .ok (.aload_n 0, 1) := dk_42 (dk_at dksX1_format_0 0 rfl rfl)
theorem dX1_format_1 : decode cX1_format 1 = .ok (.iload_n 1, 1) := dk_27 (dk_at dksX1_format_0 1 rfl rfl)
theorem dX1_format_2 : decode cX1_format 2 = .ok (.invokevirtual 170, 3) := dk_182 0 170 (dk_at dksX1_format_0 2 rfl rfl)
theorem dX1_format_5 : decode cX1_format 5 = .ok (.astore_n 2, 1) := dk_77 (dk_at dksX1_format_0 5 rfl rfl)
theorem dX1_format_6 : decode cX1_format 6 = .ok (.new 446, 3) := dk_187 1 190 (dk_at dksX1_format_0 6 rfl rfl)
theorem dX1_format_9 : decode cX1_format 9 = .ok (.dup, 1) := dk_89 (dk_at dksX1_format_0 9 rfl rfl)
theorem dX1_format_10 : decode cX1_format 10 = .ok (.invokespecial 460, 3) := dk_183 1 204 (dk_at dksX1_format_0 10 rfl rfl)
theorem dX1_format_13 : decode cX1_format 13 = .ok (.astore_n 3, 1) := dk_78 (dk_at dksX1_format_0 13 rfl rfl)
theorem dX1_format_14 : decode cX1_format 14 = .ok (.iconst 0, 1) := dk_3 (dk_at dksX1_format_0 14 rfl rfl)
theorem dX1_format_15 : decode cX1_format 15 = .ok (.istore 4, 2) := dk_54 4 (dk_at dksX1_format_0 15 rfl rfl)
theorem dX1_format_17 : decode cX1_format 17 = .ok (.iload 4, 2) := dk_21 4 (dk_at dksX1_format_0 17 rfl rfl)
theorem dX1_format_19 : decode cX1_format 19 = .ok (.aload_n 2, 1) := dk_44 (dk_at dksX1_format_0 19 rfl rfl)
theorem dX1_format_20 : decode cX1_format 20 = .ok (.getfield 174, 3) := dk_180 0 174 (dk_at dksX1_format_0 20 rfl rfl)
theorem dX1_format_23 : decode cX1_format 23 = .ok (.invokeinterface 177 1, 5) := by decide +kernel
theorem dX1_format_28 : decode cX1_format 28 = .ok (.if_icmp .ge 45, 3) := dk_162 0 45 (dk_at dksX1_format_1 5 rfl rfl)
theorem dX1_format_31 : decode cX1_format 31 = .ok (.aload_n 3, 1) := dk_45 (dk_at dksX1_format_1 8 rfl rfl)
theorem dX1_format_32 : decode cX1_format 32 = .ok (.iload 4, 2) := dk_21 4 (dk_at dksX1_format_1 9 rfl rfl)
theorem dX1_format_34 : decode cX1_format 34 = .ok (.ifCond .le 9, 3) := dk_158 0 9 (dk_at dksX1_format_1 11 rfl rfl)
theorem dX1_format_37 : decode cX1_format 37 = .ok (.ldc_w 461, 3) := dk_19 1 205 (dk_at dksX1_format_1 14 rfl rfl)
theorem dX1_format_40 : decode cX1_format 40 = .ok (.goto 5, 3) := dk_167 0 5 (dk_at dksX1_format_1 17 rfl rfl)
theorem dX1_format_43 : decode cX1_format 43 = .ok (.ldc 56, 2) := dk_18 56 (dk_at dksX1_format_1 20 rfl rfl)
theorem dX1_format_45 : decode cX1_format 45 = .ok (.invokevirtual 445, 3) := dk_182 1 189 (dk_at dksX1_format_2 0 rfl rfl)
theorem dX1_format_48 : decode cX1_format 48 = .ok (.pop, 1) := dk_87 (dk_at dksX1_format_2 3 rfl rfl)
theorem dX1_format_49 : decode cX1_format 49 = .ok (.aload_n 2, 1) := dk_44 (dk_at dksX1_format_2 4 rfl rfl)
theorem dX1_format_50 : decode cX1_format 50 = .ok (.getfield 174, 3) := dk_180 0 174 (dk_at dksX1_format_2 5 rfl rfl)
theorem dX1_format_53 : decode cX1_format 53 = .ok (.iload 4, 2) := dk_21 4 (dk_at dksX1_format_2 8 rfl rfl)
theorem dX1_format_55 : decode cX1_format 55 = .ok (.invokeinterface 164 2, 5) := by decide +kernel
theorem dX1_format_60 : decode cX1_format 60 = .ok (.checkcast 178, 3) := dk_192 0 178 (dk_at dksX1_format_2 15 rfl rfl)
theorem dX1_format_63 : decode cX1_format 63 = .ok (.aload_n 3, 1) := dk_45 (dk_at dksX1_format_2 18 rfl rfl)
theorem dX1_format_64 : decode cX1_format 64 = .ok (.invokestatic 463, 3) := dk_184 1 207 (dk_at dksX1_format_2 19 rfl rfl)
theorem dX1_format_67 : decode cX1_format 67 = .ok (.iinc 4 1, 3) := dk_132 4 1 (dk_at dksX1_format_3 0 rfl rfl)
theorem dX1_format_70 : decode cX1_format 70 = .ok (.goto (-53), 3) := dk_167 255 203 (dk_at dksX1_format_3 3 rfl rfl)
theorem dX1_format_73 : decode cX1_format 73 = .ok (.aload_n 0, 1) := dk_42 (dk_at dksX1_format_3 6 rfl rfl)
theorem dX1_format_74 : decode cX1_format 74 = .ok (.aload_n 3, 1) := dk_45 (dk_at dksX1_format_3 7 rfl rfl)
theorem dX1_format_75 : decode cX1_format 75 = .ok (.invokevirtual 467, 3) := dk_182 1 211 (dk_at dksX1_format_3 8 rfl rfl)
theorem dX1_format_78 : decode cX1_format 78 = .ok (.putfield 58, 3) := dk_181 0 58 (dk_at dksX1_format_3 11 rfl rfl)
theorem dX1_format_81 : decode cX1_format 81 = .ok (.aload_n 0, 1) := dk_42 (dk_at dksX1_format_3 14 rfl rfl)
theorem dX1_format_82 : decode cX1_format 82 = .ok (.getfield 58, 3) := dk_180 0 58 (dk_at dksX1_format_3 15 rfl rfl)
theorem dX1_format_85 : decode cX1_format 85 = .ok (.invokevirtual 10, 3) := dk_182 0 10 (dk_at dksX1_format_3 18 rfl rfl)
theorem dX1_format_88 : decode cX1_format 88 = .ok (.ireturn, 1) := dk_172 (dk_at dksX1_format_3 21 rfl rfl)
abbrev cX1_write : ByteArray := prog_1_method_54_code
def yX1_write : MethodName := ⟨RX1, "write", "(LSpokenMarks$Part;Ljava/lang/StringBuilder;)V"⟩
def dkwX1_write_2 : List UInt8 := [182, 1, 189, 87, 167, 0, 15, 43, 42, 192, 0, 104, 180, 1, 4, 182, 1, 201, 87, 177]
abbrev dktX1_write_2 : List UInt8 := dkwX1_write_2 ++ []
def dkwX1_write_1 : List UInt8 := [180, 1, 9, 44, 180, 1, 12, 182, 1, 195, 154, 0, 32, 43, 16, 47, 182, 1, 198, 44, 180, 1, 9]
abbrev dktX1_write_1 : List UInt8 := dkwX1_write_1 ++ dktX1_write_2
def dkwX1_write_0 : List UInt8 := [42, 193, 1, 7, 153, 0, 48, 42, 192, 1, 7, 77, 43, 44, 180, 1, 12, 182, 1, 189, 87, 44]
abbrev dktX1_write_0 : List UInt8 := dkwX1_write_0 ++ dktX1_write_1
theorem dksX1_write_0 : cX1_write.data.toList.drop 0 = dktX1_write_0 := by decide +kernel
theorem dksX1_write_1 : cX1_write.data.toList.drop 22 = dktX1_write_1 := dk_seg dksX1_write_0 22 rfl rfl
theorem dksX1_write_2 : cX1_write.data.toList.drop 45 = dktX1_write_2 := dk_seg dksX1_write_1 23 rfl rfl
theorem dX1_write_0 : decode cX1_write 0 = .ok (.aload_n 0, 1) := dk_42 (dk_at dksX1_write_0 0 rfl rfl)
theorem dX1_write_1 : decode cX1_write 1 = .ok (.instanceof 263, 3) := dk_193 1 7 (dk_at dksX1_write_0 1 rfl rfl)
theorem dX1_write_4 : decode cX1_write 4 = .ok (.ifCond .eq 48, 3) := dk_153 0 48 (dk_at dksX1_write_0 4 rfl rfl)
theorem dX1_write_7 : decode cX1_write 7 = .ok (.aload_n 0, 1) := dk_42 (dk_at dksX1_write_0 7 rfl rfl)
theorem dX1_write_8 : decode cX1_write 8 = .ok (.checkcast 263, 3) := dk_192 1 7 (dk_at dksX1_write_0 8 rfl rfl)
theorem dX1_write_11 : decode cX1_write 11 = .ok (.astore_n 2, 1) := dk_77 (dk_at dksX1_write_0 11 rfl rfl)
theorem dX1_write_12 : decode cX1_write 12 = .ok (.aload_n 1, 1) := dk_43 (dk_at dksX1_write_0 12 rfl rfl)
theorem dX1_write_13 : decode cX1_write 13 = .ok (.aload_n 2, 1) := dk_44 (dk_at dksX1_write_0 13 rfl rfl)
theorem dX1_write_14 : decode cX1_write 14 = .ok (.getfield 268, 3) := dk_180 1 12 (dk_at dksX1_write_0 14 rfl rfl)
theorem dX1_write_17 : decode cX1_write 17 = .ok (.invokevirtual 445, 3) := dk_182 1 189 (dk_at dksX1_write_0 17 rfl rfl)
theorem dX1_write_20 : decode cX1_write 20 = .ok (.pop, 1) := dk_87 (dk_at dksX1_write_0 20 rfl rfl)
theorem dX1_write_21 : decode cX1_write 21 = .ok (.aload_n 2, 1) := dk_44 (dk_at dksX1_write_0 21 rfl rfl)
theorem dX1_write_22 : decode cX1_write 22 = .ok (.getfield 265, 3) := dk_180 1 9 (dk_at dksX1_write_1 0 rfl rfl)
theorem dX1_write_25 : decode cX1_write 25 = .ok (.aload_n 2, 1) := dk_44 (dk_at dksX1_write_1 3 rfl rfl)
theorem dX1_write_26 : decode cX1_write 26 = .ok (.getfield 268, 3) := dk_180 1 12 (dk_at dksX1_write_1 4 rfl rfl)
theorem dX1_write_29 : decode cX1_write 29 = .ok (.invokevirtual 451, 3) := dk_182 1 195 (dk_at dksX1_write_1 7 rfl rfl)
theorem dX1_write_32 : decode cX1_write 32 = .ok (.ifCond .ne 32, 3) := dk_154 0 32 (dk_at dksX1_write_1 10 rfl rfl)
theorem dX1_write_35 : decode cX1_write 35 = .ok (.aload_n 1, 1) := dk_43 (dk_at dksX1_write_1 13 rfl rfl)
theorem dX1_write_36 : decode cX1_write 36 = .ok (.bipush 47, 2) := dk_16 47 (dk_at dksX1_write_1 14 rfl rfl)
theorem dX1_write_38 : decode cX1_write 38 = .ok (.invokevirtual 454, 3) := dk_182 1 198 (dk_at dksX1_write_1 16 rfl rfl)
theorem dX1_write_41 : decode cX1_write 41 = .ok (.aload_n 2, 1) := dk_44 (dk_at dksX1_write_1 19 rfl rfl)
theorem dX1_write_42 : decode cX1_write 42 = .ok (.getfield 265, 3) := dk_180 1 9 (dk_at dksX1_write_1 20 rfl rfl)
theorem dX1_write_45 : decode cX1_write 45 = .ok (.invokevirtual 445, 3) := dk_182 1 189 (dk_at dksX1_write_2 0 rfl rfl)
theorem dX1_write_48 : decode cX1_write 48 = .ok (.pop, 1) := dk_87 (dk_at dksX1_write_2 3 rfl rfl)
theorem dX1_write_49 : decode cX1_write 49 = .ok (.goto 15, 3) := dk_167 0 15 (dk_at dksX1_write_2 4 rfl rfl)
theorem dX1_write_52 : decode cX1_write 52 = .ok (.aload_n 1, 1) := dk_43 (dk_at dksX1_write_2 7 rfl rfl)
theorem dX1_write_53 : decode cX1_write 53 = .ok (.aload_n 0, 1) := dk_42 (dk_at dksX1_write_2 8 rfl rfl)
theorem dX1_write_54 : decode cX1_write 54 = .ok (.checkcast 104, 3) := dk_192 0 104 (dk_at dksX1_write_2 9 rfl rfl)
theorem dX1_write_57 : decode cX1_write 57 = .ok (.getfield 260, 3) := dk_180 1 4 (dk_at dksX1_write_2 12 rfl rfl)
theorem dX1_write_60 : decode cX1_write 60 = .ok (.invokevirtual 457, 3) := dk_182 1 201 (dk_at dksX1_write_2 15 rfl rfl)
theorem dX1_write_63 : decode cX1_write 63 = .ok (.pop, 1) := dk_87 (dk_at dksX1_write_2 18 rfl rfl)
theorem dX1_write_64 : decode cX1_write 64 = .ok (.return_, 1) := dk_177 (dk_at dksX1_write_2 19 rfl rfl)
theorem q120 : (Jvm.Cond.initialized "SpokenMarks") ∈ lw_all := lw_g (lw_at lw_m1 1 rfl) rfl
theorem q175 : (Jvm.Cond.instantiable "SpokenMarks" (11 : Nat)) ∈ lw_all := lw_g (lw_at lw_m1 56 rfl) rfl
theorem q177 : (Jvm.Cond.instanceMethod ({ cls := "SpokenMarks", name := "<init>", desc := "()V" } : Jvm.MethodName)) ∈ lw_all := lw_g (lw_at lw_m1 58 rfl) rfl
theorem q178 : (Jvm.Cond.code ({ cls := "SpokenMarks", name := "<init>", desc := "()V" } : Jvm.MethodName) prog_1_method_6_code (6 : Nat) (Option.none : Option Jvm.ClassFile.FieldType)) ∈ lw_all := lw_g (lw_at lw_m1 59 rfl) rfl
theorem q179 : (Jvm.Cond.methodLink "SpokenMarks" (26 : Nat) ({ cls := "java/lang/Object", name := "<init>", desc := "()V" } : Jvm.MethodName)) ∈ lw_all := lw_g (lw_at lw_m1 60 rfl) rfl
theorem q182 : (Jvm.Cond.classLink "SpokenMarks" (33 : Nat) "java/util/ArrayDeque") ∈ lw_all := lw_g (lw_at lw_m1 63 rfl) rfl
theorem q184 : (Jvm.Cond.methodLink "SpokenMarks" (35 : Nat) ({ cls := "java/util/ArrayDeque", name := "<init>", desc := "()V" } : Jvm.MethodName)) ∈ lw_all := lw_g (lw_at lw_m1 65 rfl) rfl
theorem q204 : (Jvm.Cond.classLink "SpokenMarks" (47 : Nat) "SpokenMarks$Catalogue") ∈ lw_all := lw_g (lw_at lw_m1 85 rfl) rfl
theorem q206 : (Jvm.Cond.methodLink "SpokenMarks" (49 : Nat) ({ cls := "SpokenMarks$Catalogue", name := "<init>", desc := "(II)V" } : Jvm.MethodName)) ∈ lw_all := lw_g (lw_at lw_m1 87 rfl) rfl
theorem q591 : (Jvm.Cond.fieldLinkNest "SpokenMarks" (180 : Nat) "SpokenMarks$Catalogue" "shelves" "I" "SpokenMarks") ∈ lw_tbl := lw_at lw_m2 232 rfl
theorem q593 : (Jvm.Cond.fieldLinkNest "SpokenMarks" (221 : Nat) "SpokenMarks$Catalogue" "room" "I" "SpokenMarks") ∈ lw_tbl := lw_at lw_m2 234 rfl
theorem q596 : (Jvm.Cond.fieldLinkNest "SpokenMarks" (287 : Nat) "SpokenMarks$Catalogue" "bounds" "[I" "SpokenMarks") ∈ lw_tbl := lw_at lw_m2 237 rfl
theorem q602 : (Jvm.Cond.fieldLinkNest "SpokenMarks" (160 : Nat) "SpokenMarks$Catalogue" "marks" "Ljava/util/List;" "SpokenMarks") ∈ lw_tbl := lw_at lw_m3 3 rfl
theorem q607 : (Jvm.Cond.fieldLinkNest "SpokenMarks" (183 : Nat) "SpokenMarks$Catalogue" "rules" "Ljava/util/List;" "SpokenMarks") ∈ lw_tbl := lw_at lw_m3 8 rfl
theorem q610 : (Jvm.Cond.fieldLinkNest "SpokenMarks" (306 : Nat) "SpokenMarks$Catalogue" "order" "Ljava/util/Comparator;" "SpokenMarks") ∈ lw_tbl := lw_at lw_m3 11 rfl
theorem q612 : (Jvm.Cond.fieldLinkNest "SpokenMarks" (239 : Nat) "SpokenMarks$Catalogue" "accounts" "[I" "SpokenMarks") ∈ lw_tbl := lw_at lw_m3 13 rfl
theorem q614 : (Jvm.Cond.fieldLinkNest "SpokenMarks" (224 : Nat) "SpokenMarks$Catalogue" "nextId" "I" "SpokenMarks") ∈ lw_tbl := lw_at lw_m3 15 rfl
theorem q635 : (Jvm.Cond.stringRef "SpokenMarks" (56 : Nat) "") ∈ lw_tbl := lw_at lw_m3 36 rfl
theorem q636 : (Jvm.Cond.classLink "SpokenMarks" (62 : Nat) "SpokenMarks$Rule") ∈ lw_all := lw_g (lw_at lw_m3 37 rfl) rfl
theorem q638 : (Jvm.Cond.stringRef "SpokenMarks" (64 : Nat) "cough") ∈ lw_tbl := lw_at lw_m3 39 rfl
theorem q639 : (Jvm.Cond.stringRef "SpokenMarks" (66 : Nat) "koff") ∈ lw_tbl := lw_at lw_m3 40 rfl
theorem q640 : (Jvm.Cond.methodLink "SpokenMarks" (68 : Nat) ({ cls := "SpokenMarks$Rule", name := "<init>", desc := "(Ljava/lang/String;Ljava/lang/String;)V" } : Jvm.MethodName)) ∈ lw_all := lw_g (lw_at lw_m3 41 rfl) rfl
theorem q647 : (Jvm.Cond.fieldLinkNest "SpokenMarks" (281 : Nat) "SpokenMarks$Rule" "first" "Ljava/lang/String;" "SpokenMarks") ∈ lw_tbl := lw_at lw_m3 48 rfl
theorem q650 : (Jvm.Cond.fieldLinkNest "SpokenMarks" (278 : Nat) "SpokenMarks$Rule" "second" "Ljava/lang/String;" "SpokenMarks") ∈ lw_tbl := lw_at lw_m3 51 rfl
theorem q656 : (Jvm.Cond.methodLink "SpokenMarks" (71 : Nat) ({ cls := "SpokenMarks$Catalogue", name := "say", desc := "(LSpokenMarks$Rule;)I" } : Jvm.MethodName)) ∈ lw_all := lw_g (lw_at lw_m3 57 rfl) rfl
theorem q691 : (Jvm.Cond.selects "SpokenMarks" ({ cls := "java/lang/Object", name := "getClass", desc := "()Ljava/lang/Class;" } : Jvm.MethodName) ({ cls := "java/lang/Object", name := "getClass", desc := "()Ljava/lang/Class;" } : Jvm.MethodName)) ∈ lw_all := lw_g (lw_at lw_m3 92 rfl) rfl
theorem q751 : (Jvm.Cond.selects "SpokenMarks" ({ cls := "java/lang/Object", name := "hashCode", desc := "()I" } : Jvm.MethodName) ({ cls := "java/lang/Object", name := "hashCode", desc := "()I" } : Jvm.MethodName)) ∈ lw_all := lw_g (lw_at lw_m3 152 rfl) rfl
theorem q1158 : (Jvm.Cond.selects "SpokenMarks" ({ cls := "java/lang/Object", name := "equals", desc := "(Ljava/lang/Object;)Z" } : Jvm.MethodName) ({ cls := "java/lang/Object", name := "equals", desc := "(Ljava/lang/Object;)Z" } : Jvm.MethodName)) ∈ lw_all := lw_g (lw_at lw_m5 79 rfl) rfl
theorem q1522 : (Jvm.Cond.fieldLinkNest "SpokenMarks" (268 : Nat) "SpokenMarks$Word" "letters" "Ljava/lang/String;" "SpokenMarks") ∈ lw_tbl := lw_at lw_m6 203 rfl
theorem q1526 : (Jvm.Cond.fieldLinkNest "SpokenMarks" (265 : Nat) "SpokenMarks$Word" "ear" "Ljava/lang/String;" "SpokenMarks") ∈ lw_tbl := lw_at lw_m6 207 rfl
theorem q1538 : (Jvm.Cond.fieldLinkNest "SpokenMarks" (243 : Nat) "SpokenMarks$Mark" "id" "I" "SpokenMarks") ∈ lw_tbl := lw_at lw_m6 219 rfl
theorem q1541 : (Jvm.Cond.fieldLinkNest "SpokenMarks" (174 : Nat) "SpokenMarks$Mark" "parts" "Ljava/util/List;" "SpokenMarks") ∈ lw_tbl := lw_at lw_m6 222 rfl
theorem q1546 : (Jvm.Cond.fieldLinkNest "SpokenMarks" (247 : Nat) "SpokenMarks$Mark" "width" "I" "SpokenMarks") ∈ lw_tbl := lw_at lw_m6 227 rfl
theorem q1549 : (Jvm.Cond.fieldLinkNest "SpokenMarks" (246 : Nat) "SpokenMarks$Mark" "place" "I" "SpokenMarks") ∈ lw_tbl := lw_at lw_m6 230 rfl
theorem q1644 : (Jvm.Cond.static ({ cls := "SpokenMarks", name := "bit", desc := "(Z)I" } : Jvm.MethodName)) ∈ lw_all := lw_g (lw_at lw_m7 85 rfl) rfl
theorem q1645 : (Jvm.Cond.code ({ cls := "SpokenMarks", name := "bit", desc := "(Z)I" } : Jvm.MethodName) prog_1_method_2_code (1 : Nat) (Option.some Jvm.ClassFile.FieldType.int)) ∈ lw_all := lw_g (lw_at lw_m7 86 rfl) rfl
theorem q1646 : (Jvm.Cond.stringRef "SpokenMarks" (75 : Nat) "qa") ∈ lw_tbl := lw_at lw_m7 87 rfl
theorem q1647 : (Jvm.Cond.stringRef "SpokenMarks" (77 : Nat) "smith") ∈ lw_tbl := lw_at lw_m7 88 rfl
theorem q1648 : (Jvm.Cond.methodLink "SpokenMarks" (79 : Nat) ({ cls := "SpokenMarks", name := "begin", desc := "(ILjava/lang/String;ILjava/lang/String;)V" } : Jvm.MethodName)) ∈ lw_all := lw_g (lw_at lw_m7 89 rfl) rfl
theorem q1649 : (Jvm.Cond.privateMethod ({ cls := "SpokenMarks", name := "begin", desc := "(ILjava/lang/String;ILjava/lang/String;)V" } : Jvm.MethodName)) ∈ lw_tbl := lw_at lw_m7 90 rfl
theorem q1650 : (Jvm.Cond.instanceMethod ({ cls := "SpokenMarks", name := "begin", desc := "(ILjava/lang/String;ILjava/lang/String;)V" } : Jvm.MethodName)) ∈ lw_all := lw_g (lw_at lw_m7 91 rfl) rfl
theorem q1651 : (Jvm.Cond.code ({ cls := "SpokenMarks", name := "begin", desc := "(ILjava/lang/String;ILjava/lang/String;)V" } : Jvm.MethodName) prog_1_method_7_code (7 : Nat) (Option.none : Option Jvm.ClassFile.FieldType)) ∈ lw_all := lw_g (lw_at lw_m7 92 rfl) rfl
theorem q1652 : (Jvm.Cond.classLink "SpokenMarks" (87 : Nat) "java/util/ArrayList") ∈ lw_all := lw_g (lw_at lw_m7 93 rfl) rfl
theorem q1653 : (Jvm.Cond.methodLink "SpokenMarks" (89 : Nat) ({ cls := "java/util/ArrayList", name := "<init>", desc := "(I)V" } : Jvm.MethodName)) ∈ lw_all := lw_g (lw_at lw_m7 94 rfl) rfl
theorem q1654 : (Jvm.Cond.methodLink "SpokenMarks" (94 : Nat) ({ cls := "SpokenMarks$Catalogue", name := "heard", desc := "(Ljava/lang/String;)LSpokenMarks$Word;" } : Jvm.MethodName)) ∈ lw_all := lw_g (lw_at lw_m7 95 rfl) rfl
theorem q1655 : (Jvm.Cond.interfaceEntry "SpokenMarks" (98 : Nat)) ∈ lw_tbl := lw_at lw_m7 96 rfl
theorem q1656 : (Jvm.Cond.methodLink "SpokenMarks" (98 : Nat) ({ cls := "java/util/List", name := "add", desc := "(Ljava/lang/Object;)Z" } : Jvm.MethodName)) ∈ lw_all := lw_g (lw_at lw_m7 97 rfl) rfl
theorem q1657 : (Jvm.Cond.classLink "SpokenMarks" (104 : Nat) "SpokenMarks$Figure") ∈ lw_all := lw_g (lw_at lw_m7 98 rfl) rfl
theorem q1659 : (Jvm.Cond.methodLink "SpokenMarks" (106 : Nat) ({ cls := "SpokenMarks$Figure", name := "<init>", desc := "(I)V" } : Jvm.MethodName)) ∈ lw_all := lw_g (lw_at lw_m7 100 rfl) rfl
theorem q1665 : (Jvm.Cond.fieldLinkNest "SpokenMarks" (260 : Nat) "SpokenMarks$Figure" "number" "I" "SpokenMarks") ∈ lw_tbl := lw_at lw_m7 106 rfl
theorem q1669 : (Jvm.Cond.methodLink "SpokenMarks" (110 : Nat) ({ cls := "java/lang/String", name := "isEmpty", desc := "()Z" } : Jvm.MethodName)) ∈ lw_all := lw_g (lw_at lw_m7 110 rfl) rfl
theorem q1673 : (Jvm.Cond.methodLink "SpokenMarks" (107 : Nat) ({ cls := "SpokenMarks$Catalogue", name := "add", desc := "(Ljava/util/List;I)I" } : Jvm.MethodName)) ∈ lw_all := lw_g (lw_at lw_m7 114 rfl) rfl
theorem q1689 : (Jvm.Cond.stringRef "SpokenMarks" (83 : Nat) "smyth") ∈ lw_tbl := lw_at lw_m7 130 rfl
theorem q1690 : (Jvm.Cond.stringRef "SpokenMarks" (85 : Nat) "phase") ∈ lw_tbl := lw_at lw_m7 131 rfl
theorem q1691 : (Jvm.Cond.stringRef "SpokenMarks" (92 : Nat) "fase") ∈ lw_tbl := lw_at lw_m7 132 rfl
theorem q1692 : (Jvm.Cond.fieldLink "SpokenMarks" (29 : Nat) "SpokenMarks" "buffer" "[B") ∈ lw_all := lw_g (lw_at lw_m7 133 rfl) rfl
theorem q1693 : (Jvm.Cond.fieldLink "SpokenMarks" (36 : Nat) "SpokenMarks" "history" "Ljava/util/ArrayDeque;") ∈ lw_all := lw_g (lw_at lw_m7 134 rfl) rfl
theorem q1694 : (Jvm.Cond.fieldLink "SpokenMarks" (186 : Nat) "SpokenMarks" "bufferLength" "I") ∈ lw_all := lw_g (lw_at lw_m7 135 rfl) rfl
theorem q1695 : (Jvm.Cond.fieldLink "SpokenMarks" (40 : Nat) "SpokenMarks" "errorPosition" "I") ∈ lw_all := lw_g (lw_at lw_m7 136 rfl) rfl
theorem q1696 : (Jvm.Cond.fieldLink "SpokenMarks" (44 : Nat) "SpokenMarks" "cause" "I") ∈ lw_all := lw_g (lw_at lw_m7 137 rfl) rfl
theorem q1697 : (Jvm.Cond.fieldLink "SpokenMarks" (125 : Nat) "SpokenMarks" "done" "I") ∈ lw_all := lw_g (lw_at lw_m7 138 rfl) rfl
theorem q1698 : (Jvm.Cond.fieldLink "SpokenMarks" (132 : Nat) "SpokenMarks" "refused" "I") ∈ lw_all := lw_g (lw_at lw_m7 139 rfl) rfl
theorem q1699 : (Jvm.Cond.fieldLink "SpokenMarks" (236 : Nat) "SpokenMarks" "undone" "I") ∈ lw_all := lw_g (lw_at lw_m7 140 rfl) rfl
theorem q1700 : (Jvm.Cond.fieldLink "SpokenMarks" (52 : Nat) "SpokenMarks" "catalogue" "LSpokenMarks$Catalogue;") ∈ lw_all := lw_g (lw_at lw_m7 141 rfl) rfl
theorem q1701 : (Jvm.Cond.fieldLink "SpokenMarks" (218 : Nat) "SpokenMarks" "snapshot" "LSpokenMarks$Catalogue;") ∈ lw_all := lw_g (lw_at lw_m7 142 rfl) rfl
theorem q1702 : (Jvm.Cond.fieldLink "SpokenMarks" (58 : Nat) "SpokenMarks" "formatted" "Ljava/lang/String;") ∈ lw_all := lw_g (lw_at lw_m7 143 rfl) rfl
theorem q1703 : (Jvm.Cond.laysFinal "SpokenMarks" "SpokenMarks" "buffer" "[B") ∈ lw_all := lw_g (lw_at lw_m7 144 rfl) rfl
theorem q1704 : (Jvm.Cond.soleField "SpokenMarks" "buffer") ∈ lw_all := lw_g (lw_at lw_m7 145 rfl) rfl
theorem q1705 : (Jvm.Cond.laysFinal "SpokenMarks" "SpokenMarks" "history" "Ljava/util/ArrayDeque;") ∈ lw_all := lw_g (lw_at lw_m7 146 rfl) rfl
theorem q1706 : (Jvm.Cond.soleField "SpokenMarks" "history") ∈ lw_all := lw_g (lw_at lw_m7 147 rfl) rfl
theorem q1707 : (Jvm.Cond.lays "SpokenMarks" "SpokenMarks" "bufferLength" "I") ∈ lw_all := lw_g (lw_at lw_m7 148 rfl) rfl
theorem q1708 : (Jvm.Cond.soleField "SpokenMarks" "bufferLength") ∈ lw_all := lw_g (lw_at lw_m7 149 rfl) rfl
theorem q1709 : (Jvm.Cond.lays "SpokenMarks" "SpokenMarks" "errorPosition" "I") ∈ lw_all := lw_g (lw_at lw_m7 150 rfl) rfl
theorem q1710 : (Jvm.Cond.soleField "SpokenMarks" "errorPosition") ∈ lw_all := lw_g (lw_at lw_m7 151 rfl) rfl
theorem q1711 : (Jvm.Cond.lays "SpokenMarks" "SpokenMarks" "cause" "I") ∈ lw_all := lw_g (lw_at lw_m7 152 rfl) rfl
theorem q1712 : (Jvm.Cond.soleField "SpokenMarks" "cause") ∈ lw_all := lw_g (lw_at lw_m7 153 rfl) rfl
theorem q1713 : (Jvm.Cond.lays "SpokenMarks" "SpokenMarks" "done" "I") ∈ lw_all := lw_g (lw_at lw_m7 154 rfl) rfl
theorem q1714 : (Jvm.Cond.soleField "SpokenMarks" "done") ∈ lw_all := lw_g (lw_at lw_m7 155 rfl) rfl
theorem q1715 : (Jvm.Cond.lays "SpokenMarks" "SpokenMarks" "refused" "I") ∈ lw_all := lw_g (lw_at lw_m7 156 rfl) rfl
theorem q1716 : (Jvm.Cond.soleField "SpokenMarks" "refused") ∈ lw_all := lw_g (lw_at lw_m7 157 rfl) rfl
theorem q1717 : (Jvm.Cond.lays "SpokenMarks" "SpokenMarks" "undone" "I") ∈ lw_all := lw_g (lw_at lw_m7 158 rfl) rfl
theorem q1718 : (Jvm.Cond.soleField "SpokenMarks" "undone") ∈ lw_all := lw_g (lw_at lw_m7 159 rfl) rfl
theorem q1719 : (Jvm.Cond.lays "SpokenMarks" "SpokenMarks" "catalogue" "LSpokenMarks$Catalogue;") ∈ lw_all := lw_g (lw_at lw_m7 160 rfl) rfl
theorem q1720 : (Jvm.Cond.soleField "SpokenMarks" "catalogue") ∈ lw_all := lw_g (lw_at lw_m7 161 rfl) rfl
theorem q1721 : (Jvm.Cond.lays "SpokenMarks" "SpokenMarks" "snapshot" "LSpokenMarks$Catalogue;") ∈ lw_all := lw_g (lw_at lw_m7 162 rfl) rfl
theorem q1722 : (Jvm.Cond.soleField "SpokenMarks" "snapshot") ∈ lw_all := lw_g (lw_at lw_m7 163 rfl) rfl
theorem q1723 : (Jvm.Cond.lays "SpokenMarks" "SpokenMarks" "formatted" "Ljava/lang/String;") ∈ lw_all := lw_g (lw_at lw_m7 164 rfl) rfl
theorem q1724 : (Jvm.Cond.soleField "SpokenMarks" "formatted") ∈ lw_all := lw_g (lw_at lw_m7 165 rfl) rfl
theorem q1725 : (Jvm.Cond.superclass "SpokenMarks" "java/lang/Object") ∈ lw_all := lw_g (lw_at lw_m7 166 rfl) rfl
theorem q1727 : (Jvm.Cond.instanceMethod ({ cls := "SpokenMarks", name := "feed", desc := "(IIIII)I" } : Jvm.MethodName)) ∈ lw_all := lw_g (lw_at lw_m7 168 rfl) rfl
theorem q1728 : (Jvm.Cond.selects "SpokenMarks" ({ cls := "SpokenMarks", name := "feed", desc := "(IIIII)I" } : Jvm.MethodName) ({ cls := "SpokenMarks", name := "feed", desc := "(IIIII)I" } : Jvm.MethodName)) ∈ lw_all := lw_g (lw_at lw_m7 169 rfl) rfl
theorem q1729 : (Jvm.Cond.code ({ cls := "SpokenMarks", name := "feed", desc := "(IIIII)I" } : Jvm.MethodName) prog_1_method_15_code (12 : Nat) (Option.some Jvm.ClassFile.FieldType.int)) ∈ lw_all := lw_g (lw_at lw_m7 170 rfl) rfl
theorem q1731 : (Jvm.Cond.instanceMethod ({ cls := "SpokenMarks", name := "errorPosition", desc := "()I" } : Jvm.MethodName)) ∈ lw_all := lw_g (lw_at lw_m7 172 rfl) rfl
theorem q1732 : (Jvm.Cond.selects "SpokenMarks" ({ cls := "SpokenMarks", name := "errorPosition", desc := "()I" } : Jvm.MethodName) ({ cls := "SpokenMarks", name := "errorPosition", desc := "()I" } : Jvm.MethodName)) ∈ lw_all := lw_g (lw_at lw_m7 173 rfl) rfl
theorem q1733 : (Jvm.Cond.code ({ cls := "SpokenMarks", name := "errorPosition", desc := "()I" } : Jvm.MethodName) prog_1_method_19_code (1 : Nat) (Option.some Jvm.ClassFile.FieldType.int)) ∈ lw_all := lw_g (lw_at lw_m7 174 rfl) rfl
theorem q1735 : (Jvm.Cond.instanceMethod ({ cls := "SpokenMarks", name := "at", desc := "(I)I" } : Jvm.MethodName)) ∈ lw_all := lw_g (lw_at lw_m7 176 rfl) rfl
theorem q1736 : (Jvm.Cond.selects "SpokenMarks" ({ cls := "SpokenMarks", name := "at", desc := "(I)I" } : Jvm.MethodName) ({ cls := "SpokenMarks", name := "at", desc := "(I)I" } : Jvm.MethodName)) ∈ lw_all := lw_g (lw_at lw_m7 177 rfl) rfl
theorem q1737 : (Jvm.Cond.code ({ cls := "SpokenMarks", name := "at", desc := "(I)I" } : Jvm.MethodName) prog_1_method_22_code (2 : Nat) (Option.some Jvm.ClassFile.FieldType.int)) ∈ lw_all := lw_g (lw_at lw_m7 178 rfl) rfl
theorem q1738 : (Jvm.Cond.interfaceEntry "SpokenMarks" (177 : Nat)) ∈ lw_tbl := lw_at lw_m7 179 rfl
theorem q1739 : (Jvm.Cond.methodLink "SpokenMarks" (177 : Nat) ({ cls := "java/util/List", name := "size", desc := "()I" } : Jvm.MethodName)) ∈ lw_all := lw_g (lw_at lw_m7 180 rfl) rfl
theorem q1740 : (Jvm.Cond.methodLink "SpokenMarks" (16 : Nat) ({ cls := "SpokenMarks", name := "inRange", desc := "(III)Z" } : Jvm.MethodName)) ∈ lw_all := lw_g (lw_at lw_m7 181 rfl) rfl
theorem q1741 : (Jvm.Cond.static ({ cls := "SpokenMarks", name := "inRange", desc := "(III)Z" } : Jvm.MethodName)) ∈ lw_all := lw_g (lw_at lw_m7 182 rfl) rfl
theorem q1742 : (Jvm.Cond.code ({ cls := "SpokenMarks", name := "inRange", desc := "(III)Z" } : Jvm.MethodName) prog_1_method_1_code (3 : Nat) (Option.some Jvm.ClassFile.FieldType.boolean)) ∈ lw_all := lw_g (lw_at lw_m7 183 rfl) rfl
theorem q1743 : (Jvm.Cond.interfaceEntry "SpokenMarks" (164 : Nat)) ∈ lw_tbl := lw_at lw_m7 184 rfl
theorem q1744 : (Jvm.Cond.methodLink "SpokenMarks" (164 : Nat) ({ cls := "java/util/List", name := "get", desc := "(I)Ljava/lang/Object;" } : Jvm.MethodName)) ∈ lw_all := lw_g (lw_at lw_m7 185 rfl) rfl
theorem q1745 : (Jvm.Cond.classLink "SpokenMarks" (168 : Nat) "SpokenMarks$Mark") ∈ lw_all := lw_g (lw_at lw_m7 186 rfl) rfl
theorem q1747 : (Jvm.Cond.instanceMethod ({ cls := "SpokenMarks", name := "gap", desc := "()I" } : Jvm.MethodName)) ∈ lw_all := lw_g (lw_at lw_m7 188 rfl) rfl
theorem q1748 : (Jvm.Cond.selects "SpokenMarks" ({ cls := "SpokenMarks", name := "gap", desc := "()I" } : Jvm.MethodName) ({ cls := "SpokenMarks", name := "gap", desc := "()I" } : Jvm.MethodName)) ∈ lw_all := lw_g (lw_at lw_m7 189 rfl) rfl
theorem q1749 : (Jvm.Cond.code ({ cls := "SpokenMarks", name := "gap", desc := "()I" } : Jvm.MethodName) prog_1_method_28_code (1 : Nat) (Option.some Jvm.ClassFile.FieldType.int)) ∈ lw_all := lw_g (lw_at lw_m7 190 rfl) rfl
theorem q1750 : (Jvm.Cond.methodLink "SpokenMarks" (303 : Nat) ({ cls := "SpokenMarks$Catalogue", name := "gap", desc := "()I" } : Jvm.MethodName)) ∈ lw_all := lw_g (lw_at lw_m7 191 rfl) rfl
theorem q1755 : (Jvm.Cond.instanceMethod ({ cls := "SpokenMarks", name := "alike", desc := "()I" } : Jvm.MethodName)) ∈ lw_all := lw_g (lw_at lw_m7 196 rfl) rfl
theorem q1756 : (Jvm.Cond.selects "SpokenMarks" ({ cls := "SpokenMarks", name := "alike", desc := "()I" } : Jvm.MethodName) ({ cls := "SpokenMarks", name := "alike", desc := "()I" } : Jvm.MethodName)) ∈ lw_all := lw_g (lw_at lw_m7 197 rfl) rfl
theorem q1757 : (Jvm.Cond.code ({ cls := "SpokenMarks", name := "alike", desc := "()I" } : Jvm.MethodName) prog_1_method_31_code (1 : Nat) (Option.some Jvm.ClassFile.FieldType.int)) ∈ lw_all := lw_g (lw_at lw_m7 198 rfl) rfl
theorem q1758 : (Jvm.Cond.methodLink "SpokenMarks" (327 : Nat) ({ cls := "SpokenMarks$Catalogue", name := "alike", desc := "()I" } : Jvm.MethodName)) ∈ lw_all := lw_g (lw_at lw_m7 199 rfl) rfl
theorem q1766 : (Jvm.Cond.instanceMethod ({ cls := "SpokenMarks", name := "cause", desc := "()I" } : Jvm.MethodName)) ∈ lw_all := lw_g (lw_at lw_m7 207 rfl) rfl
theorem q1767 : (Jvm.Cond.selects "SpokenMarks" ({ cls := "SpokenMarks", name := "cause", desc := "()I" } : Jvm.MethodName) ({ cls := "SpokenMarks", name := "cause", desc := "()I" } : Jvm.MethodName)) ∈ lw_all := lw_g (lw_at lw_m7 208 rfl) rfl
theorem q1768 : (Jvm.Cond.code ({ cls := "SpokenMarks", name := "cause", desc := "()I" } : Jvm.MethodName) prog_1_method_42_code (1 : Nat) (Option.some Jvm.ClassFile.FieldType.int)) ∈ lw_all := lw_g (lw_at lw_m7 209 rfl) rfl
theorem q1770 : (Jvm.Cond.instanceMethod ({ cls := "SpokenMarks", name := "meanMoves", desc := "()D" } : Jvm.MethodName)) ∈ lw_all := lw_g (lw_at lw_m7 211 rfl) rfl
theorem q1771 : (Jvm.Cond.selects "SpokenMarks" ({ cls := "SpokenMarks", name := "meanMoves", desc := "()D" } : Jvm.MethodName) ({ cls := "SpokenMarks", name := "meanMoves", desc := "()D" } : Jvm.MethodName)) ∈ lw_all := lw_g (lw_at lw_m7 212 rfl) rfl
theorem q1772 : (Jvm.Cond.code ({ cls := "SpokenMarks", name := "meanMoves", desc := "()D" } : Jvm.MethodName) prog_1_method_44_code (2 : Nat) (Option.some Jvm.ClassFile.FieldType.double)) ∈ lw_all := lw_g (lw_at lw_m7 213 rfl) rfl
theorem q1774 : (Jvm.Cond.instanceMethod ({ cls := "SpokenMarks", name := "balance", desc := "()I" } : Jvm.MethodName)) ∈ lw_all := lw_g (lw_at lw_m7 215 rfl) rfl
theorem q1775 : (Jvm.Cond.selects "SpokenMarks" ({ cls := "SpokenMarks", name := "balance", desc := "()I" } : Jvm.MethodName) ({ cls := "SpokenMarks", name := "balance", desc := "()I" } : Jvm.MethodName)) ∈ lw_all := lw_g (lw_at lw_m7 216 rfl) rfl
theorem q1776 : (Jvm.Cond.code ({ cls := "SpokenMarks", name := "balance", desc := "()I" } : Jvm.MethodName) prog_1_method_51_code (1 : Nat) (Option.some Jvm.ClassFile.FieldType.int)) ∈ lw_all := lw_g (lw_at lw_m7 217 rfl) rfl
theorem q1777 : (Jvm.Cond.classLink "SpokenMarks" (433 : Nat) "SpokenMarks$Arranging") ∈ lw_all := lw_g (lw_at lw_m7 218 rfl) rfl
theorem q1779 : (Jvm.Cond.methodLink "SpokenMarks" (435 : Nat) ({ cls := "SpokenMarks$Arranging", name := "<init>", desc := "(Z)V" } : Jvm.MethodName)) ∈ lw_all := lw_g (lw_at lw_m7 220 rfl) rfl
theorem q1790 : (Jvm.Cond.methodLink "SpokenMarks" (408 : Nat) ({ cls := "SpokenMarks", name := "operate", desc := "(LSpokenMarks$Order;)I" } : Jvm.MethodName)) ∈ lw_all := lw_g (lw_at lw_m7 231 rfl) rfl
theorem q1791 : (Jvm.Cond.privateMethod ({ cls := "SpokenMarks", name := "operate", desc := "(LSpokenMarks$Order;)I" } : Jvm.MethodName)) ∈ lw_tbl := lw_at lw_m7 232 rfl
theorem q1792 : (Jvm.Cond.instanceMethod ({ cls := "SpokenMarks", name := "operate", desc := "(LSpokenMarks$Order;)I" } : Jvm.MethodName)) ∈ lw_all := lw_g (lw_at lw_m7 233 rfl) rfl
theorem q1793 : (Jvm.Cond.code ({ cls := "SpokenMarks", name := "operate", desc := "(LSpokenMarks$Order;)I" } : Jvm.MethodName) prog_1_method_10_code (4 : Nat) (Option.some Jvm.ClassFile.FieldType.int)) ∈ lw_all := lw_g (lw_at lw_m7 234 rfl) rfl
theorem q1794 : (Jvm.Cond.methodLink "SpokenMarks" (135 : Nat) ({ cls := "SpokenMarks$Catalogue", name := "copy", desc := "()LSpokenMarks$Catalogue;" } : Jvm.MethodName)) ∈ lw_all := lw_g (lw_at lw_m7 235 rfl) rfl
theorem q1812 : (Jvm.Cond.methodLink "SpokenMarks" (139 : Nat) ({ cls := "SpokenMarks$Order", name := "does", desc := "(LSpokenMarks$Catalogue;)I" } : Jvm.MethodName)) ∈ lw_all := lw_g (lw_at lw_m8 13 rfl) rfl
theorem q1937 : (Jvm.Cond.methodLink "SpokenMarks" (145 : Nat) ({ cls := "SpokenMarks", name := "counted", desc := "(I)I" } : Jvm.MethodName)) ∈ lw_all := lw_g (lw_at lw_m8 138 rfl) rfl
theorem q1938 : (Jvm.Cond.privateMethod ({ cls := "SpokenMarks", name := "counted", desc := "(I)I" } : Jvm.MethodName)) ∈ lw_tbl := lw_at lw_m8 139 rfl
theorem q1939 : (Jvm.Cond.instanceMethod ({ cls := "SpokenMarks", name := "counted", desc := "(I)I" } : Jvm.MethodName)) ∈ lw_all := lw_g (lw_at lw_m8 140 rfl) rfl
theorem q1940 : (Jvm.Cond.code ({ cls := "SpokenMarks", name := "counted", desc := "(I)I" } : Jvm.MethodName) prog_1_method_9_code (2 : Nat) (Option.some Jvm.ClassFile.FieldType.int)) ∈ lw_all := lw_g (lw_at lw_m8 141 rfl) rfl
theorem q1941 : (Jvm.Cond.methodLink "SpokenMarks" (128 : Nat) ({ cls := "SpokenMarks", name := "bit", desc := "(Z)I" } : Jvm.MethodName)) ∈ lw_all := lw_g (lw_at lw_m8 142 rfl) rfl
theorem q1942 : (Jvm.Cond.methodLink "SpokenMarks" (149 : Nat) ({ cls := "SpokenMarks", name := "record", desc := "(LSpokenMarks$Catalogue;)V" } : Jvm.MethodName)) ∈ lw_all := lw_g (lw_at lw_m8 143 rfl) rfl
theorem q1943 : (Jvm.Cond.privateMethod ({ cls := "SpokenMarks", name := "record", desc := "(LSpokenMarks$Catalogue;)V" } : Jvm.MethodName)) ∈ lw_tbl := lw_at lw_m8 144 rfl
theorem q1944 : (Jvm.Cond.instanceMethod ({ cls := "SpokenMarks", name := "record", desc := "(LSpokenMarks$Catalogue;)V" } : Jvm.MethodName)) ∈ lw_all := lw_g (lw_at lw_m8 145 rfl) rfl
theorem q1945 : (Jvm.Cond.code ({ cls := "SpokenMarks", name := "record", desc := "(LSpokenMarks$Catalogue;)V" } : Jvm.MethodName) prog_1_method_8_code (2 : Nat) (Option.none : Option Jvm.ClassFile.FieldType)) ∈ lw_all := lw_g (lw_at lw_m8 146 rfl) rfl
theorem q1946 : (Jvm.Cond.methodLink "SpokenMarks" (114 : Nat) ({ cls := "java/util/ArrayDeque", name := "size", desc := "()I" } : Jvm.MethodName)) ∈ lw_all := lw_g (lw_at lw_m8 147 rfl) rfl
theorem q1953 : (Jvm.Cond.methodLink "SpokenMarks" (117 : Nat) ({ cls := "java/util/ArrayDeque", name := "removeFirst", desc := "()Ljava/lang/Object;" } : Jvm.MethodName)) ∈ lw_all := lw_g (lw_at lw_m8 154 rfl) rfl
theorem q1969 : (Jvm.Cond.methodLink "SpokenMarks" (121 : Nat) ({ cls := "java/util/ArrayDeque", name := "addLast", desc := "(Ljava/lang/Object;)V" } : Jvm.MethodName)) ∈ lw_all := lw_g (lw_at lw_m8 170 rfl) rfl
theorem q1985 : (Jvm.Cond.instanceMethod ({ cls := "SpokenMarks", name := "respace", desc := "()I" } : Jvm.MethodName)) ∈ lw_all := lw_g (lw_at lw_m8 186 rfl) rfl
theorem q1986 : (Jvm.Cond.selects "SpokenMarks" ({ cls := "SpokenMarks", name := "respace", desc := "()I" } : Jvm.MethodName) ({ cls := "SpokenMarks", name := "respace", desc := "()I" } : Jvm.MethodName)) ∈ lw_all := lw_g (lw_at lw_m8 187 rfl) rfl
theorem q1987 : (Jvm.Cond.code ({ cls := "SpokenMarks", name := "respace", desc := "()I" } : Jvm.MethodName) prog_1_method_52_code (1 : Nat) (Option.some Jvm.ClassFile.FieldType.int)) ∈ lw_all := lw_g (lw_at lw_m8 188 rfl) rfl
theorem q1989 : (Jvm.Cond.instanceMethod ({ cls := "SpokenMarks", name := "formattedByte", desc := "(I)I" } : Jvm.MethodName)) ∈ lw_all := lw_g (lw_at lw_m8 190 rfl) rfl
theorem q1990 : (Jvm.Cond.selects "SpokenMarks" ({ cls := "SpokenMarks", name := "formattedByte", desc := "(I)I" } : Jvm.MethodName) ({ cls := "SpokenMarks", name := "formattedByte", desc := "(I)I" } : Jvm.MethodName)) ∈ lw_all := lw_g (lw_at lw_m8 191 rfl) rfl
theorem q1991 : (Jvm.Cond.code ({ cls := "SpokenMarks", name := "formattedByte", desc := "(I)I" } : Jvm.MethodName) prog_1_method_56_code (2 : Nat) (Option.some Jvm.ClassFile.FieldType.int)) ∈ lw_all := lw_g (lw_at lw_m8 192 rfl) rfl
theorem q1992 : (Jvm.Cond.methodLink "SpokenMarks" (10 : Nat) ({ cls := "java/lang/String", name := "length", desc := "()I" } : Jvm.MethodName)) ∈ lw_all := lw_g (lw_at lw_m8 193 rfl) rfl
theorem q1993 : (Jvm.Cond.methodLink "SpokenMarks" (22 : Nat) ({ cls := "java/lang/String", name := "charAt", desc := "(I)C" } : Jvm.MethodName)) ∈ lw_all := lw_g (lw_at lw_m8 194 rfl) rfl
theorem q1995 : (Jvm.Cond.instanceMethod ({ cls := "SpokenMarks", name := "undoCount", desc := "()I" } : Jvm.MethodName)) ∈ lw_all := lw_g (lw_at lw_m8 196 rfl) rfl
theorem q1996 : (Jvm.Cond.selects "SpokenMarks" ({ cls := "SpokenMarks", name := "undoCount", desc := "()I" } : Jvm.MethodName) ({ cls := "SpokenMarks", name := "undoCount", desc := "()I" } : Jvm.MethodName)) ∈ lw_all := lw_g (lw_at lw_m8 197 rfl) rfl
theorem q1997 : (Jvm.Cond.code ({ cls := "SpokenMarks", name := "undoCount", desc := "()I" } : Jvm.MethodName) prog_1_method_57_code (1 : Nat) (Option.some Jvm.ClassFile.FieldType.int)) ∈ lw_all := lw_g (lw_at lw_m8 198 rfl) rfl
theorem q1999 : (Jvm.Cond.instanceMethod ({ cls := "SpokenMarks", name := "undo", desc := "()I" } : Jvm.MethodName)) ∈ lw_all := lw_g (lw_at lw_m8 200 rfl) rfl
theorem q2000 : (Jvm.Cond.selects "SpokenMarks" ({ cls := "SpokenMarks", name := "undo", desc := "()I" } : Jvm.MethodName) ({ cls := "SpokenMarks", name := "undo", desc := "()I" } : Jvm.MethodName)) ∈ lw_all := lw_g (lw_at lw_m8 201 rfl) rfl
theorem q2001 : (Jvm.Cond.code ({ cls := "SpokenMarks", name := "undo", desc := "()I" } : Jvm.MethodName) prog_1_method_58_code (1 : Nat) (Option.some Jvm.ClassFile.FieldType.int)) ∈ lw_all := lw_g (lw_at lw_m8 202 rfl) rfl
theorem q2002 : (Jvm.Cond.methodLink "SpokenMarks" (470 : Nat) ({ cls := "java/util/ArrayDeque", name := "isEmpty", desc := "()Z" } : Jvm.MethodName)) ∈ lw_all := lw_g (lw_at lw_m8 203 rfl) rfl
theorem q2006 : (Jvm.Cond.methodLink "SpokenMarks" (471 : Nat) ({ cls := "java/util/ArrayDeque", name := "removeLast", desc := "()Ljava/lang/Object;" } : Jvm.MethodName)) ∈ lw_all := lw_g (lw_at lw_m8 207 rfl) rfl
theorem q2018 : (Jvm.Cond.instanceMethod ({ cls := "SpokenMarks", name := "saveSnapshot", desc := "()V" } : Jvm.MethodName)) ∈ lw_all := lw_g (lw_at lw_m8 219 rfl) rfl
theorem q2019 : (Jvm.Cond.selects "SpokenMarks" ({ cls := "SpokenMarks", name := "saveSnapshot", desc := "()V" } : Jvm.MethodName) ({ cls := "SpokenMarks", name := "saveSnapshot", desc := "()V" } : Jvm.MethodName)) ∈ lw_all := lw_g (lw_at lw_m8 220 rfl) rfl
theorem q2020 : (Jvm.Cond.code ({ cls := "SpokenMarks", name := "saveSnapshot", desc := "()V" } : Jvm.MethodName) prog_1_method_59_code (1 : Nat) (Option.none : Option Jvm.ClassFile.FieldType)) ∈ lw_all := lw_g (lw_at lw_m8 221 rfl) rfl
theorem q2022 : (Jvm.Cond.instanceMethod ({ cls := "SpokenMarks", name := "restoreSnapshot", desc := "()Z" } : Jvm.MethodName)) ∈ lw_all := lw_g (lw_at lw_m8 223 rfl) rfl
theorem q2023 : (Jvm.Cond.selects "SpokenMarks" ({ cls := "SpokenMarks", name := "restoreSnapshot", desc := "()Z" } : Jvm.MethodName) ({ cls := "SpokenMarks", name := "restoreSnapshot", desc := "()Z" } : Jvm.MethodName)) ∈ lw_all := lw_g (lw_at lw_m8 224 rfl) rfl
theorem q2024 : (Jvm.Cond.code ({ cls := "SpokenMarks", name := "restoreSnapshot", desc := "()Z" } : Jvm.MethodName) prog_1_method_60_code (1 : Nat) (Option.some Jvm.ClassFile.FieldType.boolean)) ∈ lw_all := lw_g (lw_at lw_m8 225 rfl) rfl
theorem q2025 : (Jvm.Cond.methodLink "SpokenMarks" (215 : Nat) ({ cls := "java/util/ArrayDeque", name := "clear", desc := "()V" } : Jvm.MethodName)) ∈ lw_all := lw_g (lw_at lw_m8 226 rfl) rfl
theorem q2037 : (Jvm.Cond.instanceMethod ({ cls := "SpokenMarks", name := "load", desc := "(I)I" } : Jvm.MethodName)) ∈ lw_all := lw_g (lw_at lw_m8 238 rfl) rfl
theorem q2038 : (Jvm.Cond.selects "SpokenMarks" ({ cls := "SpokenMarks", name := "load", desc := "(I)I" } : Jvm.MethodName) ({ cls := "SpokenMarks", name := "load", desc := "(I)I" } : Jvm.MethodName)) ∈ lw_all := lw_g (lw_at lw_m8 239 rfl) rfl
theorem q2039 : (Jvm.Cond.codeWith ({ cls := "SpokenMarks", name := "load", desc := "(I)I" } : Jvm.MethodName) prog_1_method_18_code (3 : Nat) (Option.some Jvm.ClassFile.FieldType.int) [((5 : Nat), (24 : Nat), (27 : Nat), (193 : Nat))]) ∈ lw_all := lw_g (lw_at lw_m9 0 rfl) rfl
theorem q2040 : (Jvm.Cond.classLink "SpokenMarks" (193 : Nat) "SpokenMarks$TextException") ∈ lw_all := lw_g (lw_at lw_m9 1 rfl) rfl
theorem q2041 : (Jvm.Cond.methodLink "SpokenMarks" (200 : Nat) ({ cls := "SpokenMarks", name := "empties", desc := "(I)V" } : Jvm.MethodName)) ∈ lw_all := lw_g (lw_at lw_m9 2 rfl) rfl
theorem q2042 : (Jvm.Cond.privateMethod ({ cls := "SpokenMarks", name := "empties", desc := "(I)V" } : Jvm.MethodName)) ∈ lw_tbl := lw_at lw_m9 3 rfl
theorem q2043 : (Jvm.Cond.instanceMethod ({ cls := "SpokenMarks", name := "empties", desc := "(I)V" } : Jvm.MethodName)) ∈ lw_all := lw_g (lw_at lw_m9 4 rfl) rfl
theorem q2044 : (Jvm.Cond.code ({ cls := "SpokenMarks", name := "empties", desc := "(I)V" } : Jvm.MethodName) prog_1_method_16_code (2 : Nat) (Option.none : Option Jvm.ClassFile.FieldType)) ∈ lw_all := lw_g (lw_at lw_m9 5 rfl) rfl
theorem q2045 : (Jvm.Cond.methodLink "SpokenMarks" (189 : Nat) ({ cls := "SpokenMarks", name := "require", desc := "(Z)V" } : Jvm.MethodName)) ∈ lw_all := lw_g (lw_at lw_m9 6 rfl) rfl
theorem q2046 : (Jvm.Cond.static ({ cls := "SpokenMarks", name := "require", desc := "(Z)V" } : Jvm.MethodName)) ∈ lw_all := lw_g (lw_at lw_m9 7 rfl) rfl
theorem q2047 : (Jvm.Cond.code ({ cls := "SpokenMarks", name := "require", desc := "(Z)V" } : Jvm.MethodName) prog_1_method_4_code (1 : Nat) (Option.none : Option Jvm.ClassFile.FieldType)) ∈ lw_all := lw_g (lw_at lw_m9 8 rfl) rfl
theorem q2048 : (Jvm.Cond.classLink "SpokenMarks" (7 : Nat) "java/lang/IllegalArgumentException") ∈ lw_all := lw_g (lw_at lw_m9 9 rfl) rfl
theorem q2049 : (Jvm.Cond.methodLink "SpokenMarks" (9 : Nat) ({ cls := "java/lang/IllegalArgumentException", name := "<init>", desc := "()V" } : Jvm.MethodName)) ∈ lw_all := lw_g (lw_at lw_m9 10 rfl) rfl
theorem q2053 : (Jvm.Cond.classLink "SpokenMarks" (203 : Nat) "SpokenMarks$Reader") ∈ lw_all := lw_g (lw_at lw_m9 14 rfl) rfl
theorem q2055 : (Jvm.Cond.methodLink "SpokenMarks" (205 : Nat) ({ cls := "SpokenMarks$Reader", name := "<init>", desc := "([BI)V" } : Jvm.MethodName)) ∈ lw_all := lw_g (lw_at lw_m9 16 rfl) rfl
theorem q2120 : (Jvm.Cond.methodLink "SpokenMarks" (208 : Nat) ({ cls := "SpokenMarks$Reader", name := "read", desc := "()LSpokenMarks$Catalogue;" } : Jvm.MethodName)) ∈ lw_all := lw_g (lw_at lw_m9 81 rfl) rfl
theorem q2151 : (Jvm.Cond.fieldLinkNest "SpokenMarks" (192 : Nat) "SpokenMarks$TextException" "place" "I" "SpokenMarks") ∈ lw_tbl := lw_at lw_m9 112 rfl
theorem q2153 : (Jvm.Cond.fieldLinkNest "SpokenMarks" (197 : Nat) "SpokenMarks$TextException" "code" "I" "SpokenMarks") ∈ lw_tbl := lw_at lw_m9 114 rfl
theorem q2243 : (Jvm.Cond.methodLink "SpokenMarks" (211 : Nat) ({ cls := "SpokenMarks", name := "failed", desc := "(LSpokenMarks$TextException;)I" } : Jvm.MethodName)) ∈ lw_all := lw_g (lw_at lw_m9 204 rfl) rfl
theorem q2244 : (Jvm.Cond.privateMethod ({ cls := "SpokenMarks", name := "failed", desc := "(LSpokenMarks$TextException;)I" } : Jvm.MethodName)) ∈ lw_tbl := lw_at lw_m9 205 rfl
theorem q2245 : (Jvm.Cond.instanceMethod ({ cls := "SpokenMarks", name := "failed", desc := "(LSpokenMarks$TextException;)I" } : Jvm.MethodName)) ∈ lw_all := lw_g (lw_at lw_m9 206 rfl) rfl
theorem q2246 : (Jvm.Cond.code ({ cls := "SpokenMarks", name := "failed", desc := "(LSpokenMarks$TextException;)I" } : Jvm.MethodName) prog_1_method_17_code (2 : Nat) (Option.some Jvm.ClassFile.FieldType.int)) ∈ lw_all := lw_g (lw_at lw_m9 207 rfl) rfl
theorem q2251 : (Jvm.Cond.instanceMethod ({ cls := "SpokenMarks", name := "size", desc := "(I)I" } : Jvm.MethodName)) ∈ lw_all := lw_g (lw_at lw_m9 212 rfl) rfl
theorem q2252 : (Jvm.Cond.selects "SpokenMarks" ({ cls := "SpokenMarks", name := "size", desc := "(I)I" } : Jvm.MethodName) ({ cls := "SpokenMarks", name := "size", desc := "(I)I" } : Jvm.MethodName)) ∈ lw_all := lw_g (lw_at lw_m9 213 rfl) rfl
theorem q2253 : (Jvm.Cond.code ({ cls := "SpokenMarks", name := "size", desc := "(I)I" } : Jvm.MethodName) prog_1_method_20_code (2 : Nat) (Option.some Jvm.ClassFile.FieldType.int)) ∈ lw_all := lw_g (lw_at lw_m9 214 rfl) rfl
theorem q2254 : (Jvm.Cond.methodLink "SpokenMarks" (227 : Nat) ({ cls := "SpokenMarks$Catalogue", name := "shelvesOver", desc := "()I" } : Jvm.MethodName)) ∈ lw_all := lw_g (lw_at lw_m9 215 rfl) rfl
theorem q2255 : (Jvm.Cond.methodLink "SpokenMarks" (230 : Nat) ({ cls := "SpokenMarks$Catalogue", name := "widths", desc := "()I" } : Jvm.MethodName)) ∈ lw_all := lw_g (lw_at lw_m9 216 rfl) rfl
theorem q2259 : (Jvm.Cond.methodLink "SpokenMarks" (233 : Nat) ({ cls := "SpokenMarks$Catalogue", name := "leastStep", desc := "()I" } : Jvm.MethodName)) ∈ lw_all := lw_g (lw_at lw_m9 220 rfl) rfl
theorem q2267 : (Jvm.Cond.instanceMethod ({ cls := "SpokenMarks", name := "account", desc := "(I)I" } : Jvm.MethodName)) ∈ lw_all := lw_g (lw_at lw_m9 228 rfl) rfl
theorem q2268 : (Jvm.Cond.selects "SpokenMarks" ({ cls := "SpokenMarks", name := "account", desc := "(I)I" } : Jvm.MethodName) ({ cls := "SpokenMarks", name := "account", desc := "(I)I" } : Jvm.MethodName)) ∈ lw_all := lw_g (lw_at lw_m9 229 rfl) rfl
theorem q2269 : (Jvm.Cond.code ({ cls := "SpokenMarks", name := "account", desc := "(I)I" } : Jvm.MethodName) prog_1_method_21_code (2 : Nat) (Option.some Jvm.ClassFile.FieldType.int)) ∈ lw_all := lw_g (lw_at lw_m9 230 rfl) rfl
theorem q2275 : (Jvm.Cond.instanceMethod ({ cls := "SpokenMarks", name := "mark", desc := "(II)I" } : Jvm.MethodName)) ∈ lw_all := lw_g (lw_at lw_m9 236 rfl) rfl
theorem q2276 : (Jvm.Cond.selects "SpokenMarks" ({ cls := "SpokenMarks", name := "mark", desc := "(II)I" } : Jvm.MethodName) ({ cls := "SpokenMarks", name := "mark", desc := "(II)I" } : Jvm.MethodName)) ∈ lw_all := lw_g (lw_at lw_m9 237 rfl) rfl
theorem q2277 : (Jvm.Cond.code ({ cls := "SpokenMarks", name := "mark", desc := "(II)I" } : Jvm.MethodName) prog_1_method_23_code (4 : Nat) (Option.some Jvm.ClassFile.FieldType.int)) ∈ lw_all := lw_g (lw_at lw_m9 238 rfl) rfl
theorem q2278 : (Jvm.Cond.methodLink "SpokenMarks" (170 : Nat) ({ cls := "SpokenMarks", name := "requireMark", desc := "(I)LSpokenMarks$Mark;" } : Jvm.MethodName)) ∈ lw_all := lw_g (lw_at lw_m9 239 rfl) rfl
theorem q2279 : (Jvm.Cond.privateMethod ({ cls := "SpokenMarks", name := "requireMark", desc := "(I)LSpokenMarks$Mark;" } : Jvm.MethodName)) ∈ lw_tbl := lw_at lw_m10 0 rfl
theorem q2280 : (Jvm.Cond.instanceMethod ({ cls := "SpokenMarks", name := "requireMark", desc := "(I)LSpokenMarks$Mark;" } : Jvm.MethodName)) ∈ lw_all := lw_g (lw_at lw_m10 1 rfl) rfl
theorem q2281 : (Jvm.Cond.code ({ cls := "SpokenMarks", name := "requireMark", desc := "(I)LSpokenMarks$Mark;" } : Jvm.MethodName) prog_1_method_11_code (3 : Nat) (Option.some (Jvm.ClassFile.FieldType.object "SpokenMarks$Mark"))) ∈ lw_all := lw_g (lw_at lw_m10 2 rfl) rfl
theorem q2282 : (Jvm.Cond.methodLink "SpokenMarks" (153 : Nat) ({ cls := "SpokenMarks$Catalogue", name := "rankOf", desc := "(I)I" } : Jvm.MethodName)) ∈ lw_all := lw_g (lw_at lw_m10 3 rfl) rfl
theorem q2283 : (Jvm.Cond.methodLink "SpokenMarks" (156 : Nat) ({ cls := "SpokenMarks", name := "requireExists", desc := "(Z)V" } : Jvm.MethodName)) ∈ lw_all := lw_g (lw_at lw_m10 4 rfl) rfl
theorem q2284 : (Jvm.Cond.static ({ cls := "SpokenMarks", name := "requireExists", desc := "(Z)V" } : Jvm.MethodName)) ∈ lw_all := lw_g (lw_at lw_m10 5 rfl) rfl
theorem q2285 : (Jvm.Cond.code ({ cls := "SpokenMarks", name := "requireExists", desc := "(Z)V" } : Jvm.MethodName) prog_1_method_3_code (1 : Nat) (Option.none : Option Jvm.ClassFile.FieldType)) ∈ lw_all := lw_g (lw_at lw_m10 6 rfl) rfl
theorem q2286 : (Jvm.Cond.classLink "SpokenMarks" (1 : Nat) "java/util/NoSuchElementException") ∈ lw_all := lw_g (lw_at lw_m10 7 rfl) rfl
theorem q2287 : (Jvm.Cond.methodLink "SpokenMarks" (3 : Nat) ({ cls := "java/util/NoSuchElementException", name := "<init>", desc := "()V" } : Jvm.MethodName)) ∈ lw_all := lw_g (lw_at lw_m10 8 rfl) rfl
theorem q2288 : (Jvm.Cond.methodLink "SpokenMarks" (250 : Nat) ({ cls := "SpokenMarks$Catalogue", name := "shelfOf", desc := "(I)I" } : Jvm.MethodName)) ∈ lw_all := lw_g (lw_at lw_m10 9 rfl) rfl
theorem q2289 : (Jvm.Cond.methodLink "SpokenMarks" (253 : Nat) ({ cls := "SpokenMarks$Mark", name := "words", desc := "()I" } : Jvm.MethodName)) ∈ lw_all := lw_g (lw_at lw_m10 10 rfl) rfl
theorem q2303 : (Jvm.Cond.instanceMethod ({ cls := "SpokenMarks", name := "number", desc := "(II)I" } : Jvm.MethodName)) ∈ lw_all := lw_g (lw_at lw_m10 24 rfl) rfl
theorem q2304 : (Jvm.Cond.selects "SpokenMarks" ({ cls := "SpokenMarks", name := "number", desc := "(II)I" } : Jvm.MethodName) ({ cls := "SpokenMarks", name := "number", desc := "(II)I" } : Jvm.MethodName)) ∈ lw_all := lw_g (lw_at lw_m10 25 rfl) rfl
theorem q2305 : (Jvm.Cond.code ({ cls := "SpokenMarks", name := "number", desc := "(II)I" } : Jvm.MethodName) prog_1_method_24_code (5 : Nat) (Option.some Jvm.ClassFile.FieldType.int)) ∈ lw_all := lw_g (lw_at lw_m10 26 rfl) rfl
theorem q2306 : (Jvm.Cond.methodLink "SpokenMarks" (256 : Nat) ({ cls := "SpokenMarks", name := "requirePart", desc := "(II)LSpokenMarks$Part;" } : Jvm.MethodName)) ∈ lw_all := lw_g (lw_at lw_m10 27 rfl) rfl
theorem q2307 : (Jvm.Cond.privateMethod ({ cls := "SpokenMarks", name := "requirePart", desc := "(II)LSpokenMarks$Part;" } : Jvm.MethodName)) ∈ lw_tbl := lw_at lw_m10 28 rfl
theorem q2308 : (Jvm.Cond.instanceMethod ({ cls := "SpokenMarks", name := "requirePart", desc := "(II)LSpokenMarks$Part;" } : Jvm.MethodName)) ∈ lw_all := lw_g (lw_at lw_m10 29 rfl) rfl
theorem q2309 : (Jvm.Cond.code ({ cls := "SpokenMarks", name := "requirePart", desc := "(II)LSpokenMarks$Part;" } : Jvm.MethodName) prog_1_method_12_code (4 : Nat) (Option.some (Jvm.ClassFile.FieldType.object "SpokenMarks$Part"))) ∈ lw_all := lw_g (lw_at lw_m10 30 rfl) rfl
theorem q2310 : (Jvm.Cond.classLink "SpokenMarks" (178 : Nat) "SpokenMarks$Part") ∈ lw_all := lw_g (lw_at lw_m10 31 rfl) rfl
theorem q2315 : (Jvm.Cond.instanceMethod ({ cls := "SpokenMarks", name := "letter", desc := "(IIZI)I" } : Jvm.MethodName)) ∈ lw_all := lw_g (lw_at lw_m10 36 rfl) rfl
theorem q2316 : (Jvm.Cond.selects "SpokenMarks" ({ cls := "SpokenMarks", name := "letter", desc := "(IIZI)I" } : Jvm.MethodName) ({ cls := "SpokenMarks", name := "letter", desc := "(IIZI)I" } : Jvm.MethodName)) ∈ lw_all := lw_g (lw_at lw_m10 37 rfl) rfl
theorem q2317 : (Jvm.Cond.code ({ cls := "SpokenMarks", name := "letter", desc := "(IIZI)I" } : Jvm.MethodName) prog_1_method_25_code (7 : Nat) (Option.some Jvm.ClassFile.FieldType.int)) ∈ lw_all := lw_g (lw_at lw_m10 38 rfl) rfl
theorem q2318 : (Jvm.Cond.classLink "SpokenMarks" (263 : Nat) "SpokenMarks$Word") ∈ lw_all := lw_g (lw_at lw_m10 39 rfl) rfl
theorem q2319 : (Jvm.Cond.methodLink "SpokenMarks" (271 : Nat) ({ cls := "SpokenMarks", name := "letterAt", desc := "(Ljava/lang/String;I)I" } : Jvm.MethodName)) ∈ lw_all := lw_g (lw_at lw_m10 40 rfl) rfl
theorem q2320 : (Jvm.Cond.static ({ cls := "SpokenMarks", name := "letterAt", desc := "(Ljava/lang/String;I)I" } : Jvm.MethodName)) ∈ lw_all := lw_g (lw_at lw_m10 41 rfl) rfl
theorem q2321 : (Jvm.Cond.code ({ cls := "SpokenMarks", name := "letterAt", desc := "(Ljava/lang/String;I)I" } : Jvm.MethodName) prog_1_method_5_code (2 : Nat) (Option.some Jvm.ClassFile.FieldType.int)) ∈ lw_all := lw_g (lw_at lw_m10 42 rfl) rfl
theorem q2326 : (Jvm.Cond.instanceMethod ({ cls := "SpokenMarks", name := "ruleLetter", desc := "(IZI)I" } : Jvm.MethodName)) ∈ lw_all := lw_g (lw_at lw_m10 47 rfl) rfl
theorem q2327 : (Jvm.Cond.selects "SpokenMarks" ({ cls := "SpokenMarks", name := "ruleLetter", desc := "(IZI)I" } : Jvm.MethodName) ({ cls := "SpokenMarks", name := "ruleLetter", desc := "(IZI)I" } : Jvm.MethodName)) ∈ lw_all := lw_g (lw_at lw_m10 48 rfl) rfl
theorem q2328 : (Jvm.Cond.code ({ cls := "SpokenMarks", name := "ruleLetter", desc := "(IZI)I" } : Jvm.MethodName) prog_1_method_26_code (5 : Nat) (Option.some Jvm.ClassFile.FieldType.int)) ∈ lw_all := lw_g (lw_at lw_m10 49 rfl) rfl
theorem q2329 : (Jvm.Cond.methodLink "SpokenMarks" (275 : Nat) ({ cls := "SpokenMarks", name := "requireRule", desc := "(I)V" } : Jvm.MethodName)) ∈ lw_all := lw_g (lw_at lw_m10 50 rfl) rfl
theorem q2330 : (Jvm.Cond.privateMethod ({ cls := "SpokenMarks", name := "requireRule", desc := "(I)V" } : Jvm.MethodName)) ∈ lw_tbl := lw_at lw_m10 51 rfl
theorem q2331 : (Jvm.Cond.instanceMethod ({ cls := "SpokenMarks", name := "requireRule", desc := "(I)V" } : Jvm.MethodName)) ∈ lw_all := lw_g (lw_at lw_m10 52 rfl) rfl
theorem q2332 : (Jvm.Cond.code ({ cls := "SpokenMarks", name := "requireRule", desc := "(I)V" } : Jvm.MethodName) prog_1_method_14_code (2 : Nat) (Option.none : Option Jvm.ClassFile.FieldType)) ∈ lw_all := lw_g (lw_at lw_m10 53 rfl) rfl
theorem q2337 : (Jvm.Cond.instanceMethod ({ cls := "SpokenMarks", name := "shelf", desc := "(II)I" } : Jvm.MethodName)) ∈ lw_all := lw_g (lw_at lw_m10 58 rfl) rfl
theorem q2338 : (Jvm.Cond.selects "SpokenMarks" ({ cls := "SpokenMarks", name := "shelf", desc := "(II)I" } : Jvm.MethodName) ({ cls := "SpokenMarks", name := "shelf", desc := "(II)I" } : Jvm.MethodName)) ∈ lw_all := lw_g (lw_at lw_m10 59 rfl) rfl
theorem q2339 : (Jvm.Cond.code ({ cls := "SpokenMarks", name := "shelf", desc := "(II)I" } : Jvm.MethodName) prog_1_method_27_code (3 : Nat) (Option.some Jvm.ClassFile.FieldType.int)) ∈ lw_all := lw_g (lw_at lw_m10 60 rfl) rfl
theorem q2340 : (Jvm.Cond.methodLink "SpokenMarks" (284 : Nat) ({ cls := "SpokenMarks", name := "requireShelf", desc := "(I)V" } : Jvm.MethodName)) ∈ lw_all := lw_g (lw_at lw_m10 61 rfl) rfl
theorem q2341 : (Jvm.Cond.privateMethod ({ cls := "SpokenMarks", name := "requireShelf", desc := "(I)V" } : Jvm.MethodName)) ∈ lw_tbl := lw_at lw_m10 62 rfl
theorem q2342 : (Jvm.Cond.instanceMethod ({ cls := "SpokenMarks", name := "requireShelf", desc := "(I)V" } : Jvm.MethodName)) ∈ lw_all := lw_g (lw_at lw_m10 63 rfl) rfl
theorem q2343 : (Jvm.Cond.code ({ cls := "SpokenMarks", name := "requireShelf", desc := "(I)V" } : Jvm.MethodName) prog_1_method_13_code (2 : Nat) (Option.none : Option Jvm.ClassFile.FieldType)) ∈ lw_all := lw_g (lw_at lw_m10 64 rfl) rfl
theorem q2344 : (Jvm.Cond.methodLink "SpokenMarks" (290 : Nat) ({ cls := "SpokenMarks$Catalogue", name := "marksOn", desc := "(I)I" } : Jvm.MethodName)) ∈ lw_all := lw_g (lw_at lw_m10 65 rfl) rfl
theorem q2348 : (Jvm.Cond.methodLink "SpokenMarks" (293 : Nat) ({ cls := "SpokenMarks$Catalogue", name := "widthOn", desc := "(I)I" } : Jvm.MethodName)) ∈ lw_all := lw_g (lw_at lw_m10 69 rfl) rfl
theorem q2349 : (Jvm.Cond.methodLink "SpokenMarks" (296 : Nat) ({ cls := "SpokenMarks$Catalogue", name := "overOn", desc := "(I)I" } : Jvm.MethodName)) ∈ lw_all := lw_g (lw_at lw_m10 70 rfl) rfl
theorem q2350 : (Jvm.Cond.methodLink "SpokenMarks" (299 : Nat) ({ cls := "SpokenMarks$Catalogue", name := "endOn", desc := "(IZ)I" } : Jvm.MethodName)) ∈ lw_all := lw_g (lw_at lw_m10 71 rfl) rfl
theorem q2358 : (Jvm.Cond.instanceMethod ({ cls := "SpokenMarks", name := "compare", desc := "(II)I" } : Jvm.MethodName)) ∈ lw_all := lw_g (lw_at lw_m10 79 rfl) rfl
theorem q2359 : (Jvm.Cond.selects "SpokenMarks" ({ cls := "SpokenMarks", name := "compare", desc := "(II)I" } : Jvm.MethodName) ({ cls := "SpokenMarks", name := "compare", desc := "(II)I" } : Jvm.MethodName)) ∈ lw_all := lw_g (lw_at lw_m10 80 rfl) rfl
theorem q2360 : (Jvm.Cond.code ({ cls := "SpokenMarks", name := "compare", desc := "(II)I" } : Jvm.MethodName) prog_1_method_29_code (3 : Nat) (Option.some Jvm.ClassFile.FieldType.int)) ∈ lw_all := lw_g (lw_at lw_m10 81 rfl) rfl
theorem q2361 : (Jvm.Cond.interfaceEntry "SpokenMarks" (310 : Nat)) ∈ lw_tbl := lw_at lw_m10 82 rfl
theorem q2362 : (Jvm.Cond.methodLink "SpokenMarks" (310 : Nat) ({ cls := "java/util/Comparator", name := "compare", desc := "(Ljava/lang/Object;Ljava/lang/Object;)I" } : Jvm.MethodName)) ∈ lw_all := lw_g (lw_at lw_m10 83 rfl) rfl
theorem q2363 : (Jvm.Cond.methodLink "SpokenMarks" (316 : Nat) ({ cls := "java/lang/Integer", name := "signum", desc := "(I)I" } : Jvm.MethodName)) ∈ lw_all := lw_g (lw_at lw_m10 84 rfl) rfl
theorem q2370 : (Jvm.Cond.instanceMethod ({ cls := "SpokenMarks", name := "differ", desc := "(II)I" } : Jvm.MethodName)) ∈ lw_all := lw_g (lw_at lw_m10 91 rfl) rfl
theorem q2371 : (Jvm.Cond.selects "SpokenMarks" ({ cls := "SpokenMarks", name := "differ", desc := "(II)I" } : Jvm.MethodName) ({ cls := "SpokenMarks", name := "differ", desc := "(II)I" } : Jvm.MethodName)) ∈ lw_all := lw_g (lw_at lw_m10 92 rfl) rfl
theorem q2372 : (Jvm.Cond.code ({ cls := "SpokenMarks", name := "differ", desc := "(II)I" } : Jvm.MethodName) prog_1_method_30_code (3 : Nat) (Option.some Jvm.ClassFile.FieldType.int)) ∈ lw_all := lw_g (lw_at lw_m10 93 rfl) rfl
theorem q2373 : (Jvm.Cond.methodLink "SpokenMarks" (321 : Nat) ({ cls := "SpokenMarks$Spoken", name := "differ", desc := "(LSpokenMarks$Mark;LSpokenMarks$Mark;)I" } : Jvm.MethodName)) ∈ lw_all := lw_g (lw_at lw_m10 94 rfl) rfl
theorem q2378 : (Jvm.Cond.instanceMethod ({ cls := "SpokenMarks", name := "free", desc := "(I)I" } : Jvm.MethodName)) ∈ lw_all := lw_g (lw_at lw_m10 99 rfl) rfl
theorem q2379 : (Jvm.Cond.selects "SpokenMarks" ({ cls := "SpokenMarks", name := "free", desc := "(I)I" } : Jvm.MethodName) ({ cls := "SpokenMarks", name := "free", desc := "(I)I" } : Jvm.MethodName)) ∈ lw_all := lw_g (lw_at lw_m10 100 rfl) rfl
theorem q2380 : (Jvm.Cond.code ({ cls := "SpokenMarks", name := "free", desc := "(I)I" } : Jvm.MethodName) prog_1_method_32_code (3 : Nat) (Option.some Jvm.ClassFile.FieldType.int)) ∈ lw_all := lw_g (lw_at lw_m10 101 rfl) rfl
theorem q2381 : (Jvm.Cond.methodLinkNest "SpokenMarks" (330 : Nat) ({ cls := "SpokenMarks$Catalogue", name := "placeAt", desc := "(I)I" } : Jvm.MethodName) "SpokenMarks") ∈ lw_tbl := lw_at lw_m10 102 rfl
theorem q2386 : (Jvm.Cond.instanceMethod ({ cls := "SpokenMarks", name := "family", desc := "(I)I" } : Jvm.MethodName)) ∈ lw_all := lw_g (lw_at lw_m10 107 rfl) rfl
theorem q2387 : (Jvm.Cond.selects "SpokenMarks" ({ cls := "SpokenMarks", name := "family", desc := "(I)I" } : Jvm.MethodName) ({ cls := "SpokenMarks", name := "family", desc := "(I)I" } : Jvm.MethodName)) ∈ lw_all := lw_g (lw_at lw_m10 108 rfl) rfl
theorem q2388 : (Jvm.Cond.code ({ cls := "SpokenMarks", name := "family", desc := "(I)I" } : Jvm.MethodName) prog_1_method_33_code (2 : Nat) (Option.some Jvm.ClassFile.FieldType.int)) ∈ lw_all := lw_g (lw_at lw_m10 109 rfl) rfl
theorem q2389 : (Jvm.Cond.methodLink "SpokenMarks" (333 : Nat) ({ cls := "SpokenMarks$Catalogue", name := "family", desc := "(LSpokenMarks$Mark;)I" } : Jvm.MethodName)) ∈ lw_all := lw_g (lw_at lw_m10 110 rfl) rfl
theorem q2398 : (Jvm.Cond.instanceMethod ({ cls := "SpokenMarks", name := "soundsLike", desc := "(I)I" } : Jvm.MethodName)) ∈ lw_all := lw_g (lw_at lw_m10 119 rfl) rfl
theorem q2399 : (Jvm.Cond.selects "SpokenMarks" ({ cls := "SpokenMarks", name := "soundsLike", desc := "(I)I" } : Jvm.MethodName) ({ cls := "SpokenMarks", name := "soundsLike", desc := "(I)I" } : Jvm.MethodName)) ∈ lw_all := lw_g (lw_at lw_m10 120 rfl) rfl
theorem q2400 : (Jvm.Cond.codeWith ({ cls := "SpokenMarks", name := "soundsLike", desc := "(I)I" } : Jvm.MethodName) prog_1_method_34_code (7 : Nat) (Option.some Jvm.ClassFile.FieldType.int) [((5 : Nat), (92 : Nat), (93 : Nat), (193 : Nat))]) ∈ lw_all := lw_g (lw_at lw_m10 121 rfl) rfl
theorem q2401 : (Jvm.Cond.classLink "SpokenMarks" (337 : Nat) "SpokenMarks$Scanner") ∈ lw_all := lw_g (lw_at lw_m10 122 rfl) rfl
theorem q2402 : (Jvm.Cond.methodLink "SpokenMarks" (339 : Nat) ({ cls := "SpokenMarks$Scanner", name := "<init>", desc := "([BI)V" } : Jvm.MethodName)) ∈ lw_all := lw_g (lw_at lw_m10 123 rfl) rfl
theorem q2411 : (Jvm.Cond.methodLink "SpokenMarks" (340 : Nat) ({ cls := "SpokenMarks$Scanner", name := "word", desc := "()Ljava/lang/String;" } : Jvm.MethodName)) ∈ lw_all := lw_g (lw_at lw_m10 132 rfl) rfl
theorem q2412 : (Jvm.Cond.methodLink "SpokenMarks" (344 : Nat) ({ cls := "SpokenMarks$Catalogue", name := "earOf", desc := "(Ljava/lang/String;)Ljava/lang/String;" } : Jvm.MethodName)) ∈ lw_all := lw_g (lw_at lw_m10 133 rfl) rfl
theorem q2413 : (Jvm.Cond.methodLink "SpokenMarks" (348 : Nat) ({ cls := "SpokenMarks$Scanner", name := "end", desc := "()V" } : Jvm.MethodName)) ∈ lw_all := lw_g (lw_at lw_m10 134 rfl) rfl
theorem q2420 : (Jvm.Cond.interfaceEntry "SpokenMarks" (351 : Nat)) ∈ lw_tbl := lw_at lw_m10 141 rfl
theorem q2421 : (Jvm.Cond.methodLink "SpokenMarks" (351 : Nat) ({ cls := "java/util/List", name := "iterator", desc := "()Ljava/util/Iterator;" } : Jvm.MethodName)) ∈ lw_all := lw_g (lw_at lw_m10 142 rfl) rfl
theorem q2422 : (Jvm.Cond.interfaceEntry "SpokenMarks" (355 : Nat)) ∈ lw_tbl := lw_at lw_m10 143 rfl
theorem q2423 : (Jvm.Cond.methodLink "SpokenMarks" (355 : Nat) ({ cls := "java/util/Iterator", name := "hasNext", desc := "()Z" } : Jvm.MethodName)) ∈ lw_all := lw_g (lw_at lw_m10 144 rfl) rfl
theorem q2424 : (Jvm.Cond.interfaceEntry "SpokenMarks" (360 : Nat)) ∈ lw_tbl := lw_at lw_m10 145 rfl
theorem q2425 : (Jvm.Cond.methodLink "SpokenMarks" (360 : Nat) ({ cls := "java/util/Iterator", name := "next", desc := "()Ljava/lang/Object;" } : Jvm.MethodName)) ∈ lw_all := lw_g (lw_at lw_m10 146 rfl) rfl
theorem q2426 : (Jvm.Cond.methodLink "SpokenMarks" (363 : Nat) ({ cls := "SpokenMarks$Mark", name := "hasEar", desc := "(Ljava/lang/String;)Z" } : Jvm.MethodName)) ∈ lw_all := lw_g (lw_at lw_m10 147 rfl) rfl
theorem q2435 : (Jvm.Cond.instanceMethod ({ cls := "SpokenMarks", name := "rankIf", desc := "(I)I" } : Jvm.MethodName)) ∈ lw_all := lw_g (lw_at lw_m10 156 rfl) rfl
theorem q2436 : (Jvm.Cond.selects "SpokenMarks" ({ cls := "SpokenMarks", name := "rankIf", desc := "(I)I" } : Jvm.MethodName) ({ cls := "SpokenMarks", name := "rankIf", desc := "(I)I" } : Jvm.MethodName)) ∈ lw_all := lw_g (lw_at lw_m10 157 rfl) rfl
theorem q2437 : (Jvm.Cond.codeWith ({ cls := "SpokenMarks", name := "rankIf", desc := "(I)I" } : Jvm.MethodName) prog_1_method_37_code (3 : Nat) (Option.some Jvm.ClassFile.FieldType.int) [((5 : Nat), (17 : Nat), (18 : Nat), (193 : Nat))]) ∈ lw_all := lw_g (lw_at lw_m10 158 rfl) rfl
theorem q2438 : (Jvm.Cond.methodLink "SpokenMarks" (377 : Nat) ({ cls := "SpokenMarks", name := "markOf", desc := "(I)LSpokenMarks$Mark;" } : Jvm.MethodName)) ∈ lw_all := lw_g (lw_at lw_m10 159 rfl) rfl
theorem q2439 : (Jvm.Cond.privateMethod ({ cls := "SpokenMarks", name := "markOf", desc := "(I)LSpokenMarks$Mark;" } : Jvm.MethodName)) ∈ lw_tbl := lw_at lw_m10 160 rfl
theorem q2440 : (Jvm.Cond.instanceMethod ({ cls := "SpokenMarks", name := "markOf", desc := "(I)LSpokenMarks$Mark;" } : Jvm.MethodName)) ∈ lw_all := lw_g (lw_at lw_m10 161 rfl) rfl
theorem q2441 : (Jvm.Cond.code ({ cls := "SpokenMarks", name := "markOf", desc := "(I)LSpokenMarks$Mark;" } : Jvm.MethodName) prog_1_method_36_code (2 : Nat) (Option.some (Jvm.ClassFile.FieldType.object "SpokenMarks$Mark"))) ∈ lw_all := lw_g (lw_at lw_m10 162 rfl) rfl
theorem q2442 : (Jvm.Cond.methodLink "SpokenMarks" (370 : Nat) ({ cls := "SpokenMarks", name := "partsOf", desc := "(I)Ljava/util/List;" } : Jvm.MethodName)) ∈ lw_all := lw_g (lw_at lw_m10 163 rfl) rfl
theorem q2443 : (Jvm.Cond.privateMethod ({ cls := "SpokenMarks", name := "partsOf", desc := "(I)Ljava/util/List;" } : Jvm.MethodName)) ∈ lw_tbl := lw_at lw_m10 164 rfl
theorem q2444 : (Jvm.Cond.instanceMethod ({ cls := "SpokenMarks", name := "partsOf", desc := "(I)Ljava/util/List;" } : Jvm.MethodName)) ∈ lw_all := lw_g (lw_at lw_m10 165 rfl) rfl
theorem q2445 : (Jvm.Cond.code ({ cls := "SpokenMarks", name := "partsOf", desc := "(I)Ljava/util/List;" } : Jvm.MethodName) prog_1_method_35_code (4 : Nat) (Option.some (Jvm.ClassFile.FieldType.object "java/util/List"))) ∈ lw_all := lw_g (lw_at lw_m10 166 rfl) rfl
theorem q2446 : (Jvm.Cond.methodLink "SpokenMarks" (367 : Nat) ({ cls := "SpokenMarks$Scanner", name := "parts", desc := "(LSpokenMarks$Catalogue;)Ljava/util/List;" } : Jvm.MethodName)) ∈ lw_all := lw_g (lw_at lw_m10 167 rfl) rfl
theorem q2447 : (Jvm.Cond.methodLink "SpokenMarks" (374 : Nat) ({ cls := "SpokenMarks$Mark", name := "<init>", desc := "(ILjava/util/List;II)V" } : Jvm.MethodName)) ∈ lw_all := lw_g (lw_at lw_m10 168 rfl) rfl
theorem q2448 : (Jvm.Cond.methodLink "SpokenMarks" (380 : Nat) ({ cls := "SpokenMarks$Catalogue", name := "rankFor", desc := "(LSpokenMarks$Mark;)I" } : Jvm.MethodName)) ∈ lw_all := lw_g (lw_at lw_m10 169 rfl) rfl
theorem q2453 : (Jvm.Cond.instanceMethod ({ cls := "SpokenMarks", name := "placeIf", desc := "(I)I" } : Jvm.MethodName)) ∈ lw_all := lw_g (lw_at lw_m10 174 rfl) rfl
theorem q2454 : (Jvm.Cond.selects "SpokenMarks" ({ cls := "SpokenMarks", name := "placeIf", desc := "(I)I" } : Jvm.MethodName) ({ cls := "SpokenMarks", name := "placeIf", desc := "(I)I" } : Jvm.MethodName)) ∈ lw_all := lw_g (lw_at lw_m10 175 rfl) rfl
theorem q2455 : (Jvm.Cond.codeWith ({ cls := "SpokenMarks", name := "placeIf", desc := "(I)I" } : Jvm.MethodName) prog_1_method_38_code (4 : Nat) (Option.some Jvm.ClassFile.FieldType.int) [((5 : Nat), (61 : Nat), (62 : Nat), (193 : Nat))]) ∈ lw_all := lw_g (lw_at lw_m10 176 rfl) rfl
theorem q2456 : (Jvm.Cond.methodLink "SpokenMarks" (383 : Nat) ({ cls := "SpokenMarks$Catalogue", name := "isThere", desc := "(LSpokenMarks$Mark;)Z" } : Jvm.MethodName)) ∈ lw_all := lw_g (lw_at lw_m10 177 rfl) rfl
theorem q2457 : (Jvm.Cond.methodLink "SpokenMarks" (387 : Nat) ({ cls := "SpokenMarks$Catalogue", name := "placeFor", desc := "(I)I" } : Jvm.MethodName)) ∈ lw_all := lw_g (lw_at lw_m10 178 rfl) rfl
theorem q2462 : (Jvm.Cond.instanceMethod ({ cls := "SpokenMarks", name := "movesIf", desc := "(I)I" } : Jvm.MethodName)) ∈ lw_all := lw_g (lw_at lw_m10 183 rfl) rfl
theorem q2463 : (Jvm.Cond.selects "SpokenMarks" ({ cls := "SpokenMarks", name := "movesIf", desc := "(I)I" } : Jvm.MethodName) ({ cls := "SpokenMarks", name := "movesIf", desc := "(I)I" } : Jvm.MethodName)) ∈ lw_all := lw_g (lw_at lw_m10 184 rfl) rfl
theorem q2464 : (Jvm.Cond.codeWith ({ cls := "SpokenMarks", name := "movesIf", desc := "(I)I" } : Jvm.MethodName) prog_1_method_39_code (3 : Nat) (Option.some Jvm.ClassFile.FieldType.int) [((5 : Nat), (41 : Nat), (42 : Nat), (193 : Nat))]) ∈ lw_all := lw_g (lw_at lw_m10 185 rfl) rfl
theorem q2465 : (Jvm.Cond.methodLink "SpokenMarks" (390 : Nat) ({ cls := "SpokenMarks$Catalogue", name := "movesFor", desc := "(I)I" } : Jvm.MethodName)) ∈ lw_all := lw_g (lw_at lw_m10 186 rfl) rfl
theorem q2473 : (Jvm.Cond.instanceMethod ({ cls := "SpokenMarks", name := "why", desc := "(I)I" } : Jvm.MethodName)) ∈ lw_all := lw_g (lw_at lw_m10 194 rfl) rfl
theorem q2474 : (Jvm.Cond.selects "SpokenMarks" ({ cls := "SpokenMarks", name := "why", desc := "(I)I" } : Jvm.MethodName) ({ cls := "SpokenMarks", name := "why", desc := "(I)I" } : Jvm.MethodName)) ∈ lw_all := lw_g (lw_at lw_m10 195 rfl) rfl
theorem q2475 : (Jvm.Cond.codeWith ({ cls := "SpokenMarks", name := "why", desc := "(I)I" } : Jvm.MethodName) prog_1_method_41_code (3 : Nat) (Option.some Jvm.ClassFile.FieldType.int) [((10 : Nat), (19 : Nat), (20 : Nat), (193 : Nat))]) ∈ lw_all := lw_g (lw_at lw_m10 196 rfl) rfl
theorem q2476 : (Jvm.Cond.methodLink "SpokenMarks" (400 : Nat) ({ cls := "SpokenMarks", name := "reasonFor", desc := "(LSpokenMarks$Mark;)I" } : Jvm.MethodName)) ∈ lw_all := lw_g (lw_at lw_m10 197 rfl) rfl
theorem q2477 : (Jvm.Cond.privateMethod ({ cls := "SpokenMarks", name := "reasonFor", desc := "(LSpokenMarks$Mark;)I" } : Jvm.MethodName)) ∈ lw_tbl := lw_at lw_m10 198 rfl
theorem q2478 : (Jvm.Cond.instanceMethod ({ cls := "SpokenMarks", name := "reasonFor", desc := "(LSpokenMarks$Mark;)I" } : Jvm.MethodName)) ∈ lw_all := lw_g (lw_at lw_m10 199 rfl) rfl
theorem q2479 : (Jvm.Cond.code ({ cls := "SpokenMarks", name := "reasonFor", desc := "(LSpokenMarks$Mark;)I" } : Jvm.MethodName) prog_1_method_40_code (5 : Nat) (Option.some Jvm.ClassFile.FieldType.int)) ∈ lw_all := lw_g (lw_at lw_m10 200 rfl) rfl
theorem q2480 : (Jvm.Cond.methodLink "SpokenMarks" (393 : Nat) ({ cls := "SpokenMarks$Catalogue", name := "firstLike", desc := "(LSpokenMarks$Mark;)I" } : Jvm.MethodName)) ∈ lw_all := lw_g (lw_at lw_m10 201 rfl) rfl
theorem q2484 : (Jvm.Cond.methodLink "SpokenMarks" (396 : Nat) ({ cls := "SpokenMarks$Catalogue", name := "isTight", desc := "(I)Z" } : Jvm.MethodName)) ∈ lw_all := lw_g (lw_at lw_m10 205 rfl) rfl
theorem q2489 : (Jvm.Cond.instanceMethod ({ cls := "SpokenMarks", name := "filled", desc := "(I)F" } : Jvm.MethodName)) ∈ lw_all := lw_g (lw_at lw_m10 210 rfl) rfl
theorem q2490 : (Jvm.Cond.selects "SpokenMarks" ({ cls := "SpokenMarks", name := "filled", desc := "(I)F" } : Jvm.MethodName) ({ cls := "SpokenMarks", name := "filled", desc := "(I)F" } : Jvm.MethodName)) ∈ lw_all := lw_g (lw_at lw_m10 211 rfl) rfl
theorem q2491 : (Jvm.Cond.code ({ cls := "SpokenMarks", name := "filled", desc := "(I)F" } : Jvm.MethodName) prog_1_method_43_code (2 : Nat) (Option.some Jvm.ClassFile.FieldType.float)) ∈ lw_all := lw_g (lw_at lw_m10 212 rfl) rfl
theorem q2496 : (Jvm.Cond.instanceMethod ({ cls := "SpokenMarks", name := "add", desc := "(II)I" } : Jvm.MethodName)) ∈ lw_all := lw_g (lw_at lw_m10 217 rfl) rfl
theorem q2497 : (Jvm.Cond.selects "SpokenMarks" ({ cls := "SpokenMarks", name := "add", desc := "(II)I" } : Jvm.MethodName) ({ cls := "SpokenMarks", name := "add", desc := "(II)I" } : Jvm.MethodName)) ∈ lw_all := lw_g (lw_at lw_m10 218 rfl) rfl
theorem q2498 : (Jvm.Cond.codeWith ({ cls := "SpokenMarks", name := "add", desc := "(II)I" } : Jvm.MethodName) prog_1_method_45_code (4 : Nat) (Option.some Jvm.ClassFile.FieldType.int) [((15 : Nat), (32 : Nat), (33 : Nat), (193 : Nat))]) ∈ lw_all := lw_g (lw_at lw_m10 219 rfl) rfl
theorem q2499 : (Jvm.Cond.classLink "SpokenMarks" (403 : Nat) "SpokenMarks$Adding") ∈ lw_all := lw_g (lw_at lw_m10 220 rfl) rfl
theorem q2501 : (Jvm.Cond.methodLink "SpokenMarks" (405 : Nat) ({ cls := "SpokenMarks$Adding", name := "<init>", desc := "(Ljava/util/List;I)V" } : Jvm.MethodName)) ∈ lw_all := lw_g (lw_at lw_m10 222 rfl) rfl
theorem q2516 : (Jvm.Cond.instanceMethod ({ cls := "SpokenMarks", name := "drop", desc := "(I)I" } : Jvm.MethodName)) ∈ lw_all := lw_g (lw_at lw_m10 237 rfl) rfl
theorem q2517 : (Jvm.Cond.selects "SpokenMarks" ({ cls := "SpokenMarks", name := "drop", desc := "(I)I" } : Jvm.MethodName) ({ cls := "SpokenMarks", name := "drop", desc := "(I)I" } : Jvm.MethodName)) ∈ lw_all := lw_g (lw_at lw_m10 238 rfl) rfl
theorem q2518 : (Jvm.Cond.code ({ cls := "SpokenMarks", name := "drop", desc := "(I)I" } : Jvm.MethodName) prog_1_method_46_code (3 : Nat) (Option.some Jvm.ClassFile.FieldType.int)) ∈ lw_all := lw_g (lw_at lw_m10 239 rfl) rfl
theorem q2519 : (Jvm.Cond.classLink "SpokenMarks" (412 : Nat) "SpokenMarks$Dropping") ∈ lw_all := lw_g (lw_at lw_m11 0 rfl) rfl
theorem q2521 : (Jvm.Cond.methodLink "SpokenMarks" (414 : Nat) ({ cls := "SpokenMarks$Dropping", name := "<init>", desc := "(I)V" } : Jvm.MethodName)) ∈ lw_all := lw_g (lw_at lw_m11 2 rfl) rfl
theorem q2533 : (Jvm.Cond.instanceMethod ({ cls := "SpokenMarks", name := "say", desc := "(I)I" } : Jvm.MethodName)) ∈ lw_all := lw_g (lw_at lw_m11 14 rfl) rfl
theorem q2534 : (Jvm.Cond.selects "SpokenMarks" ({ cls := "SpokenMarks", name := "say", desc := "(I)I" } : Jvm.MethodName) ({ cls := "SpokenMarks", name := "say", desc := "(I)I" } : Jvm.MethodName)) ∈ lw_all := lw_g (lw_at lw_m11 15 rfl) rfl
theorem q2535 : (Jvm.Cond.codeWith ({ cls := "SpokenMarks", name := "say", desc := "(I)I" } : Jvm.MethodName) prog_1_method_47_code (4 : Nat) (Option.some Jvm.ClassFile.FieldType.int) [((5 : Nat), (39 : Nat), (40 : Nat), (193 : Nat))]) ∈ lw_all := lw_g (lw_at lw_m11 16 rfl) rfl
theorem q2536 : (Jvm.Cond.methodLink "SpokenMarks" (415 : Nat) ({ cls := "SpokenMarks$Scanner", name := "rule", desc := "()LSpokenMarks$Rule;" } : Jvm.MethodName)) ∈ lw_all := lw_g (lw_at lw_m11 17 rfl) rfl
theorem q2537 : (Jvm.Cond.classLink "SpokenMarks" (419 : Nat) "SpokenMarks$Saying") ∈ lw_all := lw_g (lw_at lw_m11 18 rfl) rfl
theorem q2539 : (Jvm.Cond.methodLink "SpokenMarks" (421 : Nat) ({ cls := "SpokenMarks$Saying", name := "<init>", desc := "(LSpokenMarks$Rule;)V" } : Jvm.MethodName)) ∈ lw_all := lw_g (lw_at lw_m11 20 rfl) rfl
theorem q2551 : (Jvm.Cond.instanceMethod ({ cls := "SpokenMarks", name := "unsay", desc := "(I)I" } : Jvm.MethodName)) ∈ lw_all := lw_g (lw_at lw_m11 32 rfl) rfl
theorem q2552 : (Jvm.Cond.selects "SpokenMarks" ({ cls := "SpokenMarks", name := "unsay", desc := "(I)I" } : Jvm.MethodName) ({ cls := "SpokenMarks", name := "unsay", desc := "(I)I" } : Jvm.MethodName)) ∈ lw_all := lw_g (lw_at lw_m11 33 rfl) rfl
theorem q2553 : (Jvm.Cond.code ({ cls := "SpokenMarks", name := "unsay", desc := "(I)I" } : Jvm.MethodName) prog_1_method_48_code (2 : Nat) (Option.some Jvm.ClassFile.FieldType.int)) ∈ lw_all := lw_g (lw_at lw_m11 34 rfl) rfl
theorem q2554 : (Jvm.Cond.classLink "SpokenMarks" (424 : Nat) "SpokenMarks$Unsaying") ∈ lw_all := lw_g (lw_at lw_m11 35 rfl) rfl
theorem q2556 : (Jvm.Cond.methodLink "SpokenMarks" (426 : Nat) ({ cls := "SpokenMarks$Unsaying", name := "<init>", desc := "(I)V" } : Jvm.MethodName)) ∈ lw_all := lw_g (lw_at lw_m11 37 rfl) rfl
theorem q2568 : (Jvm.Cond.instanceMethod ({ cls := "SpokenMarks", name := "setWidth", desc := "(II)I" } : Jvm.MethodName)) ∈ lw_all := lw_g (lw_at lw_m11 49 rfl) rfl
theorem q2569 : (Jvm.Cond.selects "SpokenMarks" ({ cls := "SpokenMarks", name := "setWidth", desc := "(II)I" } : Jvm.MethodName) ({ cls := "SpokenMarks", name := "setWidth", desc := "(II)I" } : Jvm.MethodName)) ∈ lw_all := lw_g (lw_at lw_m11 50 rfl) rfl
theorem q2570 : (Jvm.Cond.code ({ cls := "SpokenMarks", name := "setWidth", desc := "(II)I" } : Jvm.MethodName) prog_1_method_49_code (4 : Nat) (Option.some Jvm.ClassFile.FieldType.int)) ∈ lw_all := lw_g (lw_at lw_m11 51 rfl) rfl
theorem q2571 : (Jvm.Cond.classLink "SpokenMarks" (427 : Nat) "SpokenMarks$Widening") ∈ lw_all := lw_g (lw_at lw_m11 52 rfl) rfl
theorem q2573 : (Jvm.Cond.methodLink "SpokenMarks" (429 : Nat) ({ cls := "SpokenMarks$Widening", name := "<init>", desc := "(II)V" } : Jvm.MethodName)) ∈ lw_all := lw_g (lw_at lw_m11 54 rfl) rfl
theorem q2588 : (Jvm.Cond.instanceMethod ({ cls := "SpokenMarks", name := "setBound", desc := "(II)I" } : Jvm.MethodName)) ∈ lw_all := lw_g (lw_at lw_m11 69 rfl) rfl
theorem q2589 : (Jvm.Cond.selects "SpokenMarks" ({ cls := "SpokenMarks", name := "setBound", desc := "(II)I" } : Jvm.MethodName) ({ cls := "SpokenMarks", name := "setBound", desc := "(II)I" } : Jvm.MethodName)) ∈ lw_all := lw_g (lw_at lw_m11 70 rfl) rfl
theorem q2590 : (Jvm.Cond.code ({ cls := "SpokenMarks", name := "setBound", desc := "(II)I" } : Jvm.MethodName) prog_1_method_50_code (3 : Nat) (Option.some Jvm.ClassFile.FieldType.int)) ∈ lw_all := lw_g (lw_at lw_m11 71 rfl) rfl
theorem q2591 : (Jvm.Cond.classLink "SpokenMarks" (430 : Nat) "SpokenMarks$Bounding") ∈ lw_all := lw_g (lw_at lw_m11 72 rfl) rfl
theorem q2593 : (Jvm.Cond.methodLink "SpokenMarks" (432 : Nat) ({ cls := "SpokenMarks$Bounding", name := "<init>", desc := "(II)V" } : Jvm.MethodName)) ∈ lw_all := lw_g (lw_at lw_m11 74 rfl) rfl
theorem q2608 : (Jvm.Cond.instanceMethod ({ cls := "SpokenMarks", name := "play", desc := "(I)I" } : Jvm.MethodName)) ∈ lw_all := lw_g (lw_at lw_m11 89 rfl) rfl
theorem q2609 : (Jvm.Cond.selects "SpokenMarks" ({ cls := "SpokenMarks", name := "play", desc := "(I)I" } : Jvm.MethodName) ({ cls := "SpokenMarks", name := "play", desc := "(I)I" } : Jvm.MethodName)) ∈ lw_all := lw_g (lw_at lw_m11 90 rfl) rfl
theorem q2610 : (Jvm.Cond.codeWith ({ cls := "SpokenMarks", name := "play", desc := "(I)I" } : Jvm.MethodName) prog_1_method_53_code (4 : Nat) (Option.some Jvm.ClassFile.FieldType.int) [((5 : Nat), (79 : Nat), (80 : Nat), (193 : Nat))]) ∈ lw_all := lw_g (lw_at lw_m11 91 rfl) rfl
theorem q2611 : (Jvm.Cond.classLink "SpokenMarks" (437 : Nat) "SpokenMarks$Script") ∈ lw_all := lw_g (lw_at lw_m11 92 rfl) rfl
theorem q2613 : (Jvm.Cond.methodLink "SpokenMarks" (439 : Nat) ({ cls := "SpokenMarks$Script", name := "<init>", desc := "([BILSpokenMarks$Catalogue;)V" } : Jvm.MethodName)) ∈ lw_all := lw_g (lw_at lw_m11 94 rfl) rfl
theorem q2633 : (Jvm.Cond.methodLink "SpokenMarks" (442 : Nat) ({ cls := "SpokenMarks$Script", name := "read", desc := "()Ljava/util/List;" } : Jvm.MethodName)) ∈ lw_all := lw_g (lw_at lw_m11 114 rfl) rfl
theorem q2694 : (Jvm.Cond.classLink "SpokenMarks" (140 : Nat) "SpokenMarks$Order") ∈ lw_all := lw_g (lw_at lw_m11 175 rfl) rfl
theorem q2699 : (Jvm.Cond.instanceMethod ({ cls := "SpokenMarks", name := "format", desc := "(I)I" } : Jvm.MethodName)) ∈ lw_all := lw_g (lw_at lw_m11 180 rfl) rfl
theorem q2700 : (Jvm.Cond.selects "SpokenMarks" ({ cls := "SpokenMarks", name := "format", desc := "(I)I" } : Jvm.MethodName) ({ cls := "SpokenMarks", name := "format", desc := "(I)I" } : Jvm.MethodName)) ∈ lw_all := lw_g (lw_at lw_m11 181 rfl) rfl
theorem q2701 : (Jvm.Cond.code ({ cls := "SpokenMarks", name := "format", desc := "(I)I" } : Jvm.MethodName) prog_1_method_55_code (5 : Nat) (Option.some Jvm.ClassFile.FieldType.int)) ∈ lw_all := lw_g (lw_at lw_m11 182 rfl) rfl
theorem q2702 : (Jvm.Cond.classLink "SpokenMarks" (446 : Nat) "java/lang/StringBuilder") ∈ lw_all := lw_g (lw_at lw_m11 183 rfl) rfl
theorem q2703 : (Jvm.Cond.methodLink "SpokenMarks" (460 : Nat) ({ cls := "java/lang/StringBuilder", name := "<init>", desc := "()V" } : Jvm.MethodName)) ∈ lw_all := lw_g (lw_at lw_m11 184 rfl) rfl
theorem q2704 : (Jvm.Cond.stringRef "SpokenMarks" (461 : Nat) " ") ∈ lw_tbl := lw_at lw_m11 185 rfl
theorem q2705 : (Jvm.Cond.methodLink "SpokenMarks" (445 : Nat) ({ cls := "java/lang/StringBuilder", name := "append", desc := "(Ljava/lang/String;)Ljava/lang/StringBuilder;" } : Jvm.MethodName)) ∈ lw_all := lw_g (lw_at lw_m11 186 rfl) rfl
theorem q2706 : (Jvm.Cond.methodLink "SpokenMarks" (463 : Nat) ({ cls := "SpokenMarks", name := "write", desc := "(LSpokenMarks$Part;Ljava/lang/StringBuilder;)V" } : Jvm.MethodName)) ∈ lw_all := lw_g (lw_at lw_m11 187 rfl) rfl
theorem q2707 : (Jvm.Cond.static ({ cls := "SpokenMarks", name := "write", desc := "(LSpokenMarks$Part;Ljava/lang/StringBuilder;)V" } : Jvm.MethodName)) ∈ lw_all := lw_g (lw_at lw_m11 188 rfl) rfl
theorem q2708 : (Jvm.Cond.code ({ cls := "SpokenMarks", name := "write", desc := "(LSpokenMarks$Part;Ljava/lang/StringBuilder;)V" } : Jvm.MethodName) prog_1_method_54_code (3 : Nat) (Option.none : Option Jvm.ClassFile.FieldType)) ∈ lw_all := lw_g (lw_at lw_m11 189 rfl) rfl
theorem q2709 : (Jvm.Cond.methodLink "SpokenMarks" (451 : Nat) ({ cls := "java/lang/String", name := "equals", desc := "(Ljava/lang/Object;)Z" } : Jvm.MethodName)) ∈ lw_all := lw_g (lw_at lw_m11 190 rfl) rfl
theorem q2710 : (Jvm.Cond.methodLink "SpokenMarks" (454 : Nat) ({ cls := "java/lang/StringBuilder", name := "append", desc := "(C)Ljava/lang/StringBuilder;" } : Jvm.MethodName)) ∈ lw_all := lw_g (lw_at lw_m11 191 rfl) rfl
theorem q2711 : (Jvm.Cond.methodLink "SpokenMarks" (457 : Nat) ({ cls := "java/lang/StringBuilder", name := "append", desc := "(I)Ljava/lang/StringBuilder;" } : Jvm.MethodName)) ∈ lw_all := lw_g (lw_at lw_m11 192 rfl) rfl
theorem q2712 : (Jvm.Cond.methodLink "SpokenMarks" (467 : Nat) ({ cls := "java/lang/StringBuilder", name := "toString", desc := "()Ljava/lang/String;" } : Jvm.MethodName)) ∈ lw_all := lw_g (lw_at lw_m11 193 rfl) rfl
theorem q3433 : (Jvm.Cond.castable "SpokenMarks" "java/lang/Object") ∈ lw_tbl := lw_at lw_m14 194 rfl
theorem in_X1 : ∀ w ∈ wsX10, w ∈ lw_all := lw_in wsX10 [1703, 1705, 1707, 1709, 1711, 1713, 1715, 1717, 1719, 1721, 1723] (by decide +kernel) (by decide +kernel)
/-! SpokenMarks$Catalogue -/
set_option maxRecDepth 100000
def RX2 : String := "SpokenMarks$Catalogue"
def TX2 : u_T := fun k => match k with
  | 0 => ("SpokenMarks$Catalogue", "shelves", "I", true)
  | 1 => ("SpokenMarks$Catalogue", "room", "I", true)
  | 2 => ("SpokenMarks$Catalogue", "bounds", "[I", true)
  | 3 => ("SpokenMarks$Catalogue", "marks", "Ljava/util/List;", true)
  | 4 => ("SpokenMarks$Catalogue", "rules", "Ljava/util/List;", true)
  | 5 => ("SpokenMarks$Catalogue", "spoken", "Ljava/util/Map;", true)
  | 6 => ("SpokenMarks$Catalogue", "order", "Ljava/util/Comparator;", true)
  | 7 => ("SpokenMarks$Catalogue", "accounts", "[I", false)
  | _ => ("SpokenMarks$Catalogue", "nextId", "I", false)
def tyX2 : Nat → FieldType := fun k => match k with
  | 0 => .int
  | 1 => .int
  | 2 => .array .int
  | 3 => .object "java/util/List"
  | 4 => .object "java/util/List"
  | 5 => .object "java/util/Map"
  | 6 => .object "java/util/Comparator"
  | 7 => .array .int
  | _ => .int
abbrev wsX20 : List Cond := u_ws RX2 TX2 9
theorem nmX2 : ∀ a, a < 9 → ∀ b, b < 9 → a ≠ b → (TX2 a).2.1 ≠ (TX2 b).2.1 := by decide +kernel
theorem tyX2_ok : ∀ k, k < 9 → parseFieldDescriptor (TX2 k).2.2.1 = some (tyX2 k) := by decide +kernel
abbrev cX2_init : ByteArray := prog_5_method_1_code
def yX2_init : MethodName := ⟨RX2, "<init>", "(II)V"⟩
def dkwX2_init_4 : List UInt8 := [17, 39, 16, 104, 27, 108, 79, 132, 3, 1, 167, 255, 235, 177]
abbrev dktX2_init_4 : List UInt8 := dkwX2_init_4 ++ []
def dkwX2_init_3 : List UInt8 := [28, 181, 0, 48, 42, 27, 188, 10, 181, 0, 51, 3, 62, 29, 27, 162, 0, 22, 42, 180, 0, 51, 29, 29]
abbrev dktX2_init_3 : List UInt8 := dkwX2_init_3 ++ dktX2_init_4
def dkwX2_init_2 : List UInt8 := [183, 0, 32, 181, 0, 33, 42, 6, 188, 10, 181, 0, 37, 42, 4, 181, 0, 41, 42, 27, 181, 0, 45, 42]
abbrev dktX2_init_2 : List UInt8 := dkwX2_init_2 ++ dktX2_init_3
def dkwX2_init_1 : List UInt8 := [183, 0, 11, 181, 0, 20, 42, 187, 0, 23, 89, 183, 0, 25, 181, 0, 26, 42, 187, 0, 30, 89]
abbrev dktX2_init_1 : List UInt8 := dkwX2_init_1 ++ dktX2_init_2
def dkwX2_init_0 : List UInt8 := [42, 183, 0, 3, 42, 187, 0, 9, 89, 16, 40, 183, 0, 11, 181, 0, 14, 42, 187, 0, 9, 89, 16, 8]
abbrev dktX2_init_0 : List UInt8 := dkwX2_init_0 ++ dktX2_init_1
theorem dksX2_init_0 : cX2_init.data.toList.drop 0 = dktX2_init_0 := by decide +kernel
theorem dksX2_init_1 : cX2_init.data.toList.drop 24 = dktX2_init_1 := dk_seg dksX2_init_0 24 rfl rfl
theorem dksX2_init_2 : cX2_init.data.toList.drop 46 = dktX2_init_2 := dk_seg dksX2_init_1 22 rfl rfl
theorem dksX2_init_3 : cX2_init.data.toList.drop 70 = dktX2_init_3 := dk_seg dksX2_init_2 24 rfl rfl
theorem dksX2_init_4 : cX2_init.data.toList.drop 94 = dktX2_init_4 := dk_seg dksX2_init_3 24 rfl rfl
theorem dX2_init_0 : decode cX2_init 0 = .ok (.aload_n 0, 1) := dk_42 (dk_at dksX2_init_0 0 rfl rfl)
theorem dX2_init_1 : decode cX2_init 1 = .ok (.invokespecial 3, 3) := dk_183 0 3 (dk_at dksX2_init_0 1 rfl rfl)
theorem dX2_init_4 : decode cX2_init 4 = .ok (.aload_n 0, 1) := dk_42 (dk_at dksX2_init_0 4 rfl rfl)
theorem dX2_init_5 : decode cX2_init 5 = .ok (.new 9, 3) := dk_187 0 9 (dk_at dksX2_init_0 5 rfl rfl)
theorem dX2_init_8 : decode cX2_init 8 = .ok (.dup, 1) := dk_89 (dk_at dksX2_init_0 8 rfl rfl)
theorem dX2_init_9 : decode cX2_init 9 = .ok (.bipush 40, 2) := dk_16 40 (dk_at dksX2_init_0 9 rfl rfl)
theorem dX2_init_11 : decode cX2_init 11 = .ok (.invokespecial 11, 3) := dk_183 0 11 (dk_at dksX2_init_0 11 rfl rfl)
theorem dX2_init_14 : decode cX2_init 14 = .ok (.putfield 14, 3) := dk_181 0 14 (dk_at dksX2_init_0 14 rfl rfl)
theorem dX2_init_17 : decode cX2_init 17 = .ok (.aload_n 0, 1) := dk_42 (dk_at dksX2_init_0 17 rfl rfl)
theorem dX2_init_18 : decode cX2_init 18 = .ok (.new 9, 3) := dk_187 0 9 (dk_at dksX2_init_0 18 rfl rfl)
theorem dX2_init_21 : decode cX2_init 21 = .ok (.dup, 1) := dk_89 (dk_at dksX2_init_0 21 rfl rfl)
theorem dX2_init_22 : decode cX2_init 22 = .ok (.bipush 8, 2) := dk_16 8 (dk_at dksX2_init_0 22 rfl rfl)
theorem dX2_init_24 : decode cX2_init 24 = .ok (.invokespecial 11, 3) := dk_183 0 11 (dk_at dksX2_init_1 0 rfl rfl)
theorem dX2_init_27 : decode cX2_init 27 = .ok (.putfield 20, 3) := dk_181 0 20 (dk_at dksX2_init_1 3 rfl rfl)
theorem dX2_init_30 : decode cX2_init 30 = .ok (.aload_n 0, 1) := dk_42 (dk_at dksX2_init_1 6 rfl rfl)
theorem dX2_init_31 : decode cX2_init 31 = .ok (.new 23, 3) := dk_187 0 23 (dk_at dksX2_init_1 7 rfl rfl)
theorem dX2_init_34 : decode cX2_init 34 = .ok (.dup, 1) := dk_89 (dk_at dksX2_init_1 10 rfl rfl)
theorem dX2_init_35 : decode cX2_init 35 = .ok (.invokespecial 25, 3) := dk_183 0 25 (dk_at dksX2_init_1 11 rfl rfl)
theorem dX2_init_38 : decode cX2_init 38 = .ok (.putfield 26, 3) := dk_181 0 26 (dk_at dksX2_init_1 14 rfl rfl)
theorem dX2_init_41 : decode cX2_init 41 = .ok (.aload_n 0, 1) := dk_42 (dk_at dksX2_init_1 17 rfl rfl)
theorem dX2_init_42 : decode cX2_init 42 = .ok (.new 30, 3) := dk_187 0 30 (dk_at dksX2_init_1 18 rfl rfl)
theorem dX2_init_45 : decode cX2_init 45 = .ok (.dup, 1) := dk_89 (dk_at dksX2_init_1 21 rfl rfl)
theorem dX2_init_46 : decode cX2_init 46 = .ok (.invokespecial 32, 3) := dk_183 0 32 (dk_at dksX2_init_2 0 rfl rfl)
theorem dX2_init_49 : decode cX2_init 49 = .ok (.putfield 33, 3) := dk_181 0 33 (dk_at dksX2_init_2 3 rfl rfl)
theorem dX2_init_52 : decode cX2_init 52 = .ok (.aload_n 0, 1) := dk_42 (dk_at dksX2_init_2 6 rfl rfl)
theorem dX2_init_53 : decode cX2_init 53 = .ok (.iconst 3, 1) := dk_6 (dk_at dksX2_init_2 7 rfl rfl)
theorem dX2_init_54 : decode cX2_init 54 = .ok (.newarray .int, 2) := dk_188_10 (dk_at dksX2_init_2 8 rfl rfl)
theorem dX2_init_56 : decode cX2_init 56 = .ok (.putfield 37, 3) := dk_181 0 37 (dk_at dksX2_init_2 10 rfl rfl)
theorem dX2_init_59 : decode cX2_init 59 = .ok (.aload_n 0, 1) := dk_42 (dk_at dksX2_init_2 13 rfl rfl)
theorem dX2_init_60 : decode cX2_init 60 = .ok (.iconst 1, 1) := dk_4 (dk_at dksX2_init_2 14 rfl rfl)
theorem dX2_init_61 : decode cX2_init 61 = .ok (.putfield 41, 3) := dk_181 0 41 (dk_at dksX2_init_2 15 rfl rfl)
theorem dX2_init_64 : decode cX2_init 64 = .ok (.aload_n 0, 1) := dk_42 (dk_at dksX2_init_2 18 rfl rfl)
theorem dX2_init_65 : decode cX2_init 65 = .ok (.iload_n 1, 1) := dk_27 (dk_at dksX2_init_2 19 rfl rfl)
theorem dX2_init_66 : decode cX2_init 66 = .ok (.putfield 45, 3) := dk_181 0 45 (dk_at dksX2_init_2 20 rfl rfl)
theorem dX2_init_69 : decode cX2_init 69 = .ok (.aload_n 0, 1) := dk_42 (dk_at dksX2_init_2 23 rfl rfl)
theorem dX2_init_70 : decode cX2_init 70 = .ok (.iload_n 2, 1) := dk_28 (dk_at dksX2_init_3 0 rfl rfl)
theorem dX2_init_71 : decode cX2_init 71 = .ok (.putfield 48, 3) := dk_181 0 48 (dk_at dksX2_init_3 1 rfl rfl)
theorem dX2_init_74 : decode cX2_init 74 = .ok (.aload_n 0, 1) := dk_42 (dk_at dksX2_init_3 4 rfl rfl)
theorem dX2_init_75 : decode cX2_init 75 = .ok (.iload_n 1, 1) := dk_27 (dk_at dksX2_init_3 5 rfl rfl)
theorem dX2_init_76 : decode cX2_init 76 = .ok (.newarray .int, 2) := dk_188_10 (dk_at dksX2_init_3 6 rfl rfl)
theorem dX2_init_78 : decode cX2_init 78 = .ok (.putfield 51, 3) := dk_181 0 51 (dk_at dksX2_init_3 8 rfl rfl)
theorem dX2_init_81 : decode cX2_init 81 = .ok (.iconst 0, 1) := dk_3 (dk_at dksX2_init_3 11 rfl rfl)
theorem dX2_init_82 : decode cX2_init 82 = .ok (.istore_n 3, 1) := dk_62 (dk_at dksX2_init_3 12 rfl rfl)
theorem dX2_init_83 : decode cX2_init 83 = .ok (.iload_n 3, 1) := dk_29 (dk_at dksX2_init_3 13 rfl rfl)
theorem dX2_init_84 : decode cX2_init 84 = .ok (.iload_n 1, 1) := dk_27 (dk_at dksX2_init_3 14 rfl rfl)
theorem dX2_init_85 : decode cX2_init 85 = .ok (.if_icmp .ge 22, 3) := dk_162 0 22 (dk_at dksX2_init_3 15 rfl rfl)
theorem dX2_init_88 : decode cX2_init 88 = .ok (.aload_n 0, 1) := dk_42 (dk_at dksX2_init_3 18 rfl rfl)
theorem dX2_init_89 : decode cX2_init 89 = .ok (.getfield 51, 3) := dk_180 0 51 (dk_at dksX2_init_3 19 rfl rfl)
theorem dX2_init_92 : decode cX2_init 92 = .ok (.iload_n 3, 1) := dk_29 (dk_at dksX2_init_3 22 rfl rfl)
theorem dX2_init_93 : decode cX2_init 93 = .ok (.iload_n 3, 1) := dk_29 (dk_at dksX2_init_3 23 rfl rfl)
theorem dX2_init_94 : decode cX2_init 94 = .ok (.sipush 10000, 3) := dk_17 39 16 (dk_at dksX2_init_4 0 rfl rfl)
theorem dX2_init_97 : decode cX2_init 97 = .ok (.imul, 1) := dk_104 (dk_at dksX2_init_4 3 rfl rfl)
theorem dX2_init_98 : decode cX2_init 98 = .ok (.iload_n 1, 1) := dk_27 (dk_at dksX2_init_4 4 rfl rfl)
theorem dX2_init_99 : decode cX2_init 99 = .ok (.idiv, 1) := dk_108 (dk_at dksX2_init_4 5 rfl rfl)
theorem dX2_init_100 : decode cX2_init 100 = .ok (.iastore, 1) := dk_79 (dk_at dksX2_init_4 6 rfl rfl)
theorem dX2_init_101 : decode cX2_init 101 = .ok (.iinc 3 1, 3) := dk_132 3 1 (dk_at dksX2_init_4 7 rfl rfl)
theorem dX2_init_104 : decode cX2_init 104 = .ok (.goto (-21), 3) := dk_167 255 235 (dk_at dksX2_init_4 10 rfl rfl)
theorem dX2_init_107 : decode cX2_init 107 = .ok (.return_, 1) := dk_177 (dk_at dksX2_init_4 13 rfl rfl)
abbrev cX2_say : ByteArray := prog_5_method_18_code
def yX2_say : MethodName := ⟨RX2, "say", "(LSpokenMarks$Rule;)I"⟩
def dkwX2_say_1 : List UInt8 := [185, 0, 92, 3, 0, 87, 42, 182, 0, 199, 172]
abbrev dktX2_say_1 : List UInt8 := dkwX2_say_1 ++ []
def dkwX2_say_0 : List UInt8 := [42, 180, 0, 20, 43, 185, 0, 79, 2, 0, 87, 42, 180, 0, 26, 43, 180, 0, 85, 43, 180, 0, 89]
abbrev dktX2_say_0 : List UInt8 := dkwX2_say_0 ++ dktX2_say_1
theorem dksX2_say_0 : cX2_say.data.toList.drop 0 = dktX2_say_0 := by decide +kernel
theorem dksX2_say_1 : cX2_say.data.toList.drop 23 = dktX2_say_1 := dk_seg dksX2_say_0 23 rfl rfl
theorem dX2_say_0 : decode cX2_say 0 = .ok (.aload_n 0, 1) := dk_42 (dk_at dksX2_say_0 0 rfl rfl)
theorem dX2_say_1 : decode cX2_say 1 = .ok (.getfield 20, 3) := dk_180 0 20 (dk_at dksX2_say_0 1 rfl rfl)
theorem dX2_say_4 : decode cX2_say 4 = .ok (.aload_n 1, 1) := dk_43 (dk_at dksX2_say_0 4 rfl rfl)
theorem dX2_say_5 : decode cX2_say 5 = .ok (.invokeinterface 79 2, 5) := by decide +kernel
theorem dX2_say_10 : decode cX2_say 10 = .ok (.pop, 1) := dk_87 (dk_at dksX2_say_0 10 rfl rfl)
theorem dX2_say_11 : decode cX2_say 11 = .ok (.aload_n 0, 1) := dk_42 (dk_at dksX2_say_0 11 rfl rfl)
theorem dX2_say_12 : decode cX2_say 12 = .ok (.getfield 26, 3) := dk_180 0 26 (dk_at dksX2_say_0 12 rfl rfl)
theorem dX2_say_15 : decode cX2_say 15 = .ok (.aload_n 1, 1) := dk_43 (dk_at dksX2_say_0 15 rfl rfl)
theorem dX2_say_16 : decode cX2_say 16 = .ok (.getfield 85, 3) := dk_180 0 85 (dk_at dksX2_say_0 16 rfl rfl)
theorem dX2_say_19 : decode cX2_say 19 = .ok (.aload_n 1, 1) := dk_43 (dk_at dksX2_say_0 19 rfl rfl)
theorem dX2_say_20 : decode cX2_say 20 = .ok (.getfield 89, 3) := dk_180 0 89 (dk_at dksX2_say_0 20 rfl rfl)
theorem dX2_say_23 : decode cX2_say 23 = .ok (.invokeinterface 92 3, 5) := by decide +kernel
theorem dX2_say_28 : decode cX2_say 28 = .ok (.pop, 1) := dk_87 (dk_at dksX2_say_1 5 rfl rfl)
theorem dX2_say_29 : decode cX2_say 29 = .ok (.aload_n 0, 1) := dk_42 (dk_at dksX2_say_1 6 rfl rfl)
theorem dX2_say_30 : decode cX2_say 30 = .ok (.invokevirtual 199, 3) := dk_182 0 199 (dk_at dksX2_say_1 7 rfl rfl)
theorem dX2_say_33 : decode cX2_say 33 = .ok (.ireturn, 1) := dk_172 (dk_at dksX2_say_1 10 rfl rfl)
abbrev cX2_hearAnew : ByteArray := prog_5_method_16_code
def yX2_hearAnew : MethodName := ⟨RX2, "hearAnew", "()I"⟩
def dkwX2_hearAnew_6 : List UInt8 := [2, 182, 0, 177, 172]
abbrev dktX2_hearAnew_6 : List UInt8 := dkwX2_hearAnew_6 ++ []
def dkwX2_hearAnew_5 : List UInt8 := [180, 0, 14, 21, 6, 25, 5, 185, 0, 174, 3, 0, 167, 255, 158, 28, 153, 0, 7, 3, 167, 0, 8, 42]
abbrev dktX2_hearAnew_5 : List UInt8 := dkwX2_hearAnew_5 ++ dktX2_hearAnew_6
def dkwX2_hearAnew_4 : List UInt8 := [153, 0, 21, 21, 6, 42, 180, 0, 14, 185, 0, 129, 1, 0, 160, 0, 7, 4, 167, 0, 4, 3, 61, 42]
abbrev dktX2_hearAnew_4 : List UInt8 := dkwX2_hearAnew_4 ++ dktX2_hearAnew_5
def dkwX2_hearAnew_3 : List UInt8 := [180, 0, 193, 25, 4, 180, 0, 149, 183, 0, 168, 58, 5, 42, 25, 5, 182, 0, 145, 54, 6, 28]
abbrev dktX2_hearAnew_3 : List UInt8 := dkwX2_hearAnew_3 ++ dktX2_hearAnew_4
def dkwX2_hearAnew_2 : List UInt8 := [58, 4, 187, 0, 73, 89, 25, 4, 180, 0, 136, 42, 25, 4, 180, 0, 186, 182, 0, 189, 25, 4]
abbrev dktX2_hearAnew_2 : List UInt8 := dkwX2_hearAnew_2 ++ dktX2_hearAnew_3
def dkwX2_hearAnew_1 : List UInt8 := [185, 0, 57, 1, 0, 78, 45, 185, 0, 63, 1, 0, 153, 0, 95, 45, 185, 0, 69, 1, 0, 192, 0, 73]
abbrev dktX2_hearAnew_1 : List UInt8 := dkwX2_hearAnew_1 ++ dktX2_hearAnew_2
def dkwX2_hearAnew_0 : List UInt8 := [187, 0, 9, 89, 42, 180, 0, 14, 183, 0, 180, 76, 42, 180, 0, 14, 185, 0, 183, 1, 0, 4, 61, 43]
abbrev dktX2_hearAnew_0 : List UInt8 := dkwX2_hearAnew_0 ++ dktX2_hearAnew_1
theorem dksX2_hearAnew_0 : cX2_hearAnew.data.toList.drop 0 = dktX2_hearAnew_0 := by decide +kernel
theorem dksX2_hearAnew_1 : cX2_hearAnew.data.toList.drop 24 = dktX2_hearAnew_1 := dk_seg dksX2_hearAnew_0 24 rfl rfl
theorem dksX2_hearAnew_2 : cX2_hearAnew.data.toList.drop 48 = dktX2_hearAnew_2 := dk_seg dksX2_hearAnew_1 24 rfl rfl
theorem dksX2_hearAnew_3 : cX2_hearAnew.data.toList.drop 70 = dktX2_hearAnew_3 := dk_seg dksX2_hearAnew_2 22 rfl rfl
theorem dksX2_hearAnew_4 : cX2_hearAnew.data.toList.drop 92 = dktX2_hearAnew_4 := dk_seg dksX2_hearAnew_3 22 rfl rfl
theorem dksX2_hearAnew_5 : cX2_hearAnew.data.toList.drop 116 = dktX2_hearAnew_5 := dk_seg dksX2_hearAnew_4 24 rfl rfl
theorem dksX2_hearAnew_6 : cX2_hearAnew.data.toList.drop 140 = dktX2_hearAnew_6 := dk_seg dksX2_hearAnew_5 24 rfl rfl
theorem dX2_hearAnew_0 : decode cX2_hearAnew 0 = .ok (.new 9, 3) := dk_187 0 9 (dk_at dksX2_hearAnew_0 0 rfl rfl)
theorem dX2_hearAnew_3 : decode cX2_hearAnew 3 = .ok (.dup, 1) := dk_89 (dk_at dksX2_hearAnew_0 3 rfl rfl)
theorem dX2_hearAnew_4 : decode cX2_hearAnew 4 = .ok (.aload_n 0, 1) := dk_42 (dk_at dksX2_hearAnew_0 4 rfl rfl)
theorem dX2_hearAnew_5 : decode cX2_hearAnew 5 = .ok (.getfield 14, 3) := dk_180 0 14 (dk_at dksX2_hearAnew_0 5 rfl rfl)
theorem dX2_hearAnew_8 : decode cX2_hearAnew 8 = .ok (.invokespecial 180, 3) := dk_183 0 180 (dk_at dksX2_hearAnew_0 8 rfl rfl)
theorem dX2_hearAnew_11 : decode cX2_hearAnew 11 = .ok (.astore_n 1, 1) := dk_76 (dk_at dksX2_hearAnew_0 11 rfl rfl)
theorem dX2_hearAnew_12 : decode cX2_hearAnew 12 = .ok (.aload_n 0, 1) := dk_42 (dk_at dksX2_hearAnew_0 12 rfl rfl)
theorem dX2_hearAnew_13 : decode cX2_hearAnew 13 = .ok (.getfield 14, 3) := dk_180 0 14 (dk_at dksX2_hearAnew_0 13 rfl rfl)
theorem dX2_hearAnew_16 : decode cX2_hearAnew 16 = .ok (.invokeinterface 183 1, 5) := by decide +kernel
theorem dX2_hearAnew_21 : decode cX2_hearAnew 21 = .ok (.iconst 1, 1) := dk_4 (dk_at dksX2_hearAnew_0 21 rfl rfl)
theorem dX2_hearAnew_22 : decode cX2_hearAnew 22 = .ok (.istore_n 2, 1) := dk_61 (dk_at dksX2_hearAnew_0 22 rfl rfl)
theorem dX2_hearAnew_23 : decode cX2_hearAnew 23 = .ok (.aload_n 1, 1) := dk_43 (dk_at dksX2_hearAnew_0 23 rfl rfl)
theorem dX2_hearAnew_24 : decode cX2_hearAnew 24 = .ok (.invokeinterface 57 1, 5) := by decide +kernel
theorem dX2_hearAnew_29 : decode cX2_hearAnew 29 = .ok (.astore_n 3, 1) := dk_78 (dk_at dksX2_hearAnew_1 5 rfl rfl)
theorem dX2_hearAnew_30 : decode cX2_hearAnew 30 = .ok (.aload_n 3, 1) := dk_45 (dk_at dksX2_hearAnew_1 6 rfl rfl)
theorem dX2_hearAnew_31 : decode cX2_hearAnew 31 = .ok (.invokeinterface 63 1, 5) := by decide +kernel
theorem dX2_hearAnew_36 : decode cX2_hearAnew 36 = .ok (.ifCond .eq 95, 3) := dk_153 0 95 (dk_at dksX2_hearAnew_1 12 rfl rfl)
theorem dX2_hearAnew_39 : decode cX2_hearAnew 39 = .ok (.aload_n 3, 1) := dk_45 (dk_at dksX2_hearAnew_1 15 rfl rfl)
theorem dX2_hearAnew_40 : decode cX2_hearAnew 40 = .ok (.invokeinterface 69 1, 5) := by decide +kernel
theorem dX2_hearAnew_45 : decode cX2_hearAnew 45 = .ok (.checkcast 73, 3) := dk_192 0 73 (dk_at dksX2_hearAnew_1 21 rfl rfl)
theorem dX2_hearAnew_48 : decode cX2_hearAnew 48 = .ok (.astore 4, 2) := dk_58 4 (dk_at dksX2_hearAnew_2 0 rfl rfl)
theorem dX2_hearAnew_50 : decode cX2_hearAnew 50 = .ok (.new 73, 3) := dk_187 0 73 (dk_at dksX2_hearAnew_2 2 rfl rfl)
theorem dX2_hearAnew_53 : decode cX2_hearAnew 53 = .ok (.dup, 1) := dk_89 (dk_at dksX2_hearAnew_2 5 rfl rfl)
theorem dX2_hearAnew_54 : decode cX2_hearAnew 54 = .ok (.aload 4, 2) := dk_25 4 (dk_at dksX2_hearAnew_2 6 rfl rfl)
theorem dX2_hearAnew_56 : decode cX2_hearAnew 56 = .ok (.getfield 136, 3) := dk_180 0 136 (dk_at dksX2_hearAnew_2 8 rfl rfl)
theorem dX2_hearAnew_59 : decode cX2_hearAnew 59 = .ok (.aload_n 0, 1) := dk_42 (dk_at dksX2_hearAnew_2 11 rfl rfl)
theorem dX2_hearAnew_60 : decode cX2_hearAnew 60 = .ok (.aload 4, 2) := dk_25 4 (dk_at dksX2_hearAnew_2 12 rfl rfl)
theorem dX2_hearAnew_62 : decode cX2_hearAnew 62 = .ok (.getfield 186, 3) := dk_180 0 186 (dk_at dksX2_hearAnew_2 14 rfl rfl)
theorem dX2_hearAnew_65 : decode cX2_hearAnew 65 = .ok (.invokevirtual 189, 3) := dk_182 0 189 (dk_at dksX2_hearAnew_2 17 rfl rfl)
theorem dX2_hearAnew_68 : decode cX2_hearAnew 68 = .ok (.aload 4, 2) := dk_25 4 (dk_at dksX2_hearAnew_2 20 rfl rfl)
theorem dX2_hearAnew_70 : decode cX2_hearAnew 70 = .ok (.getfield 193, 3) := dk_180 0 193 (dk_at dksX2_hearAnew_3 0 rfl rfl)
theorem dX2_hearAnew_73 : decode cX2_hearAnew 73 = .ok (.aload 4, 2) := dk_25 4 (dk_at dksX2_hearAnew_3 3 rfl rfl)
theorem dX2_hearAnew_75 : decode cX2_hearAnew 75 = .ok (.getfield 149, 3) := dk_180 0 149 (dk_at dksX2_hearAnew_3 5 rfl rfl)
theorem dX2_hearAnew_78 : decode cX2_hearAnew 78 = .ok (.invokespecial 168, 3) := dk_183 0 168 (dk_at dksX2_hearAnew_3 8 rfl rfl)
theorem dX2_hearAnew_81 : decode cX2_hearAnew 81 = .ok (.astore 5, 2) := dk_58 5 (dk_at dksX2_hearAnew_3 11 rfl rfl)
theorem dX2_hearAnew_83 : decode cX2_hearAnew 83 = .ok (.aload_n 0, 1) := dk_42 (dk_at dksX2_hearAnew_3 13 rfl rfl)
theorem dX2_hearAnew_84 : decode cX2_hearAnew 84 = .ok (.aload 5, 2) := dk_25 5 (dk_at dksX2_hearAnew_3 14 rfl rfl)
theorem dX2_hearAnew_86 : decode cX2_hearAnew 86 = .ok (.invokevirtual 145, 3) := dk_182 0 145 (dk_at dksX2_hearAnew_3 16 rfl rfl)
theorem dX2_hearAnew_89 : decode cX2_hearAnew 89 = .ok (.istore 6, 2) := dk_54 6 (dk_at dksX2_hearAnew_3 19 rfl rfl)
theorem dX2_hearAnew_91 : decode cX2_hearAnew 91 = .ok (.iload_n 2, 1) := dk_28 (dk_at dksX2_hearAnew_3 21 rfl rfl)
theorem dX2_hearAnew_92 : decode cX2_hearAnew 92 = .ok (.ifCond .eq 21, 3) := dk_153 0 21 (dk_at dksX2_hearAnew_4 0 rfl rfl)
theorem dX2_hearAnew_95 : decode cX2_hearAnew 95 = .ok (.iload 6, 2) := dk_21 6 (dk_at dksX2_hearAnew_4 3 rfl rfl)
theorem dX2_hearAnew_97 : decode cX2_hearAnew 97 = .ok (.aload_n 0, 1) := dk_42 (dk_at dksX2_hearAnew_4 5 rfl rfl)
theorem dX2_hearAnew_98 : decode cX2_hearAnew 98 = .ok (.getfield 14, 3) := dk_180 0 14 (dk_at dksX2_hearAnew_4 6 rfl rfl)
theorem dX2_hearAnew_101 : decode cX2_hearAnew 101 = .ok (.invokeinterface 129 1, 5) := by decide +kernel
theorem dX2_hearAnew_106 : decode cX2_hearAnew 106 = .ok (.if_icmp .ne 7, 3) := dk_160 0 7 (dk_at dksX2_hearAnew_4 14 rfl rfl)
theorem dX2_hearAnew_109 : decode cX2_hearAnew 109 = .ok (.iconst 1, 1) := dk_4 (dk_at dksX2_hearAnew_4 17 rfl rfl)
theorem dX2_hearAnew_110 : decode cX2_hearAnew 110 = .ok (.goto 4, 3) := dk_167 0 4 (dk_at dksX2_hearAnew_4 18 rfl rfl)
theorem dX2_hearAnew_113 : decode cX2_hearAnew 113 = .ok (.iconst 0, 1) := dk_3 (dk_at dksX2_hearAnew_4 21 rfl rfl)
theorem dX2_hearAnew_114 : decode cX2_hearAnew 114 = .ok (.istore_n 2, 1) := dk_61 (dk_at dksX2_hearAnew_4 22 rfl rfl)
theorem dX2_hearAnew_115 : decode cX2_hearAnew 115 = .ok (.aload_n 0, 1) := dk_42 (dk_at dksX2_hearAnew_4 23 rfl rfl)
theorem dX2_hearAnew_116 : decode cX2_hearAnew 116 = .ok (.getfield 14, 3) := dk_180 0 14 (dk_at dksX2_hearAnew_5 0 rfl rfl)
theorem dX2_hearAnew_119 : decode cX2_hearAnew 119 = .ok (.iload 6, 2) := dk_21 6 (dk_at dksX2_hearAnew_5 3 rfl rfl)
theorem dX2_hearAnew_121 : decode cX2_hearAnew 121 = .ok (.aload 5, 2) := dk_25 5 (dk_at dksX2_hearAnew_5 5 rfl rfl)
theorem dX2_hearAnew_123 : decode cX2_hearAnew 123 = .ok (.invokeinterface 174 3, 5) := by decide +kernel
theorem dX2_hearAnew_128 : decode cX2_hearAnew 128 = .ok (.goto (-98), 3) := dk_167 255 158 (dk_at dksX2_hearAnew_5 12 rfl rfl)
theorem dX2_hearAnew_131 : decode cX2_hearAnew 131 = .ok (.iload_n 2, 1) := dk_28 (dk_at dksX2_hearAnew_5 15 rfl rfl)
theorem dX2_hearAnew_132 : decode cX2_hearAnew 132 = .ok (.ifCond .eq 7, 3) := dk_153 0 7 (dk_at dksX2_hearAnew_5 16 rfl rfl)
theorem dX2_hearAnew_135 : decode cX2_hearAnew 135 = .ok (.iconst 0, 1) := dk_3 (dk_at dksX2_hearAnew_5 19 rfl rfl)
theorem dX2_hearAnew_136 : decode cX2_hearAnew 136 = .ok (.goto 8, 3) := dk_167 0 8 (dk_at dksX2_hearAnew_5 20 rfl rfl)
theorem dX2_hearAnew_139 : decode cX2_hearAnew 139 = .ok (.aload_n 0, 1) := dk_42 (dk_at dksX2_hearAnew_5 23 rfl rfl)
theorem dX2_hearAnew_140 : decode cX2_hearAnew 140 = .ok (.iconst (-1), 1) := dk_2 (dk_at dksX2_hearAnew_6 0 rfl rfl)
theorem dX2_hearAnew_141 : decode cX2_hearAnew 141 = .ok (.invokevirtual 177, 3) := dk_182 0 177 (dk_at dksX2_hearAnew_6 1 rfl rfl)
theorem dX2_hearAnew_144 : decode cX2_hearAnew 144 = .ok (.ireturn, 1) := dk_172 (dk_at dksX2_hearAnew_6 4 rfl rfl)
abbrev cX2_heardAnew : ByteArray := prog_5_method_5_code
def yX2_heardAnew : MethodName := ⟨RX2, "heardAnew", "(Ljava/util/List;)Ljava/util/List;"⟩
def dkwX2_heardAnew_3 : List UInt8 := [185, 0, 79, 2, 0, 87, 167, 255, 200, 44, 176]
abbrev dktX2_heardAnew_3 : List UInt8 := dkwX2_heardAnew_3 ++ []
def dkwX2_heardAnew_2 : List UInt8 := [25, 4, 192, 0, 114, 58, 5, 42, 25, 5, 180, 0, 122, 182, 0, 125, 167, 0, 5, 25, 4]
abbrev dktX2_heardAnew_2 : List UInt8 := dkwX2_heardAnew_2 ++ dktX2_heardAnew_3
def dkwX2_heardAnew_1 : List UInt8 := [153, 0, 53, 45, 185, 0, 69, 1, 0, 192, 0, 120, 58, 4, 44, 25, 4, 193, 0, 114, 153, 0, 22]
abbrev dktX2_heardAnew_1 : List UInt8 := dkwX2_heardAnew_1 ++ dktX2_heardAnew_2
def dkwX2_heardAnew_0 : List UInt8 := [187, 0, 9, 89, 8, 183, 0, 11, 77, 43, 185, 0, 57, 1, 0, 78, 45, 185, 0, 63, 1, 0]
abbrev dktX2_heardAnew_0 : List UInt8 := dkwX2_heardAnew_0 ++ dktX2_heardAnew_1
theorem dksX2_heardAnew_0 : cX2_heardAnew.data.toList.drop 0 = dktX2_heardAnew_0 := by decide +kernel
theorem dksX2_heardAnew_1 : cX2_heardAnew.data.toList.drop 22 = dktX2_heardAnew_1 := dk_seg dksX2_heardAnew_0 22 rfl rfl
theorem dksX2_heardAnew_2 : cX2_heardAnew.data.toList.drop 45 = dktX2_heardAnew_2 := dk_seg dksX2_heardAnew_1 23 rfl rfl
theorem dksX2_heardAnew_3 : cX2_heardAnew.data.toList.drop 66 = dktX2_heardAnew_3 := dk_seg dksX2_heardAnew_2 21 rfl rfl
theorem dX2_heardAnew_0 : decode cX2_heardAnew 0 = .ok (.new 9, 3) := dk_187 0 9 (dk_at dksX2_heardAnew_0 0 rfl rfl)
theorem dX2_heardAnew_3 : decode cX2_heardAnew 3 = .ok (.dup, 1) := dk_89 (dk_at dksX2_heardAnew_0 3 rfl rfl)
theorem dX2_heardAnew_4 : decode cX2_heardAnew 4 = .ok (.iconst 5, 1) := dk_8 (dk_at dksX2_heardAnew_0 4 rfl rfl)
theorem dX2_heardAnew_5 : decode cX2_heardAnew 5 = .ok (.invokespecial 11, 3) := dk_183 0 11 (dk_at dksX2_heardAnew_0 5 rfl rfl)
theorem dX2_heardAnew_8 : decode cX2_heardAnew 8 = .ok (.astore_n 2, 1) := dk_77 (dk_at dksX2_heardAnew_0 8 rfl rfl)
theorem dX2_heardAnew_9 : decode cX2_heardAnew 9 = .ok (.aload_n 1, 1) := dk_43 (dk_at dksX2_heardAnew_0 9 rfl rfl)
theorem dX2_heardAnew_10 : decode cX2_heardAnew 10 = .ok (.invokeinterface 57 1, 5) := by decide +kernel
theorem dX2_heardAnew_15 : decode cX2_heardAnew 15 = .ok (.astore_n 3, 1) := dk_78 (dk_at dksX2_heardAnew_0 15 rfl rfl)
theorem dX2_heardAnew_16 : decode cX2_heardAnew 16 = .ok (.aload_n 3, 1) := dk_45 (dk_at dksX2_heardAnew_0 16 rfl rfl)
theorem dX2_heardAnew_17 : decode cX2_heardAnew 17 = .ok (.invokeinterface 63 1, 5) := by decide +kernel
theorem dX2_heardAnew_22 : decode cX2_heardAnew 22 = .ok (.ifCond .eq 53, 3) := dk_153 0 53 (dk_at dksX2_heardAnew_1 0 rfl rfl)
theorem dX2_heardAnew_25 : decode cX2_heardAnew 25 = .ok (.aload_n 3, 1) := dk_45 (dk_at dksX2_heardAnew_1 3 rfl rfl)
theorem dX2_heardAnew_26 : decode cX2_heardAnew 26 = .ok (.invokeinterface 69 1, 5) := by decide +kernel
theorem dX2_heardAnew_31 : decode cX2_heardAnew 31 = .ok (.checkcast 120, 3) := dk_192 0 120 (dk_at dksX2_heardAnew_1 9 rfl rfl)
theorem dX2_heardAnew_34 : decode cX2_heardAnew 34 = .ok (.astore 4, 2) := dk_58 4 (dk_at dksX2_heardAnew_1 12 rfl rfl)
theorem dX2_heardAnew_36 : decode cX2_heardAnew 36 = .ok (.aload_n 2, 1) := dk_44 (dk_at dksX2_heardAnew_1 14 rfl rfl)
theorem dX2_heardAnew_37 : decode cX2_heardAnew 37 = .ok (.aload 4, 2) := dk_25 4 (dk_at dksX2_heardAnew_1 15 rfl rfl)
theorem dX2_heardAnew_39 : decode cX2_heardAnew 39 = .ok (.instanceof 114, 3) := dk_193 0 114 (dk_at dksX2_heardAnew_1 17 rfl rfl)
theorem dX2_heardAnew_42 : decode cX2_heardAnew 42 = .ok (.ifCond .eq 22, 3) := dk_153 0 22 (dk_at dksX2_heardAnew_1 20 rfl rfl)
theorem dX2_heardAnew_45 : decode cX2_heardAnew 45 = .ok (.aload 4, 2) := dk_25 4 (dk_at dksX2_heardAnew_2 0 rfl rfl)
theorem dX2_heardAnew_47 : decode cX2_heardAnew 47 = .ok (.checkcast 114, 3) := dk_192 0 114 (dk_at dksX2_heardAnew_2 2 rfl rfl)
theorem dX2_heardAnew_50 : decode cX2_heardAnew 50 = .ok (.astore 5, 2) := dk_58 5 (dk_at dksX2_heardAnew_2 5 rfl rfl)
theorem dX2_heardAnew_52 : decode cX2_heardAnew 52 = .ok (.aload_n 0, 1) := dk_42 (dk_at dksX2_heardAnew_2 7 rfl rfl)
theorem dX2_heardAnew_53 : decode cX2_heardAnew 53 = .ok (.aload 5, 2) := dk_25 5 (dk_at dksX2_heardAnew_2 8 rfl rfl)
theorem dX2_heardAnew_55 : decode cX2_heardAnew 55 = .ok (.getfield 122, 3) := dk_180 0 122 (dk_at dksX2_heardAnew_2 10 rfl rfl)
theorem dX2_heardAnew_58 : decode cX2_heardAnew 58 = .ok (.invokevirtual 125, 3) := dk_182 0 125 (dk_at dksX2_heardAnew_2 13 rfl rfl)
theorem dX2_heardAnew_61 : decode cX2_heardAnew 61 = .ok (.goto 5, 3) := dk_167 0 5 (dk_at dksX2_heardAnew_2 16 rfl rfl)
theorem dX2_heardAnew_64 : decode cX2_heardAnew 64 = .ok (.aload 4, 2) := dk_25 4 (dk_at dksX2_heardAnew_2 19 rfl rfl)
theorem dX2_heardAnew_66 : decode cX2_heardAnew 66 = .ok (.invokeinterface 79 2, 5) := by decide +kernel
theorem dX2_heardAnew_71 : decode cX2_heardAnew 71 = .ok (.pop, 1) := dk_87 (dk_at dksX2_heardAnew_3 5 rfl rfl)
theorem dX2_heardAnew_72 : decode cX2_heardAnew 72 = .ok (.goto (-56), 3) := dk_167 255 200 (dk_at dksX2_heardAnew_3 6 rfl rfl)
theorem dX2_heardAnew_75 : decode cX2_heardAnew 75 = .ok (.aload_n 2, 1) := dk_44 (dk_at dksX2_heardAnew_3 9 rfl rfl)
theorem dX2_heardAnew_76 : decode cX2_heardAnew 76 = .ok (.areturn, 1) := dk_176 (dk_at dksX2_heardAnew_3 10 rfl rfl)
abbrev cX2_heard : ByteArray := prog_5_method_4_code
def yX2_heard : MethodName := ⟨RX2, "heard", "(Ljava/lang/String;)LSpokenMarks$Word;"⟩
def dkwX2_heard_0 : List UInt8 := [187, 0, 114, 89, 43, 42, 43, 182, 0, 116, 183, 0, 117, 176]
abbrev dktX2_heard_0 : List UInt8 := dkwX2_heard_0 ++ []
theorem dksX2_heard_0 : cX2_heard.data.toList.drop 0 = dktX2_heard_0 := by decide +kernel
theorem dX2_heard_0 : decode cX2_heard 0 = .ok (.new 114, 3) := dk_187 0 114 (dk_at dksX2_heard_0 0 rfl rfl)
theorem dX2_heard_3 : decode cX2_heard 3 = .ok (.dup, 1) := dk_89 (dk_at dksX2_heard_0 3 rfl rfl)
theorem dX2_heard_4 : decode cX2_heard 4 = .ok (.aload_n 1, 1) := dk_43 (dk_at dksX2_heard_0 4 rfl rfl)
theorem dX2_heard_5 : decode cX2_heard 5 = .ok (.aload_n 0, 1) := dk_42 (dk_at dksX2_heard_0 5 rfl rfl)
theorem dX2_heard_6 : decode cX2_heard 6 = .ok (.aload_n 1, 1) := dk_43 (dk_at dksX2_heard_0 6 rfl rfl)
theorem dX2_heard_7 : decode cX2_heard 7 = .ok (.invokevirtual 116, 3) := dk_182 0 116 (dk_at dksX2_heard_0 7 rfl rfl)
theorem dX2_heard_10 : decode cX2_heard 10 = .ok (.invokespecial 117, 3) := dk_183 0 117 (dk_at dksX2_heard_0 10 rfl rfl)
theorem dX2_heard_13 : decode cX2_heard 13 = .ok (.areturn, 1) := dk_176 (dk_at dksX2_heard_0 13 rfl rfl)
abbrev cX2_earOf : ByteArray := prog_5_method_3_code
def yX2_earOf : MethodName := ⟨RX2, "earOf", "(Ljava/lang/String;)Ljava/lang/String;"⟩
def dkwX2_earOf_1 : List UInt8 := [184, 0, 108, 176]
abbrev dktX2_earOf_1 : List UInt8 := dkwX2_earOf_1 ++ []
def dkwX2_earOf_0 : List UInt8 := [42, 180, 0, 26, 43, 185, 0, 102, 2, 0, 192, 0, 106, 77, 44, 199, 0, 7, 43, 167, 0, 4, 44]
abbrev dktX2_earOf_0 : List UInt8 := dkwX2_earOf_0 ++ dktX2_earOf_1
theorem dksX2_earOf_0 : cX2_earOf.data.toList.drop 0 = dktX2_earOf_0 := by decide +kernel
theorem dksX2_earOf_1 : cX2_earOf.data.toList.drop 23 = dktX2_earOf_1 := dk_seg dksX2_earOf_0 23 rfl rfl
theorem dX2_earOf_0 : decode cX2_earOf 0 = .ok (.aload_n 0, 1) := dk_42 (dk_at dksX2_earOf_0 0 rfl rfl)
theorem dX2_earOf_1 : decode cX2_earOf 1 = .ok (.getfield 26, 3) := dk_180 0 26 (dk_at dksX2_earOf_0 1 rfl rfl)
theorem dX2_earOf_4 : decode cX2_earOf 4 = .ok (.aload_n 1, 1) := dk_43 (dk_at dksX2_earOf_0 4 rfl rfl)
theorem dX2_earOf_5 : decode cX2_earOf 5 = .ok (.invokeinterface 102 2, 5) := by decide +kernel
theorem dX2_earOf_10 : decode cX2_earOf 10 = .ok (.checkcast 106, 3) := dk_192 0 106 (dk_at dksX2_earOf_0 10 rfl rfl)
theorem dX2_earOf_13 : decode cX2_earOf 13 = .ok (.astore_n 2, 1) := dk_77 (dk_at dksX2_earOf_0 13 rfl rfl)
theorem dX2_earOf_14 : decode cX2_earOf 14 = .ok (.aload_n 2, 1) := dk_44 (dk_at dksX2_earOf_0 14 rfl rfl)
theorem dX2_earOf_15 : decode cX2_earOf 15 = .ok (.ifnonnull 7, 3) := dk_199 0 7 (dk_at dksX2_earOf_0 15 rfl rfl)
theorem dX2_earOf_18 : decode cX2_earOf 18 = .ok (.aload_n 1, 1) := dk_43 (dk_at dksX2_earOf_0 18 rfl rfl)
theorem dX2_earOf_19 : decode cX2_earOf 19 = .ok (.goto 4, 3) := dk_167 0 4 (dk_at dksX2_earOf_0 19 rfl rfl)
theorem dX2_earOf_22 : decode cX2_earOf 22 = .ok (.aload_n 2, 1) := dk_44 (dk_at dksX2_earOf_0 22 rfl rfl)
theorem dX2_earOf_23 : decode cX2_earOf 23 = .ok (.invokestatic 108, 3) := dk_184 0 108 (dk_at dksX2_earOf_1 0 rfl rfl)
theorem dX2_earOf_26 : decode cX2_earOf 26 = .ok (.areturn, 1) := dk_176 (dk_at dksX2_earOf_1 3 rfl rfl)
abbrev cX2_rankFor : ByteArray := prog_5_method_7_code
def yX2_rankFor : MethodName := ⟨RX2, "rankFor", "(LSpokenMarks$Mark;)I"⟩
def dkwX2_rankFor_2 : List UInt8 := [172]
abbrev dktX2_rankFor_2 : List UInt8 := dkwX2_rankFor_2 ++ []
def dkwX2_rankFor_1 : List UInt8 := [185, 0, 133, 2, 0, 192, 0, 73, 43, 185, 0, 139, 3, 0, 156, 0, 9, 132, 2, 1, 167, 255, 214, 28]
abbrev dktX2_rankFor_1 : List UInt8 := dkwX2_rankFor_1 ++ dktX2_rankFor_2
def dkwX2_rankFor_0 : List UInt8 := [3, 61, 28, 42, 180, 0, 14, 185, 0, 129, 1, 0, 162, 0, 35, 42, 180, 0, 33, 42, 180, 0, 14, 28]
abbrev dktX2_rankFor_0 : List UInt8 := dkwX2_rankFor_0 ++ dktX2_rankFor_1
theorem dksX2_rankFor_0 : cX2_rankFor.data.toList.drop 0 = dktX2_rankFor_0 := by decide +kernel
theorem dksX2_rankFor_1 : cX2_rankFor.data.toList.drop 24 = dktX2_rankFor_1 := dk_seg dksX2_rankFor_0 24 rfl rfl
theorem dksX2_rankFor_2 : cX2_rankFor.data.toList.drop 48 = dktX2_rankFor_2 := dk_seg dksX2_rankFor_1 24 rfl rfl
theorem dX2_rankFor_0 : decode cX2_rankFor 0 = .ok (.iconst 0, 1) := dk_3 (dk_at dksX2_rankFor_0 0 rfl rfl)
theorem dX2_rankFor_1 : decode cX2_rankFor 1 = .ok (.istore_n 2, 1) := dk_61 (dk_at dksX2_rankFor_0 1 rfl rfl)
theorem dX2_rankFor_2 : decode cX2_rankFor 2 = .ok (.iload_n 2, 1) := dk_28 (dk_at dksX2_rankFor_0 2 rfl rfl)
theorem dX2_rankFor_3 : decode cX2_rankFor 3 = .ok (.aload_n 0, 1) := dk_42 (dk_at dksX2_rankFor_0 3 rfl rfl)
theorem dX2_rankFor_4 : decode cX2_rankFor 4 = .ok (.getfield 14, 3) := dk_180 0 14 (dk_at dksX2_rankFor_0 4 rfl rfl)
theorem dX2_rankFor_7 : decode cX2_rankFor 7 = .ok (.invokeinterface 129 1, 5) := by decide +kernel
theorem dX2_rankFor_12 : decode cX2_rankFor 12 = .ok (.if_icmp .ge 35, 3) := dk_162 0 35 (dk_at dksX2_rankFor_0 12 rfl rfl)
theorem dX2_rankFor_15 : decode cX2_rankFor 15 = .ok (.aload_n 0, 1) := dk_42 (dk_at dksX2_rankFor_0 15 rfl rfl)
theorem dX2_rankFor_16 : decode cX2_rankFor 16 = .ok (.getfield 33, 3) := dk_180 0 33 (dk_at dksX2_rankFor_0 16 rfl rfl)
theorem dX2_rankFor_19 : decode cX2_rankFor 19 = .ok (.aload_n 0, 1) := dk_42 (dk_at dksX2_rankFor_0 19 rfl rfl)
theorem dX2_rankFor_20 : decode cX2_rankFor 20 = .ok (.getfield 14, 3) := dk_180 0 14 (dk_at dksX2_rankFor_0 20 rfl rfl)
theorem dX2_rankFor_23 : decode cX2_rankFor 23 = .ok (.iload_n 2, 1) := dk_28 (dk_at dksX2_rankFor_0 23 rfl rfl)
theorem dX2_rankFor_24 : decode cX2_rankFor 24 = .ok (.invokeinterface 133 2, 5) := by decide +kernel
theorem dX2_rankFor_29 : decode cX2_rankFor 29 = .ok (.checkcast 73, 3) := dk_192 0 73 (dk_at dksX2_rankFor_1 5 rfl rfl)
theorem dX2_rankFor_32 : decode cX2_rankFor 32 = .ok (.aload_n 1, 1) := dk_43 (dk_at dksX2_rankFor_1 8 rfl rfl)
theorem dX2_rankFor_33 : decode cX2_rankFor 33 = .ok (.invokeinterface 139 3, 5) := by decide +kernel
theorem dX2_rankFor_38 : decode cX2_rankFor 38 = .ok (.ifCond .ge 9, 3) := dk_156 0 9 (dk_at dksX2_rankFor_1 14 rfl rfl)
theorem dX2_rankFor_41 : decode cX2_rankFor 41 = .ok (.iinc 2 1, 3) := dk_132 2 1 (dk_at dksX2_rankFor_1 17 rfl rfl)
theorem dX2_rankFor_44 : decode cX2_rankFor 44 = .ok (.goto (-42), 3) := dk_167 255 214 (dk_at dksX2_rankFor_1 20 rfl rfl)
theorem dX2_rankFor_47 : decode cX2_rankFor 47 = .ok (.iload_n 2, 1) := dk_28 (dk_at dksX2_rankFor_1 23 rfl rfl)
theorem dX2_rankFor_48 : decode cX2_rankFor 48 = .ok (.ireturn, 1) := dk_172 (dk_at dksX2_rankFor_2 0 rfl rfl)
abbrev cX2_respace : ByteArray := prog_5_method_14_code
def yX2_respace : MethodName := ⟨RX2, "respace", "(I)I"⟩
def dkwX2_respace_4 : List UInt8 := [180, 0, 37, 4, 92, 46, 4, 96, 79, 42, 180, 0, 37, 5, 92, 46, 28, 96, 79, 28, 172]
abbrev dktX2_respace_4 : List UInt8 := dkwX2_respace_4 ++ []
def dkwX2_respace_3 : List UInt8 := [167, 0, 4, 3, 184, 0, 164, 96, 61, 25, 4, 21, 5, 181, 0, 149, 132, 3, 1, 167, 255, 173, 42]
abbrev dktX2_respace_3 : List UInt8 := dkwX2_respace_3 ++ dktX2_respace_4
def dkwX2_respace_2 : List UInt8 := [54, 5, 28, 25, 4, 180, 0, 149, 21, 5, 159, 0, 16, 25, 4, 180, 0, 136, 27, 159, 0, 7, 4]
abbrev dktX2_respace_2 : List UInt8 := dkwX2_respace_2 ++ dktX2_respace_3
def dkwX2_respace_1 : List UInt8 := [185, 0, 133, 2, 0, 192, 0, 73, 58, 4, 29, 42, 180, 0, 14, 185, 0, 129, 1, 0, 184, 0, 160]
abbrev dktX2_respace_1 : List UInt8 := dkwX2_respace_1 ++ dktX2_respace_2
def dkwX2_respace_0 : List UInt8 := [3, 61, 3, 62, 29, 42, 180, 0, 14, 185, 0, 129, 1, 0, 162, 0, 76, 42, 180, 0, 14, 29]
abbrev dktX2_respace_0 : List UInt8 := dkwX2_respace_0 ++ dktX2_respace_1
theorem dksX2_respace_0 : cX2_respace.data.toList.drop 0 = dktX2_respace_0 := by decide +kernel
theorem dksX2_respace_1 : cX2_respace.data.toList.drop 22 = dktX2_respace_1 := dk_seg dksX2_respace_0 22 rfl rfl
theorem dksX2_respace_2 : cX2_respace.data.toList.drop 45 = dktX2_respace_2 := dk_seg dksX2_respace_1 23 rfl rfl
theorem dksX2_respace_3 : cX2_respace.data.toList.drop 68 = dktX2_respace_3 := dk_seg dksX2_respace_2 23 rfl rfl
theorem dksX2_respace_4 : cX2_respace.data.toList.drop 91 = dktX2_respace_4 := dk_seg dksX2_respace_3 23 rfl rfl
theorem dX2_respace_0 : decode cX2_respace 0 = .ok (.iconst 0, 1) := dk_3 (dk_at dksX2_respace_0 0 rfl rfl)
theorem dX2_respace_1 : decode cX2_respace 1 = .ok (.istore_n 2, 1) := dk_61 (dk_at dksX2_respace_0 1 rfl rfl)
theorem dX2_respace_2 : decode cX2_respace 2 = .ok (.iconst 0, 1) := dk_3 (dk_at dksX2_respace_0 2 rfl rfl)
theorem dX2_respace_3 : decode cX2_respace 3 = .ok (.istore_n 3, 1) := dk_62 (dk_at dksX2_respace_0 3 rfl rfl)
theorem dX2_respace_4 : decode cX2_respace 4 = .ok (.iload_n 3, 1) := dk_29 (dk_at dksX2_respace_0 4 rfl rfl)
theorem dX2_respace_5 : decode cX2_respace 5 = .ok (.aload_n 0, 1) := dk_42 (dk_at dksX2_respace_0 5 rfl rfl)
theorem dX2_respace_6 : decode cX2_respace 6 = .ok (.getfield 14, 3) := dk_180 0 14 (dk_at dksX2_respace_0 6 rfl rfl)
theorem dX2_respace_9 : decode cX2_respace 9 = .ok (.invokeinterface 129 1, 5) := by decide +kernel
theorem dX2_respace_14 : decode cX2_respace 14 = .ok (.if_icmp .ge 76, 3) := dk_162 0 76 (dk_at dksX2_respace_0 14 rfl rfl)
theorem dX2_respace_17 : decode cX2_respace 17 = .ok (.aload_n 0, 1) := dk_42 (dk_at dksX2_respace_0 17 rfl rfl)
theorem dX2_respace_18 : decode cX2_respace 18 = .ok (.getfield 14, 3) := dk_180 0 14 (dk_at dksX2_respace_0 18 rfl rfl)
theorem dX2_respace_21 : decode cX2_respace 21 = .ok (.iload_n 3, 1) := dk_29 (dk_at dksX2_respace_0 21 rfl rfl)
theorem dX2_respace_22 : decode cX2_respace 22 = .ok (.invokeinterface 133 2, 5) := by decide +kernel
theorem dX2_respace_27 : decode cX2_respace 27 = .ok (.checkcast 73, 3) := dk_192 0 73 (dk_at dksX2_respace_1 5 rfl rfl)
theorem dX2_respace_30 : decode cX2_respace 30 = .ok (.astore 4, 2) := dk_58 4 (dk_at dksX2_respace_1 8 rfl rfl)
theorem dX2_respace_32 : decode cX2_respace 32 = .ok (.iload_n 3, 1) := dk_29 (dk_at dksX2_respace_1 10 rfl rfl)
theorem dX2_respace_33 : decode cX2_respace 33 = .ok (.aload_n 0, 1) := dk_42 (dk_at dksX2_respace_1 11 rfl rfl)
theorem dX2_respace_34 : decode cX2_respace 34 = .ok (.getfield 14, 3) := dk_180 0 14 (dk_at dksX2_respace_1 12 rfl rfl)
theorem dX2_respace_37 : decode cX2_respace 37 = .ok (.invokeinterface 129 1, 5) := by decide +kernel
theorem dX2_respace_42 : decode cX2_respace 42 = .ok (.invokestatic 160, 3) := dk_184 0 160 (dk_at dksX2_respace_1 20 rfl rfl)
theorem dX2_respace_45 : decode cX2_respace 45 = .ok (.istore 5, 2) := dk_54 5 (dk_at dksX2_respace_2 0 rfl rfl)
theorem dX2_respace_47 : decode cX2_respace 47 = .ok (.iload_n 2, 1) := dk_28 (dk_at dksX2_respace_2 2 rfl rfl)
theorem dX2_respace_48 : decode cX2_respace 48 = .ok (.aload 4, 2) := dk_25 4 (dk_at dksX2_respace_2 3 rfl rfl)
theorem dX2_respace_50 : decode cX2_respace 50 = .ok (.getfield 149, 3) := dk_180 0 149 (dk_at dksX2_respace_2 5 rfl rfl)
theorem dX2_respace_53 : decode cX2_respace 53 = .ok (.iload 5, 2) := dk_21 5 (dk_at dksX2_respace_2 8 rfl rfl)
theorem dX2_respace_55 : decode cX2_respace 55 = .ok (.if_icmp .eq 16, 3) := dk_159 0 16 (dk_at dksX2_respace_2 10 rfl rfl)
theorem dX2_respace_58 : decode cX2_respace 58 = .ok (.aload 4, 2) := dk_25 4 (dk_at dksX2_respace_2 13 rfl rfl)
theorem dX2_respace_60 : decode cX2_respace 60 = .ok (.getfield 136, 3) := dk_180 0 136 (dk_at dksX2_respace_2 15 rfl rfl)
theorem dX2_respace_63 : decode cX2_respace 63 = .ok (.iload_n 1, 1) := dk_27 (dk_at dksX2_respace_2 18 rfl rfl)
theorem dX2_respace_64 : decode cX2_respace 64 = .ok (.if_icmp .eq 7, 3) := dk_159 0 7 (dk_at dksX2_respace_2 19 rfl rfl)
theorem dX2_respace_67 : decode cX2_respace 67 = .ok (.iconst 1, 1) := dk_4 (dk_at dksX2_respace_2 22 rfl rfl)
theorem dX2_respace_68 : decode cX2_respace 68 = .ok (.goto 4, 3) := dk_167 0 4 (dk_at dksX2_respace_3 0 rfl rfl)
theorem dX2_respace_71 : decode cX2_respace 71 = .ok (.iconst 0, 1) := dk_3 (dk_at dksX2_respace_3 3 rfl rfl)
theorem dX2_respace_72 : decode cX2_respace 72 = .ok (.invokestatic 164, 3) := dk_184 0 164 (dk_at dksX2_respace_3 4 rfl rfl)
theorem dX2_respace_75 : decode cX2_respace 75 = .ok (.iadd, 1) := dk_96 (dk_at dksX2_respace_3 7 rfl rfl)
theorem dX2_respace_76 : decode cX2_respace 76 = .ok (.istore_n 2, 1) := dk_61 (dk_at dksX2_respace_3 8 rfl rfl)
theorem dX2_respace_77 : decode cX2_respace 77 = .ok (.aload 4, 2) := dk_25 4 (dk_at dksX2_respace_3 9 rfl rfl)
theorem dX2_respace_79 : decode cX2_respace 79 = .ok (.iload 5, 2) := dk_21 5 (dk_at dksX2_respace_3 11 rfl rfl)
theorem dX2_respace_81 : decode cX2_respace 81 = .ok (.putfield 149, 3) := dk_181 0 149 (dk_at dksX2_respace_3 13 rfl rfl)
theorem dX2_respace_84 : decode cX2_respace 84 = .ok (.iinc 3 1, 3) := dk_132 3 1 (dk_at dksX2_respace_3 16 rfl rfl)
theorem dX2_respace_87 : decode cX2_respace 87 = .ok (.goto (-83), 3) := dk_167 255 173 (dk_at dksX2_respace_3 19 rfl rfl)
theorem dX2_respace_90 : decode cX2_respace 90 = .ok (.aload_n 0, 1) := dk_42 (dk_at dksX2_respace_3 22 rfl rfl)
theorem dX2_respace_91 : decode cX2_respace 91 = .ok (.getfield 37, 3) := dk_180 0 37 (dk_at dksX2_respace_4 0 rfl rfl)
theorem dX2_respace_94 : decode cX2_respace 94 = .ok (.iconst 1, 1) := dk_4 (dk_at dksX2_respace_4 3 rfl rfl)
theorem dX2_respace_95 : decode cX2_respace 95 = .ok (.dup2, 1) := dk_92 (dk_at dksX2_respace_4 4 rfl rfl)
theorem dX2_respace_96 : decode cX2_respace 96 = .ok (.iaload, 1) := dk_46 (dk_at dksX2_respace_4 5 rfl rfl)
theorem dX2_respace_97 : decode cX2_respace 97 = .ok (.iconst 1, 1) := dk_4 (dk_at dksX2_respace_4 6 rfl rfl)
theorem dX2_respace_98 : decode cX2_respace 98 = .ok (.iadd, 1) := dk_96 (dk_at dksX2_respace_4 7 rfl rfl)
theorem dX2_respace_99 : decode cX2_respace 99 = .ok (.iastore, 1) := dk_79 (dk_at dksX2_respace_4 8 rfl rfl)
theorem dX2_respace_100 : decode cX2_respace 100 = .ok (.aload_n 0, 1) := dk_42 (dk_at dksX2_respace_4 9 rfl rfl)
theorem dX2_respace_101 : decode cX2_respace 101 = .ok (.getfield 37, 3) := dk_180 0 37 (dk_at dksX2_respace_4 10 rfl rfl)
theorem dX2_respace_104 : decode cX2_respace 104 = .ok (.iconst 2, 1) := dk_5 (dk_at dksX2_respace_4 13 rfl rfl)
theorem dX2_respace_105 : decode cX2_respace 105 = .ok (.dup2, 1) := dk_92 (dk_at dksX2_respace_4 14 rfl rfl)
theorem dX2_respace_106 : decode cX2_respace 106 = .ok (.iaload, 1) := dk_46 (dk_at dksX2_respace_4 15 rfl rfl)
theorem dX2_respace_107 : decode cX2_respace 107 = .ok (.iload_n 2, 1) := dk_28 (dk_at dksX2_respace_4 16 rfl rfl)
theorem dX2_respace_108 : decode cX2_respace 108 = .ok (.iadd, 1) := dk_96 (dk_at dksX2_respace_4 17 rfl rfl)
theorem dX2_respace_109 : decode cX2_respace 109 = .ok (.iastore, 1) := dk_79 (dk_at dksX2_respace_4 18 rfl rfl)
theorem dX2_respace_110 : decode cX2_respace 110 = .ok (.iload_n 2, 1) := dk_28 (dk_at dksX2_respace_4 19 rfl rfl)
theorem dX2_respace_111 : decode cX2_respace 111 = .ok (.ireturn, 1) := dk_172 (dk_at dksX2_respace_4 20 rfl rfl)
abbrev cX2_spaced : ByteArray := prog_5_method_12_code
def yX2_spaced : MethodName := ⟨RX2, "spaced", "(II)I"⟩
def dkwX2_spaced_0 : List UInt8 := [26, 4, 96, 17, 39, 16, 104, 27, 4, 96, 108, 172]
abbrev dktX2_spaced_0 : List UInt8 := dkwX2_spaced_0 ++ []
theorem dksX2_spaced_0 : cX2_spaced.data.toList.drop 0 = dktX2_spaced_0 := by decide +kernel
theorem dX2_spaced_0 : decode cX2_spaced 0 = .ok (.iload_n 0, 1) := dk_26 (dk_at dksX2_spaced_0 0 rfl rfl)
theorem dX2_spaced_1 : decode cX2_spaced 1 = .ok (.iconst 1, 1) := dk_4 (dk_at dksX2_spaced_0 1 rfl rfl)
theorem dX2_spaced_2 : decode cX2_spaced 2 = .ok (.iadd, 1) := dk_96 (dk_at dksX2_spaced_0 2 rfl rfl)
theorem dX2_spaced_3 : decode cX2_spaced 3 = .ok (.sipush 10000, 3) := dk_17 39 16 (dk_at dksX2_spaced_0 3 rfl rfl)
theorem dX2_spaced_6 : decode cX2_spaced 6 = .ok (.imul, 1) := dk_104 (dk_at dksX2_spaced_0 6 rfl rfl)
theorem dX2_spaced_7 : decode cX2_spaced 7 = .ok (.iload_n 1, 1) := dk_27 (dk_at dksX2_spaced_0 7 rfl rfl)
theorem dX2_spaced_8 : decode cX2_spaced 8 = .ok (.iconst 1, 1) := dk_4 (dk_at dksX2_spaced_0 8 rfl rfl)
theorem dX2_spaced_9 : decode cX2_spaced 9 = .ok (.iadd, 1) := dk_96 (dk_at dksX2_spaced_0 9 rfl rfl)
theorem dX2_spaced_10 : decode cX2_spaced 10 = .ok (.idiv, 1) := dk_108 (dk_at dksX2_spaced_0 10 rfl rfl)
theorem dX2_spaced_11 : decode cX2_spaced 11 = .ok (.ireturn, 1) := dk_172 (dk_at dksX2_spaced_0 11 rfl rfl)
abbrev cX2_add : ByteArray := prog_5_method_15_code
def yX2_add : MethodName := ⟨RX2, "add", "(Ljava/util/List;I)I"⟩
def dkwX2_add_3 : List UInt8 := [46, 4, 96, 79, 21, 5, 153, 0, 13, 42, 45, 180, 0, 136, 182, 0, 177, 54, 6, 45, 180, 0, 136, 172]
abbrev dktX2_add_3 : List UInt8 := dkwX2_add_3 ++ []
def dkwX2_add_2 : List UInt8 := [182, 0, 171, 181, 0, 149, 42, 180, 0, 14, 21, 4, 45, 185, 0, 174, 3, 0, 42, 180, 0, 37, 3, 92]
abbrev dktX2_add_2 : List UInt8 := dkwX2_add_2 ++ dktX2_add_3
def dkwX2_add_1 : List UInt8 := [181, 0, 41, 42, 45, 182, 0, 145, 54, 4, 42, 21, 4, 182, 0, 156, 54, 5, 45, 42, 21, 4]
abbrev dktX2_add_1 : List UInt8 := dkwX2_add_1 ++ dktX2_add_2
def dkwX2_add_0 : List UInt8 := [187, 0, 73, 89, 42, 180, 0, 41, 43, 28, 2, 183, 0, 168, 78, 42, 89, 180, 0, 41, 4, 96]
abbrev dktX2_add_0 : List UInt8 := dkwX2_add_0 ++ dktX2_add_1
theorem dksX2_add_0 : cX2_add.data.toList.drop 0 = dktX2_add_0 := by decide +kernel
theorem dksX2_add_1 : cX2_add.data.toList.drop 22 = dktX2_add_1 := dk_seg dksX2_add_0 22 rfl rfl
theorem dksX2_add_2 : cX2_add.data.toList.drop 44 = dktX2_add_2 := dk_seg dksX2_add_1 22 rfl rfl
theorem dksX2_add_3 : cX2_add.data.toList.drop 68 = dktX2_add_3 := dk_seg dksX2_add_2 24 rfl rfl
theorem dX2_add_0 : decode cX2_add 0 = .ok (.new 73, 3) := dk_187 0 73 (dk_at dksX2_add_0 0 rfl rfl)
theorem dX2_add_3 : decode cX2_add 3 = .ok (.dup, 1) := dk_89 (dk_at dksX2_add_0 3 rfl rfl)
theorem dX2_add_4 : decode cX2_add 4 = .ok (.aload_n 0, 1) := dk_42 (dk_at dksX2_add_0 4 rfl rfl)
theorem dX2_add_5 : decode cX2_add 5 = .ok (.getfield 41, 3) := dk_180 0 41 (dk_at dksX2_add_0 5 rfl rfl)
theorem dX2_add_8 : decode cX2_add 8 = .ok (.aload_n 1, 1) := dk_43 (dk_at dksX2_add_0 8 rfl rfl)
theorem dX2_add_9 : decode cX2_add 9 = .ok (.iload_n 2, 1) := dk_28 (dk_at dksX2_add_0 9 rfl rfl)
theorem dX2_add_10 : decode cX2_add 10 = .ok (.iconst (-1), 1) := dk_2 (dk_at dksX2_add_0 10 rfl rfl)
theorem dX2_add_11 : decode cX2_add 11 = .ok (.invokespecial 168, 3) := dk_183 0 168 (dk_at dksX2_add_0 11 rfl rfl)
theorem dX2_add_14 : decode cX2_add 14 = .ok (.astore_n 3, 1) := dk_78 (dk_at dksX2_add_0 14 rfl rfl)
theorem dX2_add_15 : decode cX2_add 15 = .ok (.aload_n 0, 1) := dk_42 (dk_at dksX2_add_0 15 rfl rfl)
theorem dX2_add_16 : decode cX2_add 16 = .ok (.dup, 1) := dk_89 (dk_at dksX2_add_0 16 rfl rfl)
theorem dX2_add_17 : decode cX2_add 17 = .ok (.getfield 41, 3) := dk_180 0 41 (dk_at dksX2_add_0 17 rfl rfl)
theorem dX2_add_20 : decode cX2_add 20 = .ok (.iconst 1, 1) := dk_4 (dk_at dksX2_add_0 20 rfl rfl)
theorem dX2_add_21 : decode cX2_add 21 = .ok (.iadd, 1) := dk_96 (dk_at dksX2_add_0 21 rfl rfl)
theorem dX2_add_22 : decode cX2_add 22 = .ok (.putfield 41, 3) := dk_181 0 41 (dk_at dksX2_add_1 0 rfl rfl)
theorem dX2_add_25 : decode cX2_add 25 = .ok (.aload_n 0, 1) := dk_42 (dk_at dksX2_add_1 3 rfl rfl)
theorem dX2_add_26 : decode cX2_add 26 = .ok (.aload_n 3, 1) := dk_45 (dk_at dksX2_add_1 4 rfl rfl)
theorem dX2_add_27 : decode cX2_add 27 = .ok (.invokevirtual 145, 3) := dk_182 0 145 (dk_at dksX2_add_1 5 rfl rfl)
theorem dX2_add_30 : decode cX2_add 30 = .ok (.istore 4, 2) := dk_54 4 (dk_at dksX2_add_1 8 rfl rfl)
theorem dX2_add_32 : decode cX2_add 32 = .ok (.aload_n 0, 1) := dk_42 (dk_at dksX2_add_1 10 rfl rfl)
theorem dX2_add_33 : decode cX2_add 33 = .ok (.iload 4, 2) := dk_21 4 (dk_at dksX2_add_1 11 rfl rfl)
theorem dX2_add_35 : decode cX2_add 35 = .ok (.invokevirtual 156, 3) := dk_182 0 156 (dk_at dksX2_add_1 13 rfl rfl)
theorem dX2_add_38 : decode cX2_add 38 = .ok (.istore 5, 2) := dk_54 5 (dk_at dksX2_add_1 16 rfl rfl)
theorem dX2_add_40 : decode cX2_add 40 = .ok (.aload_n 3, 1) := dk_45 (dk_at dksX2_add_1 18 rfl rfl)
theorem dX2_add_41 : decode cX2_add 41 = .ok (.aload_n 0, 1) := dk_42 (dk_at dksX2_add_1 19 rfl rfl)
theorem dX2_add_42 : decode cX2_add 42 = .ok (.iload 4, 2) := dk_21 4 (dk_at dksX2_add_1 20 rfl rfl)
theorem dX2_add_44 : decode cX2_add 44 = .ok (.invokevirtual 171, 3) := dk_182 0 171 (dk_at dksX2_add_2 0 rfl rfl)
theorem dX2_add_47 : decode cX2_add 47 = .ok (.putfield 149, 3) := dk_181 0 149 (dk_at dksX2_add_2 3 rfl rfl)
theorem dX2_add_50 : decode cX2_add 50 = .ok (.aload_n 0, 1) := dk_42 (dk_at dksX2_add_2 6 rfl rfl)
theorem dX2_add_51 : decode cX2_add 51 = .ok (.getfield 14, 3) := dk_180 0 14 (dk_at dksX2_add_2 7 rfl rfl)
theorem dX2_add_54 : decode cX2_add 54 = .ok (.iload 4, 2) := dk_21 4 (dk_at dksX2_add_2 10 rfl rfl)
theorem dX2_add_56 : decode cX2_add 56 = .ok (.aload_n 3, 1) := dk_45 (dk_at dksX2_add_2 12 rfl rfl)
theorem dX2_add_57 : decode cX2_add 57 = .ok (.invokeinterface 174 3, 5) := by decide +kernel
theorem dX2_add_62 : decode cX2_add 62 = .ok (.aload_n 0, 1) := dk_42 (dk_at dksX2_add_2 18 rfl rfl)
theorem dX2_add_63 : decode cX2_add 63 = .ok (.getfield 37, 3) := dk_180 0 37 (dk_at dksX2_add_2 19 rfl rfl)
theorem dX2_add_66 : decode cX2_add 66 = .ok (.iconst 0, 1) := dk_3 (dk_at dksX2_add_2 22 rfl rfl)
theorem dX2_add_67 : decode cX2_add 67 = .ok (.dup2, 1) := dk_92 (dk_at dksX2_add_2 23 rfl rfl)
theorem dX2_add_68 : decode cX2_add 68 = .ok (.iaload, 1) := dk_46 (dk_at dksX2_add_3 0 rfl rfl)
theorem dX2_add_69 : decode cX2_add 69 = .ok (.iconst 1, 1) := dk_4 (dk_at dksX2_add_3 1 rfl rfl)
theorem dX2_add_70 : decode cX2_add 70 = .ok (.iadd, 1) := dk_96 (dk_at dksX2_add_3 2 rfl rfl)
theorem dX2_add_71 : decode cX2_add 71 = .ok (.iastore, 1) := dk_79 (dk_at dksX2_add_3 3 rfl rfl)
theorem dX2_add_72 : decode cX2_add 72 = .ok (.iload 5, 2) := dk_21 5 (dk_at dksX2_add_3 4 rfl rfl)
theorem dX2_add_74 : decode cX2_add 74 = .ok (.ifCond .eq 13, 3) := dk_153 0 13 (dk_at dksX2_add_3 6 rfl rfl)
theorem dX2_add_77 : decode cX2_add 77 = .ok (.aload_n 0, 1) := dk_42 (dk_at dksX2_add_3 9 rfl rfl)
theorem dX2_add_78 : decode cX2_add 78 = .ok (.aload_n 3, 1) := dk_45 (dk_at dksX2_add_3 10 rfl rfl)
theorem dX2_add_79 : decode cX2_add 79 = .ok (.getfield 136, 3) := dk_180 0 136 (dk_at dksX2_add_3 11 rfl rfl)
theorem dX2_add_82 : decode cX2_add 82 = .ok (.invokevirtual 177, 3) := dk_182 0 177 (dk_at dksX2_add_3 14 rfl rfl)
theorem dX2_add_85 : decode cX2_add 85 = .ok (.istore 6, 2) := dk_54 6 (dk_at dksX2_add_3 17 rfl rfl)
theorem dX2_add_87 : decode cX2_add 87 = .ok (.aload_n 3, 1) := dk_45 (dk_at dksX2_add_3 19 rfl rfl)
theorem dX2_add_88 : decode cX2_add 88 = .ok (.getfield 136, 3) := dk_180 0 136 (dk_at dksX2_add_3 20 rfl rfl)
theorem dX2_add_91 : decode cX2_add 91 = .ok (.ireturn, 1) := dk_172 (dk_at dksX2_add_3 23 rfl rfl)
abbrev cX2_isTight : ByteArray := prog_5_method_10_code
def yX2_isTight : MethodName := ⟨RX2, "isTight", "(I)Z"⟩
def dkwX2_isTight_0 : List UInt8 := [42, 27, 182, 0, 152, 42, 27, 4, 100, 182, 0, 152, 100, 5, 162, 0, 7, 4, 167, 0, 4, 3, 172]
abbrev dktX2_isTight_0 : List UInt8 := dkwX2_isTight_0 ++ []
theorem dksX2_isTight_0 : cX2_isTight.data.toList.drop 0 = dktX2_isTight_0 := by decide +kernel
theorem dX2_isTight_0 : decode cX2_isTight 0 = .ok (.aload_n 0, 1) := dk_42 (dk_at dksX2_isTight_0 0 rfl rfl)
theorem dX2_isTight_1 : decode cX2_isTight 1 = .ok (.iload_n 1, 1) := dk_27 (dk_at dksX2_isTight_0 1 rfl rfl)
theorem dX2_isTight_2 : decode cX2_isTight 2 = .ok (.invokevirtual 152, 3) := dk_182 0 152 (dk_at dksX2_isTight_0 2 rfl rfl)
theorem dX2_isTight_5 : decode cX2_isTight 5 = .ok (.aload_n 0, 1) := dk_42 (dk_at dksX2_isTight_0 5 rfl rfl)
theorem dX2_isTight_6 : decode cX2_isTight 6 = .ok (.iload_n 1, 1) := dk_27 (dk_at dksX2_isTight_0 6 rfl rfl)
theorem dX2_isTight_7 : decode cX2_isTight 7 = .ok (.iconst 1, 1) := dk_4 (dk_at dksX2_isTight_0 7 rfl rfl)
theorem dX2_isTight_8 : decode cX2_isTight 8 = .ok (.isub, 1) := dk_100 (dk_at dksX2_isTight_0 8 rfl rfl)
theorem dX2_isTight_9 : decode cX2_isTight 9 = .ok (.invokevirtual 152, 3) := dk_182 0 152 (dk_at dksX2_isTight_0 9 rfl rfl)
theorem dX2_isTight_12 : decode cX2_isTight 12 = .ok (.isub, 1) := dk_100 (dk_at dksX2_isTight_0 12 rfl rfl)
theorem dX2_isTight_13 : decode cX2_isTight 13 = .ok (.iconst 2, 1) := dk_5 (dk_at dksX2_isTight_0 13 rfl rfl)
theorem dX2_isTight_14 : decode cX2_isTight 14 = .ok (.if_icmp .ge 7, 3) := dk_162 0 7 (dk_at dksX2_isTight_0 14 rfl rfl)
theorem dX2_isTight_17 : decode cX2_isTight 17 = .ok (.iconst 1, 1) := dk_4 (dk_at dksX2_isTight_0 17 rfl rfl)
theorem dX2_isTight_18 : decode cX2_isTight 18 = .ok (.goto 4, 3) := dk_167 0 4 (dk_at dksX2_isTight_0 18 rfl rfl)
theorem dX2_isTight_21 : decode cX2_isTight 21 = .ok (.iconst 0, 1) := dk_3 (dk_at dksX2_isTight_0 21 rfl rfl)
theorem dX2_isTight_22 : decode cX2_isTight 22 = .ok (.ireturn, 1) := dk_172 (dk_at dksX2_isTight_0 22 rfl rfl)
abbrev cX2_placeAt : ByteArray := prog_5_method_9_code
def yX2_placeAt : MethodName := ⟨RX2, "placeAt", "(I)I"⟩
def dkwX2_placeAt_1 : List UInt8 := [180, 0, 14, 27, 185, 0, 133, 2, 0, 192, 0, 73, 180, 0, 149, 167, 0, 6, 17, 39, 16, 172]
abbrev dktX2_placeAt_1 : List UInt8 := dkwX2_placeAt_1 ++ []
def dkwX2_placeAt_0 : List UInt8 := [27, 156, 0, 7, 2, 167, 0, 38, 27, 42, 180, 0, 14, 185, 0, 129, 1, 0, 162, 0, 22, 42]
abbrev dktX2_placeAt_0 : List UInt8 := dkwX2_placeAt_0 ++ dktX2_placeAt_1
theorem dksX2_placeAt_0 : cX2_placeAt.data.toList.drop 0 = dktX2_placeAt_0 := by decide +kernel
theorem dksX2_placeAt_1 : cX2_placeAt.data.toList.drop 22 = dktX2_placeAt_1 := dk_seg dksX2_placeAt_0 22 rfl rfl
theorem dX2_placeAt_0 : decode cX2_placeAt 0 = .ok (.iload_n 1, 1) := dk_27 (dk_at dksX2_placeAt_0 0 rfl rfl)
theorem dX2_placeAt_1 : decode cX2_placeAt 1 = .ok (.ifCond .ge 7, 3) := dk_156 0 7 (dk_at dksX2_placeAt_0 1 rfl rfl)
theorem dX2_placeAt_4 : decode cX2_placeAt 4 = .ok (.iconst (-1), 1) := dk_2 (dk_at dksX2_placeAt_0 4 rfl rfl)
theorem dX2_placeAt_5 : decode cX2_placeAt 5 = .ok (.goto 38, 3) := dk_167 0 38 (dk_at dksX2_placeAt_0 5 rfl rfl)
theorem dX2_placeAt_8 : decode cX2_placeAt 8 = .ok (.iload_n 1, 1) := dk_27 (dk_at dksX2_placeAt_0 8 rfl rfl)
theorem dX2_placeAt_9 : decode cX2_placeAt 9 = .ok (.aload_n 0, 1) := dk_42 (dk_at dksX2_placeAt_0 9 rfl rfl)
theorem dX2_placeAt_10 : decode cX2_placeAt 10 = .ok (.getfield 14, 3) := dk_180 0 14 (dk_at dksX2_placeAt_0 10 rfl rfl)
theorem dX2_placeAt_13 : decode cX2_placeAt 13 = .ok (.invokeinterface 129 1, 5) := by decide +kernel
theorem dX2_placeAt_18 : decode cX2_placeAt 18 = .ok (.if_icmp .ge 22, 3) := dk_162 0 22 (dk_at dksX2_placeAt_0 18 rfl rfl)
theorem dX2_placeAt_21 : decode cX2_placeAt 21 = .ok (.aload_n 0, 1) := dk_42 (dk_at dksX2_placeAt_0 21 rfl rfl)
theorem dX2_placeAt_22 : decode cX2_placeAt 22 = .ok (.getfield 14, 3) := dk_180 0 14 (dk_at dksX2_placeAt_1 0 rfl rfl)
theorem dX2_placeAt_25 : decode cX2_placeAt 25 = .ok (.iload_n 1, 1) := dk_27 (dk_at dksX2_placeAt_1 3 rfl rfl)
theorem dX2_placeAt_26 : decode cX2_placeAt 26 = .ok (.invokeinterface 133 2, 5) := by decide +kernel
theorem dX2_placeAt_31 : decode cX2_placeAt 31 = .ok (.checkcast 73, 3) := dk_192 0 73 (dk_at dksX2_placeAt_1 9 rfl rfl)
theorem dX2_placeAt_34 : decode cX2_placeAt 34 = .ok (.getfield 149, 3) := dk_180 0 149 (dk_at dksX2_placeAt_1 12 rfl rfl)
theorem dX2_placeAt_37 : decode cX2_placeAt 37 = .ok (.goto 6, 3) := dk_167 0 6 (dk_at dksX2_placeAt_1 15 rfl rfl)
theorem dX2_placeAt_40 : decode cX2_placeAt 40 = .ok (.sipush 10000, 3) := dk_17 39 16 (dk_at dksX2_placeAt_1 18 rfl rfl)
theorem dX2_placeAt_43 : decode cX2_placeAt 43 = .ok (.ireturn, 1) := dk_172 (dk_at dksX2_placeAt_1 21 rfl rfl)
abbrev cX2_placeFor : ByteArray := prog_5_method_11_code
def yX2_placeFor : MethodName := ⟨RX2, "placeFor", "(I)I"⟩
def dkwX2_placeFor_1 : List UInt8 := [167, 0, 18, 42, 27, 182, 0, 152, 42, 27, 4, 100, 182, 0, 152, 96, 5, 108, 172]
abbrev dktX2_placeFor_1 : List UInt8 := dkwX2_placeFor_1 ++ []
def dkwX2_placeFor_0 : List UInt8 := [42, 27, 182, 0, 156, 153, 0, 21, 27, 42, 180, 0, 14, 185, 0, 129, 1, 0, 4, 96, 184, 0, 160]
abbrev dktX2_placeFor_0 : List UInt8 := dkwX2_placeFor_0 ++ dktX2_placeFor_1
theorem dksX2_placeFor_0 : cX2_placeFor.data.toList.drop 0 = dktX2_placeFor_0 := by decide +kernel
theorem dksX2_placeFor_1 : cX2_placeFor.data.toList.drop 23 = dktX2_placeFor_1 := dk_seg dksX2_placeFor_0 23 rfl rfl
theorem dX2_placeFor_0 : decode cX2_placeFor 0 = .ok (.aload_n 0, 1) := dk_42 (dk_at dksX2_placeFor_0 0 rfl rfl)
theorem dX2_placeFor_1 : decode cX2_placeFor 1 = .ok (.iload_n 1, 1) := dk_27 (dk_at dksX2_placeFor_0 1 rfl rfl)
theorem dX2_placeFor_2 : decode cX2_placeFor 2 = .ok (.invokevirtual 156, 3) := dk_182 0 156 (dk_at dksX2_placeFor_0 2 rfl rfl)
theorem dX2_placeFor_5 : decode cX2_placeFor 5 = .ok (.ifCond .eq 21, 3) := dk_153 0 21 (dk_at dksX2_placeFor_0 5 rfl rfl)
theorem dX2_placeFor_8 : decode cX2_placeFor 8 = .ok (.iload_n 1, 1) := dk_27 (dk_at dksX2_placeFor_0 8 rfl rfl)
theorem dX2_placeFor_9 : decode cX2_placeFor 9 = .ok (.aload_n 0, 1) := dk_42 (dk_at dksX2_placeFor_0 9 rfl rfl)
theorem dX2_placeFor_10 : decode cX2_placeFor 10 = .ok (.getfield 14, 3) := dk_180 0 14 (dk_at dksX2_placeFor_0 10 rfl rfl)
theorem dX2_placeFor_13 : decode cX2_placeFor 13 = .ok (.invokeinterface 129 1, 5) := by decide +kernel
theorem dX2_placeFor_18 : decode cX2_placeFor 18 = .ok (.iconst 1, 1) := dk_4 (dk_at dksX2_placeFor_0 18 rfl rfl)
theorem dX2_placeFor_19 : decode cX2_placeFor 19 = .ok (.iadd, 1) := dk_96 (dk_at dksX2_placeFor_0 19 rfl rfl)
theorem dX2_placeFor_20 : decode cX2_placeFor 20 = .ok (.invokestatic 160, 3) := dk_184 0 160 (dk_at dksX2_placeFor_0 20 rfl rfl)
theorem dX2_placeFor_23 : decode cX2_placeFor 23 = .ok (.goto 18, 3) := dk_167 0 18 (dk_at dksX2_placeFor_1 0 rfl rfl)
theorem dX2_placeFor_26 : decode cX2_placeFor 26 = .ok (.aload_n 0, 1) := dk_42 (dk_at dksX2_placeFor_1 3 rfl rfl)
theorem dX2_placeFor_27 : decode cX2_placeFor 27 = .ok (.iload_n 1, 1) := dk_27 (dk_at dksX2_placeFor_1 4 rfl rfl)
theorem dX2_placeFor_28 : decode cX2_placeFor 28 = .ok (.invokevirtual 152, 3) := dk_182 0 152 (dk_at dksX2_placeFor_1 5 rfl rfl)
theorem dX2_placeFor_31 : decode cX2_placeFor 31 = .ok (.aload_n 0, 1) := dk_42 (dk_at dksX2_placeFor_1 8 rfl rfl)
theorem dX2_placeFor_32 : decode cX2_placeFor 32 = .ok (.iload_n 1, 1) := dk_27 (dk_at dksX2_placeFor_1 9 rfl rfl)
theorem dX2_placeFor_33 : decode cX2_placeFor 33 = .ok (.iconst 1, 1) := dk_4 (dk_at dksX2_placeFor_1 10 rfl rfl)
theorem dX2_placeFor_34 : decode cX2_placeFor 34 = .ok (.isub, 1) := dk_100 (dk_at dksX2_placeFor_1 11 rfl rfl)
theorem dX2_placeFor_35 : decode cX2_placeFor 35 = .ok (.invokevirtual 152, 3) := dk_182 0 152 (dk_at dksX2_placeFor_1 12 rfl rfl)
theorem dX2_placeFor_38 : decode cX2_placeFor 38 = .ok (.iadd, 1) := dk_96 (dk_at dksX2_placeFor_1 15 rfl rfl)
theorem dX2_placeFor_39 : decode cX2_placeFor 39 = .ok (.iconst 2, 1) := dk_5 (dk_at dksX2_placeFor_1 16 rfl rfl)
theorem dX2_placeFor_40 : decode cX2_placeFor 40 = .ok (.idiv, 1) := dk_108 (dk_at dksX2_placeFor_1 17 rfl rfl)
theorem dX2_placeFor_41 : decode cX2_placeFor 41 = .ok (.ireturn, 1) := dk_172 (dk_at dksX2_placeFor_1 18 rfl rfl)
abbrev cX2_gap : ByteArray := prog_5_method_33_code
def yX2_gap : MethodName := ⟨RX2, "gap", "()I"⟩
def dkwX2_gap_6 : List UInt8 := [46, 162, 0, 7, 4, 167, 0, 4, 3, 184, 0, 164, 96, 60, 132, 2, 1, 167, 255, 217, 27, 172]
abbrev dktX2_gap_6 : List UInt8 := dkwX2_gap_6 ++ []
def dkwX2_gap_5 : List UInt8 := [4, 61, 28, 42, 180, 0, 45, 162, 0, 37, 27, 42, 180, 0, 51, 28, 46, 42, 180, 0, 51, 28, 4, 100]
abbrev dktX2_gap_5 : List UInt8 := dkwX2_gap_5 ++ dktX2_gap_6
def dkwX2_gap_4 : List UInt8 := [185, 0, 139, 3, 0, 155, 0, 7, 4, 167, 0, 4, 3, 184, 0, 164, 96, 60, 132, 2, 1, 167, 255, 152]
abbrev dktX2_gap_4 : List UInt8 := dkwX2_gap_4 ++ dktX2_gap_5
def dkwX2_gap_3 : List UInt8 := [185, 0, 133, 2, 0, 192, 0, 73, 42, 180, 0, 14, 28, 185, 0, 133, 2, 0, 192, 0, 73]
abbrev dktX2_gap_3 : List UInt8 := dkwX2_gap_3 ++ dktX2_gap_4
def dkwX2_gap_2 : List UInt8 := [192, 0, 73, 180, 0, 149, 164, 0, 43, 42, 180, 0, 33, 42, 180, 0, 14, 28, 4, 100]
abbrev dktX2_gap_2 : List UInt8 := dkwX2_gap_2 ++ dktX2_gap_3
def dkwX2_gap_1 : List UInt8 := [185, 0, 133, 2, 0, 192, 0, 73, 180, 0, 149, 42, 180, 0, 14, 28, 4, 100, 185, 0, 133, 2, 0]
abbrev dktX2_gap_1 : List UInt8 := dkwX2_gap_1 ++ dktX2_gap_2
def dkwX2_gap_0 : List UInt8 := [3, 60, 4, 61, 28, 42, 180, 0, 14, 185, 0, 129, 1, 0, 162, 0, 97, 27, 42, 180, 0, 14, 28]
abbrev dktX2_gap_0 : List UInt8 := dkwX2_gap_0 ++ dktX2_gap_1
theorem dksX2_gap_0 : cX2_gap.data.toList.drop 0 = dktX2_gap_0 := by decide +kernel
theorem dksX2_gap_1 : cX2_gap.data.toList.drop 23 = dktX2_gap_1 := dk_seg dksX2_gap_0 23 rfl rfl
theorem dksX2_gap_2 : cX2_gap.data.toList.drop 46 = dktX2_gap_2 := dk_seg dksX2_gap_1 23 rfl rfl
theorem dksX2_gap_3 : cX2_gap.data.toList.drop 66 = dktX2_gap_3 := dk_seg dksX2_gap_2 20 rfl rfl
theorem dksX2_gap_4 : cX2_gap.data.toList.drop 87 = dktX2_gap_4 := dk_seg dksX2_gap_3 21 rfl rfl
theorem dksX2_gap_5 : cX2_gap.data.toList.drop 111 = dktX2_gap_5 := dk_seg dksX2_gap_4 24 rfl rfl
theorem dksX2_gap_6 : cX2_gap.data.toList.drop 135 = dktX2_gap_6 := dk_seg dksX2_gap_5 24 rfl rfl
theorem dX2_gap_0 : decode cX2_gap 0 = .ok (.iconst 0, 1) := dk_3 (dk_at dksX2_gap_0 0 rfl rfl)
theorem dX2_gap_1 : decode cX2_gap 1 = .ok (.istore_n 1, 1) := dk_60 (dk_at dksX2_gap_0 1 rfl rfl)
theorem dX2_gap_2 : decode cX2_gap 2 = .ok (.iconst 1, 1) := dk_4 (dk_at dksX2_gap_0 2 rfl rfl)
theorem dX2_gap_3 : decode cX2_gap 3 = .ok (.istore_n 2, 1) := dk_61 (dk_at dksX2_gap_0 3 rfl rfl)
theorem dX2_gap_4 : decode cX2_gap 4 = .ok (.iload_n 2, 1) := dk_28 (dk_at dksX2_gap_0 4 rfl rfl)
theorem dX2_gap_5 : decode cX2_gap 5 = .ok (.aload_n 0, 1) := dk_42 (dk_at dksX2_gap_0 5 rfl rfl)
theorem dX2_gap_6 : decode cX2_gap 6 = .ok (.getfield 14, 3) := dk_180 0 14 (dk_at dksX2_gap_0 6 rfl rfl)
theorem dX2_gap_9 : decode cX2_gap 9 = .ok (.invokeinterface 129 1, 5) := by decide +kernel
theorem dX2_gap_14 : decode cX2_gap 14 = .ok (.if_icmp .ge 97, 3) := dk_162 0 97 (dk_at dksX2_gap_0 14 rfl rfl)
theorem dX2_gap_17 : decode cX2_gap 17 = .ok (.iload_n 1, 1) := dk_27 (dk_at dksX2_gap_0 17 rfl rfl)
theorem dX2_gap_18 : decode cX2_gap 18 = .ok (.aload_n 0, 1) := dk_42 (dk_at dksX2_gap_0 18 rfl rfl)
theorem dX2_gap_19 : decode cX2_gap 19 = .ok (.getfield 14, 3) := dk_180 0 14 (dk_at dksX2_gap_0 19 rfl rfl)
theorem dX2_gap_22 : decode cX2_gap 22 = .ok (.iload_n 2, 1) := dk_28 (dk_at dksX2_gap_0 22 rfl rfl)
theorem dX2_gap_23 : decode cX2_gap 23 = .ok (.invokeinterface 133 2, 5) := by decide +kernel
theorem dX2_gap_28 : decode cX2_gap 28 = .ok (.checkcast 73, 3) := dk_192 0 73 (dk_at dksX2_gap_1 5 rfl rfl)
theorem dX2_gap_31 : decode cX2_gap 31 = .ok (.getfield 149, 3) := dk_180 0 149 (dk_at dksX2_gap_1 8 rfl rfl)
theorem dX2_gap_34 : decode cX2_gap 34 = .ok (.aload_n 0, 1) := dk_42 (dk_at dksX2_gap_1 11 rfl rfl)
theorem dX2_gap_35 : decode cX2_gap 35 = .ok (.getfield 14, 3) := dk_180 0 14 (dk_at dksX2_gap_1 12 rfl rfl)
theorem dX2_gap_38 : decode cX2_gap 38 = .ok (.iload_n 2, 1) := dk_28 (dk_at dksX2_gap_1 15 rfl rfl)
theorem dX2_gap_39 : decode cX2_gap 39 = .ok (.iconst 1, 1) := dk_4 (dk_at dksX2_gap_1 16 rfl rfl)
theorem dX2_gap_40 : decode cX2_gap 40 = .ok (.isub, 1) := dk_100 (dk_at dksX2_gap_1 17 rfl rfl)
theorem dX2_gap_41 : decode cX2_gap 41 = .ok (.invokeinterface 133 2, 5) := by decide +kernel
theorem dX2_gap_46 : decode cX2_gap 46 = .ok (.checkcast 73, 3) := dk_192 0 73 (dk_at dksX2_gap_2 0 rfl rfl)
theorem dX2_gap_49 : decode cX2_gap 49 = .ok (.getfield 149, 3) := dk_180 0 149 (dk_at dksX2_gap_2 3 rfl rfl)
theorem dX2_gap_52 : decode cX2_gap 52 = .ok (.if_icmp .le 43, 3) := dk_164 0 43 (dk_at dksX2_gap_2 6 rfl rfl)
theorem dX2_gap_55 : decode cX2_gap 55 = .ok (.aload_n 0, 1) := dk_42 (dk_at dksX2_gap_2 9 rfl rfl)
theorem dX2_gap_56 : decode cX2_gap 56 = .ok (.getfield 33, 3) := dk_180 0 33 (dk_at dksX2_gap_2 10 rfl rfl)
theorem dX2_gap_59 : decode cX2_gap 59 = .ok (.aload_n 0, 1) := dk_42 (dk_at dksX2_gap_2 13 rfl rfl)
theorem dX2_gap_60 : decode cX2_gap 60 = .ok (.getfield 14, 3) := dk_180 0 14 (dk_at dksX2_gap_2 14 rfl rfl)
theorem dX2_gap_63 : decode cX2_gap 63 = .ok (.iload_n 2, 1) := dk_28 (dk_at dksX2_gap_2 17 rfl rfl)
theorem dX2_gap_64 : decode cX2_gap 64 = .ok (.iconst 1, 1) := dk_4 (dk_at dksX2_gap_2 18 rfl rfl)
theorem dX2_gap_65 : decode cX2_gap 65 = .ok (.isub, 1) := dk_100 (dk_at dksX2_gap_2 19 rfl rfl)
theorem dX2_gap_66 : decode cX2_gap 66 = .ok (.invokeinterface 133 2, 5) := by decide +kernel
theorem dX2_gap_71 : decode cX2_gap 71 = .ok (.checkcast 73, 3) := dk_192 0 73 (dk_at dksX2_gap_3 5 rfl rfl)
theorem dX2_gap_74 : decode cX2_gap 74 = .ok (.aload_n 0, 1) := dk_42 (dk_at dksX2_gap_3 8 rfl rfl)
theorem dX2_gap_75 : decode cX2_gap 75 = .ok (.getfield 14, 3) := dk_180 0 14 (dk_at dksX2_gap_3 9 rfl rfl)
theorem dX2_gap_78 : decode cX2_gap 78 = .ok (.iload_n 2, 1) := dk_28 (dk_at dksX2_gap_3 12 rfl rfl)
theorem dX2_gap_79 : decode cX2_gap 79 = .ok (.invokeinterface 133 2, 5) := by decide +kernel
theorem dX2_gap_84 : decode cX2_gap 84 = .ok (.checkcast 73, 3) := dk_192 0 73 (dk_at dksX2_gap_3 18 rfl rfl)
theorem dX2_gap_87 : decode cX2_gap 87 = .ok (.invokeinterface 139 3, 5) := by decide +kernel
theorem dX2_gap_92 : decode cX2_gap 92 = .ok (.ifCond .lt 7, 3) := dk_155 0 7 (dk_at dksX2_gap_4 5 rfl rfl)
theorem dX2_gap_95 : decode cX2_gap 95 = .ok (.iconst 1, 1) := dk_4 (dk_at dksX2_gap_4 8 rfl rfl)
theorem dX2_gap_96 : decode cX2_gap 96 = .ok (.goto 4, 3) := dk_167 0 4 (dk_at dksX2_gap_4 9 rfl rfl)
theorem dX2_gap_99 : decode cX2_gap 99 = .ok (.iconst 0, 1) := dk_3 (dk_at dksX2_gap_4 12 rfl rfl)
theorem dX2_gap_100 : decode cX2_gap 100 = .ok (.invokestatic 164, 3) := dk_184 0 164 (dk_at dksX2_gap_4 13 rfl rfl)
theorem dX2_gap_103 : decode cX2_gap 103 = .ok (.iadd, 1) := dk_96 (dk_at dksX2_gap_4 16 rfl rfl)
theorem dX2_gap_104 : decode cX2_gap 104 = .ok (.istore_n 1, 1) := dk_60 (dk_at dksX2_gap_4 17 rfl rfl)
theorem dX2_gap_105 : decode cX2_gap 105 = .ok (.iinc 2 1, 3) := dk_132 2 1 (dk_at dksX2_gap_4 18 rfl rfl)
theorem dX2_gap_108 : decode cX2_gap 108 = .ok (.goto (-104), 3) := dk_167 255 152 (dk_at dksX2_gap_4 21 rfl rfl)
theorem dX2_gap_111 : decode cX2_gap 111 = .ok (.iconst 1, 1) := dk_4 (dk_at dksX2_gap_5 0 rfl rfl)
theorem dX2_gap_112 : decode cX2_gap 112 = .ok (.istore_n 2, 1) := dk_61 (dk_at dksX2_gap_5 1 rfl rfl)
theorem dX2_gap_113 : decode cX2_gap 113 = .ok (.iload_n 2, 1) := dk_28 (dk_at dksX2_gap_5 2 rfl rfl)
theorem dX2_gap_114 : decode cX2_gap 114 = .ok (.aload_n 0, 1) := dk_42 (dk_at dksX2_gap_5 3 rfl rfl)
theorem dX2_gap_115 : decode cX2_gap 115 = .ok (.getfield 45, 3) := dk_180 0 45 (dk_at dksX2_gap_5 4 rfl rfl)
theorem dX2_gap_118 : decode cX2_gap 118 = .ok (.if_icmp .ge 37, 3) := dk_162 0 37 (dk_at dksX2_gap_5 7 rfl rfl)
theorem dX2_gap_121 : decode cX2_gap 121 = .ok (.iload_n 1, 1) := dk_27 (dk_at dksX2_gap_5 10 rfl rfl)
theorem dX2_gap_122 : decode cX2_gap 122 = .ok (.aload_n 0, 1) := dk_42 (dk_at dksX2_gap_5 11 rfl rfl)
theorem dX2_gap_123 : decode cX2_gap 123 = .ok (.getfield 51, 3) := dk_180 0 51 (dk_at dksX2_gap_5 12 rfl rfl)
theorem dX2_gap_126 : decode cX2_gap 126 = .ok (.iload_n 2, 1) := dk_28 (dk_at dksX2_gap_5 15 rfl rfl)
theorem dX2_gap_127 : decode cX2_gap 127 = .ok (.iaload, 1) := dk_46 (dk_at dksX2_gap_5 16 rfl rfl)
theorem dX2_gap_128 : decode cX2_gap 128 = .ok (.aload_n 0, 1) := dk_42 (dk_at dksX2_gap_5 17 rfl rfl)
theorem dX2_gap_129 : decode cX2_gap 129 = .ok (.getfield 51, 3) := dk_180 0 51 (dk_at dksX2_gap_5 18 rfl rfl)
theorem dX2_gap_132 : decode cX2_gap 132 = .ok (.iload_n 2, 1) := dk_28 (dk_at dksX2_gap_5 21 rfl rfl)
theorem dX2_gap_133 : decode cX2_gap 133 = .ok (.iconst 1, 1) := dk_4 (dk_at dksX2_gap_5 22 rfl rfl)
theorem dX2_gap_134 : decode cX2_gap 134 = .ok (.isub, 1) := dk_100 (dk_at dksX2_gap_5 23 rfl rfl)
theorem dX2_gap_135 : decode cX2_gap 135 = .ok (.iaload, 1) := dk_46 (dk_at dksX2_gap_6 0 rfl rfl)
theorem dX2_gap_136 : decode cX2_gap 136 = .ok (.if_icmp .ge 7, 3) := dk_162 0 7 (dk_at dksX2_gap_6 1 rfl rfl)
theorem dX2_gap_139 : decode cX2_gap 139 = .ok (.iconst 1, 1) := dk_4 (dk_at dksX2_gap_6 4 rfl rfl)
theorem dX2_gap_140 : decode cX2_gap 140 = .ok (.goto 4, 3) := dk_167 0 4 (dk_at dksX2_gap_6 5 rfl rfl)
theorem dX2_gap_143 : decode cX2_gap 143 = .ok (.iconst 0, 1) := dk_3 (dk_at dksX2_gap_6 8 rfl rfl)
theorem dX2_gap_144 : decode cX2_gap 144 = .ok (.invokestatic 164, 3) := dk_184 0 164 (dk_at dksX2_gap_6 9 rfl rfl)
theorem dX2_gap_147 : decode cX2_gap 147 = .ok (.iadd, 1) := dk_96 (dk_at dksX2_gap_6 12 rfl rfl)
theorem dX2_gap_148 : decode cX2_gap 148 = .ok (.istore_n 1, 1) := dk_60 (dk_at dksX2_gap_6 13 rfl rfl)
theorem dX2_gap_149 : decode cX2_gap 149 = .ok (.iinc 2 1, 3) := dk_132 2 1 (dk_at dksX2_gap_6 14 rfl rfl)
theorem dX2_gap_152 : decode cX2_gap 152 = .ok (.goto (-39), 3) := dk_167 255 217 (dk_at dksX2_gap_6 17 rfl rfl)
theorem dX2_gap_155 : decode cX2_gap 155 = .ok (.iload_n 1, 1) := dk_27 (dk_at dksX2_gap_6 20 rfl rfl)
theorem dX2_gap_156 : decode cX2_gap 156 = .ok (.ireturn, 1) := dk_172 (dk_at dksX2_gap_6 21 rfl rfl)
abbrev cX2_alike : ByteArray := prog_5_method_30_code
def yX2_alike : MethodName := ⟨RX2, "alike", "()I"⟩
def dkwX2_alike_3 : List UInt8 := [167, 255, 204, 132, 2, 1, 167, 255, 183, 27, 172]
abbrev dktX2_alike_3 : List UInt8 := dkwX2_alike_3 ++ []
def dkwX2_alike_2 : List UInt8 := [192, 0, 73, 184, 0, 227, 2, 160, 0, 7, 4, 167, 0, 4, 3, 184, 0, 164, 96, 60, 132, 3, 1]
abbrev dktX2_alike_2 : List UInt8 := dkwX2_alike_2 ++ dktX2_alike_3
def dkwX2_alike_1 : List UInt8 := [27, 42, 180, 0, 14, 29, 185, 0, 133, 2, 0, 192, 0, 73, 42, 180, 0, 14, 28, 185, 0, 133, 2, 0]
abbrev dktX2_alike_1 : List UInt8 := dkwX2_alike_1 ++ dktX2_alike_2
def dkwX2_alike_0 : List UInt8 := [3, 60, 3, 61, 28, 42, 180, 0, 14, 185, 0, 129, 1, 0, 162, 0, 66, 3, 62, 29, 28, 162, 0, 53]
abbrev dktX2_alike_0 : List UInt8 := dkwX2_alike_0 ++ dktX2_alike_1
theorem dksX2_alike_0 : cX2_alike.data.toList.drop 0 = dktX2_alike_0 := by decide +kernel
theorem dksX2_alike_1 : cX2_alike.data.toList.drop 24 = dktX2_alike_1 := dk_seg dksX2_alike_0 24 rfl rfl
theorem dksX2_alike_2 : cX2_alike.data.toList.drop 48 = dktX2_alike_2 := dk_seg dksX2_alike_1 24 rfl rfl
theorem dksX2_alike_3 : cX2_alike.data.toList.drop 71 = dktX2_alike_3 := dk_seg dksX2_alike_2 23 rfl rfl
theorem dX2_alike_0 : decode cX2_alike 0 = .ok (.iconst 0, 1) := dk_3 (dk_at dksX2_alike_0 0 rfl rfl)
theorem dX2_alike_1 : decode cX2_alike 1 = .ok (.istore_n 1, 1) := dk_60 (dk_at dksX2_alike_0 1 rfl rfl)
theorem dX2_alike_2 : decode cX2_alike 2 = .ok (.iconst 0, 1) := dk_3 (dk_at dksX2_alike_0 2 rfl rfl)
theorem dX2_alike_3 : decode cX2_alike 3 = .ok (.istore_n 2, 1) := dk_61 (dk_at dksX2_alike_0 3 rfl rfl)
theorem dX2_alike_4 : decode cX2_alike 4 = .ok (.iload_n 2, 1) := dk_28 (dk_at dksX2_alike_0 4 rfl rfl)
theorem dX2_alike_5 : decode cX2_alike 5 = .ok (.aload_n 0, 1) := dk_42 (dk_at dksX2_alike_0 5 rfl rfl)
theorem dX2_alike_6 : decode cX2_alike 6 = .ok (.getfield 14, 3) := dk_180 0 14 (dk_at dksX2_alike_0 6 rfl rfl)
theorem dX2_alike_9 : decode cX2_alike 9 = .ok (.invokeinterface 129 1, 5) := by decide +kernel
theorem dX2_alike_14 : decode cX2_alike 14 = .ok (.if_icmp .ge 66, 3) := dk_162 0 66 (dk_at dksX2_alike_0 14 rfl rfl)
theorem dX2_alike_17 : decode cX2_alike 17 = .ok (.iconst 0, 1) := dk_3 (dk_at dksX2_alike_0 17 rfl rfl)
theorem dX2_alike_18 : decode cX2_alike 18 = .ok (.istore_n 3, 1) := dk_62 (dk_at dksX2_alike_0 18 rfl rfl)
theorem dX2_alike_19 : decode cX2_alike 19 = .ok (.iload_n 3, 1) := dk_29 (dk_at dksX2_alike_0 19 rfl rfl)
theorem dX2_alike_20 : decode cX2_alike 20 = .ok (.iload_n 2, 1) := dk_28 (dk_at dksX2_alike_0 20 rfl rfl)
theorem dX2_alike_21 : decode cX2_alike 21 = .ok (.if_icmp .ge 53, 3) := dk_162 0 53 (dk_at dksX2_alike_0 21 rfl rfl)
theorem dX2_alike_24 : decode cX2_alike 24 = .ok (.iload_n 1, 1) := dk_27 (dk_at dksX2_alike_1 0 rfl rfl)
theorem dX2_alike_25 : decode cX2_alike 25 = .ok (.aload_n 0, 1) := dk_42 (dk_at dksX2_alike_1 1 rfl rfl)
theorem dX2_alike_26 : decode cX2_alike 26 = .ok (.getfield 14, 3) := dk_180 0 14 (dk_at dksX2_alike_1 2 rfl rfl)
theorem dX2_alike_29 : decode cX2_alike 29 = .ok (.iload_n 3, 1) := dk_29 (dk_at dksX2_alike_1 5 rfl rfl)
theorem dX2_alike_30 : decode cX2_alike 30 = .ok (.invokeinterface 133 2, 5) := by decide +kernel
theorem dX2_alike_35 : decode cX2_alike 35 = .ok (.checkcast 73, 3) := dk_192 0 73 (dk_at dksX2_alike_1 11 rfl rfl)
theorem dX2_alike_38 : decode cX2_alike 38 = .ok (.aload_n 0, 1) := dk_42 (dk_at dksX2_alike_1 14 rfl rfl)
theorem dX2_alike_39 : decode cX2_alike 39 = .ok (.getfield 14, 3) := dk_180 0 14 (dk_at dksX2_alike_1 15 rfl rfl)
theorem dX2_alike_42 : decode cX2_alike 42 = .ok (.iload_n 2, 1) := dk_28 (dk_at dksX2_alike_1 18 rfl rfl)
theorem dX2_alike_43 : decode cX2_alike 43 = .ok (.invokeinterface 133 2, 5) := by decide +kernel
theorem dX2_alike_48 : decode cX2_alike 48 = .ok (.checkcast 73, 3) := dk_192 0 73 (dk_at dksX2_alike_2 0 rfl rfl)
theorem dX2_alike_51 : decode cX2_alike 51 = .ok (.invokestatic 227, 3) := dk_184 0 227 (dk_at dksX2_alike_2 3 rfl rfl)
theorem dX2_alike_54 : decode cX2_alike 54 = .ok (.iconst (-1), 1) := dk_2 (dk_at dksX2_alike_2 6 rfl rfl)
theorem dX2_alike_55 : decode cX2_alike 55 = .ok (.if_icmp .ne 7, 3) := dk_160 0 7 (dk_at dksX2_alike_2 7 rfl rfl)
theorem dX2_alike_58 : decode cX2_alike 58 = .ok (.iconst 1, 1) := dk_4 (dk_at dksX2_alike_2 10 rfl rfl)
theorem dX2_alike_59 : decode cX2_alike 59 = .ok (.goto 4, 3) := dk_167 0 4 (dk_at dksX2_alike_2 11 rfl rfl)
theorem dX2_alike_62 : decode cX2_alike 62 = .ok (.iconst 0, 1) := dk_3 (dk_at dksX2_alike_2 14 rfl rfl)
theorem dX2_alike_63 : decode cX2_alike 63 = .ok (.invokestatic 164, 3) := dk_184 0 164 (dk_at dksX2_alike_2 15 rfl rfl)
theorem dX2_alike_66 : decode cX2_alike 66 = .ok (.iadd, 1) := dk_96 (dk_at dksX2_alike_2 18 rfl rfl)
theorem dX2_alike_67 : decode cX2_alike 67 = .ok (.istore_n 1, 1) := dk_60 (dk_at dksX2_alike_2 19 rfl rfl)
theorem dX2_alike_68 : decode cX2_alike 68 = .ok (.iinc 3 1, 3) := dk_132 3 1 (dk_at dksX2_alike_2 20 rfl rfl)
theorem dX2_alike_71 : decode cX2_alike 71 = .ok (.goto (-52), 3) := dk_167 255 204 (dk_at dksX2_alike_3 0 rfl rfl)
theorem dX2_alike_74 : decode cX2_alike 74 = .ok (.iinc 2 1, 3) := dk_132 2 1 (dk_at dksX2_alike_3 3 rfl rfl)
theorem dX2_alike_77 : decode cX2_alike 77 = .ok (.goto (-73), 3) := dk_167 255 183 (dk_at dksX2_alike_3 6 rfl rfl)
theorem dX2_alike_80 : decode cX2_alike 80 = .ok (.iload_n 1, 1) := dk_27 (dk_at dksX2_alike_3 9 rfl rfl)
theorem dX2_alike_81 : decode cX2_alike 81 = .ok (.ireturn, 1) := dk_172 (dk_at dksX2_alike_3 10 rfl rfl)
abbrev cX2_copy : ByteArray := prog_5_method_2_code
def yX2_copy : MethodName := ⟨RX2, "copy", "()LSpokenMarks$Catalogue;"⟩
def dkwX2_copy_7 : List UInt8 := [181, 0, 37, 43, 42, 180, 0, 41, 181, 0, 41, 43, 176]
abbrev dktX2_copy_7 : List UInt8 := dkwX2_copy_7 ++ []
def dkwX2_copy_6 : List UInt8 := [180, 0, 89, 185, 0, 92, 3, 0, 87, 167, 255, 208, 43, 42, 180, 0, 37, 182, 0, 98, 192, 0, 99]
abbrev dktX2_copy_6 : List UInt8 := dkwX2_copy_6 ++ dktX2_copy_7
def dkwX2_copy_5 : List UInt8 := [192, 0, 83, 78, 43, 180, 0, 20, 45, 185, 0, 79, 2, 0, 87, 43, 180, 0, 26, 45, 180, 0, 85, 45]
abbrev dktX2_copy_5 : List UInt8 := dkwX2_copy_5 ++ dktX2_copy_6
def dkwX2_copy_4 : List UInt8 := [180, 0, 20, 185, 0, 57, 1, 0, 77, 44, 185, 0, 63, 1, 0, 153, 0, 45, 44, 185, 0, 69, 1, 0]
abbrev dktX2_copy_4 : List UInt8 := dkwX2_copy_4 ++ dktX2_copy_5
def dkwX2_copy_3 : List UInt8 := [192, 0, 73, 78, 43, 180, 0, 14, 45, 182, 0, 75, 185, 0, 79, 2, 0, 87, 167, 255, 223, 42]
abbrev dktX2_copy_3 : List UInt8 := dkwX2_copy_3 ++ dktX2_copy_4
def dkwX2_copy_2 : List UInt8 := [180, 0, 14, 185, 0, 57, 1, 0, 77, 44, 185, 0, 63, 1, 0, 153, 0, 30, 44, 185, 0, 69, 1, 0]
abbrev dktX2_copy_2 : List UInt8 := dkwX2_copy_2 ++ dktX2_copy_3
def dkwX2_copy_1 : List UInt8 := [162, 0, 21, 43, 180, 0, 51, 28, 42, 180, 0, 51, 28, 46, 79, 132, 2, 1, 167, 255, 233, 42]
abbrev dktX2_copy_1 : List UInt8 := dkwX2_copy_1 ++ dktX2_copy_2
def dkwX2_copy_0 : List UInt8 := [187, 0, 15, 89, 42, 180, 0, 45, 42, 180, 0, 48, 183, 0, 54, 76, 3, 61, 28, 42, 180, 0, 45]
abbrev dktX2_copy_0 : List UInt8 := dkwX2_copy_0 ++ dktX2_copy_1
theorem dksX2_copy_0 : cX2_copy.data.toList.drop 0 = dktX2_copy_0 := by decide +kernel
theorem dksX2_copy_1 : cX2_copy.data.toList.drop 23 = dktX2_copy_1 := dk_seg dksX2_copy_0 23 rfl rfl
theorem dksX2_copy_2 : cX2_copy.data.toList.drop 45 = dktX2_copy_2 := dk_seg dksX2_copy_1 22 rfl rfl
theorem dksX2_copy_3 : cX2_copy.data.toList.drop 69 = dktX2_copy_3 := dk_seg dksX2_copy_2 24 rfl rfl
theorem dksX2_copy_4 : cX2_copy.data.toList.drop 91 = dktX2_copy_4 := dk_seg dksX2_copy_3 22 rfl rfl
theorem dksX2_copy_5 : cX2_copy.data.toList.drop 115 = dktX2_copy_5 := dk_seg dksX2_copy_4 24 rfl rfl
theorem dksX2_copy_6 : cX2_copy.data.toList.drop 139 = dktX2_copy_6 := dk_seg dksX2_copy_5 24 rfl rfl
theorem dksX2_copy_7 : cX2_copy.data.toList.drop 162 = dktX2_copy_7 := dk_seg dksX2_copy_6 23 rfl rfl
theorem dX2_copy_0 : decode cX2_copy 0 = .ok (.new 15, 3) := dk_187 0 15 (dk_at dksX2_copy_0 0 rfl rfl)
theorem dX2_copy_3 : decode cX2_copy 3 = .ok (.dup, 1) := dk_89 (dk_at dksX2_copy_0 3 rfl rfl)
theorem dX2_copy_4 : decode cX2_copy 4 = .ok (.aload_n 0, 1) := dk_42 (dk_at dksX2_copy_0 4 rfl rfl)
theorem dX2_copy_5 : decode cX2_copy 5 = .ok (.getfield 45, 3) := dk_180 0 45 (dk_at dksX2_copy_0 5 rfl rfl)
theorem dX2_copy_8 : decode cX2_copy 8 = .ok (.aload_n 0, 1) := dk_42 (dk_at dksX2_copy_0 8 rfl rfl)
theorem dX2_copy_9 : decode cX2_copy 9 = .ok (.getfield 48, 3) := dk_180 0 48 (dk_at dksX2_copy_0 9 rfl rfl)
theorem dX2_copy_12 : decode cX2_copy 12 = .ok (.invokespecial 54, 3) := dk_183 0 54 (dk_at dksX2_copy_0 12 rfl rfl)
theorem dX2_copy_15 : decode cX2_copy 15 = .ok (.astore_n 1, 1) := dk_76 (dk_at dksX2_copy_0 15 rfl rfl)
theorem dX2_copy_16 : decode cX2_copy 16 = .ok (.iconst 0, 1) := dk_3 (dk_at dksX2_copy_0 16 rfl rfl)
theorem dX2_copy_17 : decode cX2_copy 17 = .ok (.istore_n 2, 1) := dk_61 (dk_at dksX2_copy_0 17 rfl rfl)
theorem dX2_copy_18 : decode cX2_copy 18 = .ok (.iload_n 2, 1) := dk_28 (dk_at dksX2_copy_0 18 rfl rfl)
theorem dX2_copy_19 : decode cX2_copy 19 = .ok (.aload_n 0, 1) := dk_42 (dk_at dksX2_copy_0 19 rfl rfl)
theorem dX2_copy_20 : decode cX2_copy 20 = .ok (.getfield 45, 3) := dk_180 0 45 (dk_at dksX2_copy_0 20 rfl rfl)
theorem dX2_copy_23 : decode cX2_copy 23 = .ok (.if_icmp .ge 21, 3) := dk_162 0 21 (dk_at dksX2_copy_1 0 rfl rfl)
theorem dX2_copy_26 : decode cX2_copy 26 = .ok (.aload_n 1, 1) := dk_43 (dk_at dksX2_copy_1 3 rfl rfl)
theorem dX2_copy_27 : decode cX2_copy 27 = .ok (.getfield 51, 3) := dk_180 0 51 (dk_at dksX2_copy_1 4 rfl rfl)
theorem dX2_copy_30 : decode cX2_copy 30 = .ok (.iload_n 2, 1) := dk_28 (dk_at dksX2_copy_1 7 rfl rfl)
theorem dX2_copy_31 : decode cX2_copy 31 = .ok (.aload_n 0, 1) := dk_42 (dk_at dksX2_copy_1 8 rfl rfl)
theorem dX2_copy_32 : decode cX2_copy 32 = .ok (.getfield 51, 3) := dk_180 0 51 (dk_at dksX2_copy_1 9 rfl rfl)
theorem dX2_copy_35 : decode cX2_copy 35 = .ok (.iload_n 2, 1) := dk_28 (dk_at dksX2_copy_1 12 rfl rfl)
theorem dX2_copy_36 : decode cX2_copy 36 = .ok (.iaload, 1) := dk_46 (dk_at dksX2_copy_1 13 rfl rfl)
theorem dX2_copy_37 : decode cX2_copy 37 = .ok (.iastore, 1) := dk_79 (dk_at dksX2_copy_1 14 rfl rfl)
theorem dX2_copy_38 : decode cX2_copy 38 = .ok (.iinc 2 1, 3) := dk_132 2 1 (dk_at dksX2_copy_1 15 rfl rfl)
theorem dX2_copy_41 : decode cX2_copy 41 = .ok (.goto (-23), 3) := dk_167 255 233 (dk_at dksX2_copy_1 18 rfl rfl)
theorem dX2_copy_44 : decode cX2_copy 44 = .ok (.aload_n 0, 1) := dk_42 (dk_at dksX2_copy_1 21 rfl rfl)
theorem dX2_copy_45 : decode cX2_copy 45 = .ok (.getfield 14, 3) := dk_180 0 14 (dk_at dksX2_copy_2 0 rfl rfl)
theorem dX2_copy_48 : decode cX2_copy 48 = .ok (.invokeinterface 57 1, 5) := by decide +kernel
theorem dX2_copy_53 : decode cX2_copy 53 = .ok (.astore_n 2, 1) := dk_77 (dk_at dksX2_copy_2 8 rfl rfl)
theorem dX2_copy_54 : decode cX2_copy 54 = .ok (.aload_n 2, 1) := dk_44 (dk_at dksX2_copy_2 9 rfl rfl)
theorem dX2_copy_55 : decode cX2_copy 55 = .ok (.invokeinterface 63 1, 5) := by decide +kernel
theorem dX2_copy_60 : decode cX2_copy 60 = .ok (.ifCond .eq 30, 3) := dk_153 0 30 (dk_at dksX2_copy_2 15 rfl rfl)
theorem dX2_copy_63 : decode cX2_copy 63 = .ok (.aload_n 2, 1) := dk_44 (dk_at dksX2_copy_2 18 rfl rfl)
theorem dX2_copy_64 : decode cX2_copy 64 = .ok (.invokeinterface 69 1, 5) := by decide +kernel
theorem dX2_copy_69 : decode cX2_copy 69 = .ok (.checkcast 73, 3) := dk_192 0 73 (dk_at dksX2_copy_3 0 rfl rfl)
theorem dX2_copy_72 : decode cX2_copy 72 = .ok (.astore_n 3, 1) := dk_78 (dk_at dksX2_copy_3 3 rfl rfl)
theorem dX2_copy_73 : decode cX2_copy 73 = .ok (.aload_n 1, 1) := dk_43 (dk_at dksX2_copy_3 4 rfl rfl)
theorem dX2_copy_74 : decode cX2_copy 74 = .ok (.getfield 14, 3) := dk_180 0 14 (dk_at dksX2_copy_3 5 rfl rfl)
theorem dX2_copy_77 : decode cX2_copy 77 = .ok (.aload_n 3, 1) := dk_45 (dk_at dksX2_copy_3 8 rfl rfl)
theorem dX2_copy_78 : decode cX2_copy 78 = .ok (.invokevirtual 75, 3) := dk_182 0 75 (dk_at dksX2_copy_3 9 rfl rfl)
theorem dX2_copy_81 : decode cX2_copy 81 = .ok (.invokeinterface 79 2, 5) := by decide +kernel
theorem dX2_copy_86 : decode cX2_copy 86 = .ok (.pop, 1) := dk_87 (dk_at dksX2_copy_3 17 rfl rfl)
theorem dX2_copy_87 : decode cX2_copy 87 = .ok (.goto (-33), 3) := dk_167 255 223 (dk_at dksX2_copy_3 18 rfl rfl)
theorem dX2_copy_90 : decode cX2_copy 90 = .ok (.aload_n 0, 1) := dk_42 (dk_at dksX2_copy_3 21 rfl rfl)
theorem dX2_copy_91 : decode cX2_copy 91 = .ok (.getfield 20, 3) := dk_180 0 20 (dk_at dksX2_copy_4 0 rfl rfl)
theorem dX2_copy_94 : decode cX2_copy 94 = .ok (.invokeinterface 57 1, 5) := by decide +kernel
theorem dX2_copy_99 : decode cX2_copy 99 = .ok (.astore_n 2, 1) := dk_77 (dk_at dksX2_copy_4 8 rfl rfl)
theorem dX2_copy_100 : decode cX2_copy 100 = .ok (.aload_n 2, 1) := dk_44 (dk_at dksX2_copy_4 9 rfl rfl)
theorem dX2_copy_101 : decode cX2_copy 101 = .ok (.invokeinterface 63 1, 5) := by decide +kernel
theorem dX2_copy_106 : decode cX2_copy 106 = .ok (.ifCond .eq 45, 3) := dk_153 0 45 (dk_at dksX2_copy_4 15 rfl rfl)
theorem dX2_copy_109 : decode cX2_copy 109 = .ok (.aload_n 2, 1) := dk_44 (dk_at dksX2_copy_4 18 rfl rfl)
theorem dX2_copy_110 : decode cX2_copy 110 = .ok (.invokeinterface 69 1, 5) := by decide +kernel
theorem dX2_copy_115 : decode cX2_copy 115 = .ok (.checkcast 83, 3) := dk_192 0 83 (dk_at dksX2_copy_5 0 rfl rfl)
theorem dX2_copy_118 : decode cX2_copy 118 = .ok (.astore_n 3, 1) := dk_78 (dk_at dksX2_copy_5 3 rfl rfl)
theorem dX2_copy_119 : decode cX2_copy 119 = .ok (.aload_n 1, 1) := dk_43 (dk_at dksX2_copy_5 4 rfl rfl)
theorem dX2_copy_120 : decode cX2_copy 120 = .ok (.getfield 20, 3) := dk_180 0 20 (dk_at dksX2_copy_5 5 rfl rfl)
theorem dX2_copy_123 : decode cX2_copy 123 = .ok (.aload_n 3, 1) := dk_45 (dk_at dksX2_copy_5 8 rfl rfl)
theorem dX2_copy_124 : decode cX2_copy 124 = .ok (.invokeinterface 79 2, 5) := by decide +kernel
theorem dX2_copy_129 : decode cX2_copy 129 = .ok (.pop, 1) := dk_87 (dk_at dksX2_copy_5 14 rfl rfl)
theorem dX2_copy_130 : decode cX2_copy 130 = .ok (.aload_n 1, 1) := dk_43 (dk_at dksX2_copy_5 15 rfl rfl)
theorem dX2_copy_131 : decode cX2_copy 131 = .ok (.getfield 26, 3) := dk_180 0 26 (dk_at dksX2_copy_5 16 rfl rfl)
theorem dX2_copy_134 : decode cX2_copy 134 = .ok (.aload_n 3, 1) := dk_45 (dk_at dksX2_copy_5 19 rfl rfl)
theorem dX2_copy_135 : decode cX2_copy 135 = .ok (.getfield 85, 3) := dk_180 0 85 (dk_at dksX2_copy_5 20 rfl rfl)
theorem dX2_copy_138 : decode cX2_copy 138 = .ok (.aload_n 3, 1) := dk_45 (dk_at dksX2_copy_5 23 rfl rfl)
theorem dX2_copy_139 : decode cX2_copy 139 = .ok (.getfield 89, 3) := dk_180 0 89 (dk_at dksX2_copy_6 0 rfl rfl)
theorem dX2_copy_142 : decode cX2_copy 142 = .ok (.invokeinterface 92 3, 5) := by decide +kernel
theorem dX2_copy_147 : decode cX2_copy 147 = .ok (.pop, 1) := dk_87 (dk_at dksX2_copy_6 8 rfl rfl)
theorem dX2_copy_148 : decode cX2_copy 148 = .ok (.goto (-48), 3) := dk_167 255 208 (dk_at dksX2_copy_6 9 rfl rfl)
theorem dX2_copy_151 : decode cX2_copy 151 = .ok (.aload_n 1, 1) := dk_43 (dk_at dksX2_copy_6 12 rfl rfl)
theorem dX2_copy_152 : decode cX2_copy 152 = .ok (.aload_n 0, 1) := dk_42 (dk_at dksX2_copy_6 13 rfl rfl)
theorem dX2_copy_153 : decode cX2_copy 153 = .ok (.getfield 37, 3) := dk_180 0 37 (dk_at dksX2_copy_6 14 rfl rfl)
theorem dX2_copy_156 : decode cX2_copy 156 = .ok (.invokevirtual 98, 3) := dk_182 0 98 (dk_at dksX2_copy_6 17 rfl rfl)
theorem dX2_copy_159 : decode cX2_copy 159 = .ok (.checkcast 99, 3) := dk_192 0 99 (dk_at dksX2_copy_6 20 rfl rfl)
theorem dX2_copy_162 : decode cX2_copy 162 = .ok (.putfield 37, 3) := dk_181 0 37 (dk_at dksX2_copy_7 0 rfl rfl)
theorem dX2_copy_165 : decode cX2_copy 165 = .ok (.aload_n 1, 1) := dk_43 (dk_at dksX2_copy_7 3 rfl rfl)
theorem dX2_copy_166 : decode cX2_copy 166 = .ok (.aload_n 0, 1) := dk_42 (dk_at dksX2_copy_7 4 rfl rfl)
theorem dX2_copy_167 : decode cX2_copy 167 = .ok (.getfield 41, 3) := dk_180 0 41 (dk_at dksX2_copy_7 5 rfl rfl)
theorem dX2_copy_170 : decode cX2_copy 170 = .ok (.putfield 41, 3) := dk_181 0 41 (dk_at dksX2_copy_7 8 rfl rfl)
theorem dX2_copy_173 : decode cX2_copy 173 = .ok (.aload_n 1, 1) := dk_43 (dk_at dksX2_copy_7 11 rfl rfl)
theorem dX2_copy_174 : decode cX2_copy 174 = .ok (.areturn, 1) := dk_176 (dk_at dksX2_copy_7 12 rfl rfl)
abbrev cX2_isThere : ByteArray := prog_5_method_8_code
def yX2_isThere : MethodName := ⟨RX2, "isThere", "(LSpokenMarks$Mark;)Z"⟩
def dkwX2_isThere_2 : List UInt8 := [167, 0, 4, 3, 172]
abbrev dktX2_isThere_2 : List UInt8 := dkwX2_isThere_2 ++ []
def dkwX2_isThere_1 : List UInt8 := [180, 0, 14, 28, 185, 0, 133, 2, 0, 192, 0, 73, 43, 185, 0, 139, 3, 0, 154, 0, 7, 4]
abbrev dktX2_isThere_1 : List UInt8 := dkwX2_isThere_1 ++ dktX2_isThere_2
def dkwX2_isThere_0 : List UInt8 := [42, 43, 182, 0, 145, 61, 28, 42, 180, 0, 14, 185, 0, 129, 1, 0, 162, 0, 33, 42, 180, 0, 33, 42]
abbrev dktX2_isThere_0 : List UInt8 := dkwX2_isThere_0 ++ dktX2_isThere_1
theorem dksX2_isThere_0 : cX2_isThere.data.toList.drop 0 = dktX2_isThere_0 := by decide +kernel
theorem dksX2_isThere_1 : cX2_isThere.data.toList.drop 24 = dktX2_isThere_1 := dk_seg dksX2_isThere_0 24 rfl rfl
theorem dksX2_isThere_2 : cX2_isThere.data.toList.drop 46 = dktX2_isThere_2 := dk_seg dksX2_isThere_1 22 rfl rfl
theorem dX2_isThere_0 : decode cX2_isThere 0 = .ok (.aload_n 0, 1) := dk_42 (dk_at dksX2_isThere_0 0 rfl rfl)
theorem dX2_isThere_1 : decode cX2_isThere 1 = .ok (.aload_n 1, 1) := dk_43 (dk_at dksX2_isThere_0 1 rfl rfl)
theorem dX2_isThere_2 : decode cX2_isThere 2 = .ok (.invokevirtual 145, 3) := dk_182 0 145 (dk_at dksX2_isThere_0 2 rfl rfl)
theorem dX2_isThere_5 : decode cX2_isThere 5 = .ok (.istore_n 2, 1) := dk_61 (dk_at dksX2_isThere_0 5 rfl rfl)
theorem dX2_isThere_6 : decode cX2_isThere 6 = .ok (.iload_n 2, 1) := dk_28 (dk_at dksX2_isThere_0 6 rfl rfl)
theorem dX2_isThere_7 : decode cX2_isThere 7 = .ok (.aload_n 0, 1) := dk_42 (dk_at dksX2_isThere_0 7 rfl rfl)
theorem dX2_isThere_8 : decode cX2_isThere 8 = .ok (.getfield 14, 3) := dk_180 0 14 (dk_at dksX2_isThere_0 8 rfl rfl)
theorem dX2_isThere_11 : decode cX2_isThere 11 = .ok (.invokeinterface 129 1, 5) := by decide +kernel
theorem dX2_isThere_16 : decode cX2_isThere 16 = .ok (.if_icmp .ge 33, 3) := dk_162 0 33 (dk_at dksX2_isThere_0 16 rfl rfl)
theorem dX2_isThere_19 : decode cX2_isThere 19 = .ok (.aload_n 0, 1) := dk_42 (dk_at dksX2_isThere_0 19 rfl rfl)
theorem dX2_isThere_20 : decode cX2_isThere 20 = .ok (.getfield 33, 3) := dk_180 0 33 (dk_at dksX2_isThere_0 20 rfl rfl)
theorem dX2_isThere_23 : decode cX2_isThere 23 = .ok (.aload_n 0, 1) := dk_42 (dk_at dksX2_isThere_0 23 rfl rfl)
theorem dX2_isThere_24 : decode cX2_isThere 24 = .ok (.getfield 14, 3) := dk_180 0 14 (dk_at dksX2_isThere_1 0 rfl rfl)
theorem dX2_isThere_27 : decode cX2_isThere 27 = .ok (.iload_n 2, 1) := dk_28 (dk_at dksX2_isThere_1 3 rfl rfl)
theorem dX2_isThere_28 : decode cX2_isThere 28 = .ok (.invokeinterface 133 2, 5) := by decide +kernel
theorem dX2_isThere_33 : decode cX2_isThere 33 = .ok (.checkcast 73, 3) := dk_192 0 73 (dk_at dksX2_isThere_1 9 rfl rfl)
theorem dX2_isThere_36 : decode cX2_isThere 36 = .ok (.aload_n 1, 1) := dk_43 (dk_at dksX2_isThere_1 12 rfl rfl)
theorem dX2_isThere_37 : decode cX2_isThere 37 = .ok (.invokeinterface 139 3, 5) := by decide +kernel
theorem dX2_isThere_42 : decode cX2_isThere 42 = .ok (.ifCond .ne 7, 3) := dk_154 0 7 (dk_at dksX2_isThere_1 18 rfl rfl)
theorem dX2_isThere_45 : decode cX2_isThere 45 = .ok (.iconst 1, 1) := dk_4 (dk_at dksX2_isThere_1 21 rfl rfl)
theorem dX2_isThere_46 : decode cX2_isThere 46 = .ok (.goto 4, 3) := dk_167 0 4 (dk_at dksX2_isThere_2 0 rfl rfl)
theorem dX2_isThere_49 : decode cX2_isThere 49 = .ok (.iconst 0, 1) := dk_3 (dk_at dksX2_isThere_2 3 rfl rfl)
theorem dX2_isThere_50 : decode cX2_isThere 50 = .ok (.ireturn, 1) := dk_172 (dk_at dksX2_isThere_2 4 rfl rfl)
abbrev cX2_balance : ByteArray := prog_5_method_26_code
def yX2_balance : MethodName := ⟨RX2, "balance", "()I"⟩
def dkwX2_balance_6 : List UInt8 := [79, 132, 2, 1, 167, 255, 121, 42, 182, 0, 224, 172]
abbrev dktX2_balance_6 : List UInt8 := dkwX2_balance_6 ++ []
def dkwX2_balance_5 : List UInt8 := [192, 0, 73, 180, 0, 193, 96, 62, 132, 1, 1, 167, 255, 196, 42, 180, 0, 51, 28, 42, 27, 182, 0, 152]
abbrev dktX2_balance_5 : List UInt8 := dkwX2_balance_5 ++ dktX2_balance_6
def dkwX2_balance_4 : List UInt8 := [180, 0, 193, 96, 42, 180, 0, 48, 163, 0, 28, 29, 42, 180, 0, 14, 27, 185, 0, 133, 2, 0]
abbrev dktX2_balance_4 : List UInt8 := dkwX2_balance_4 ++ dktX2_balance_5
def dkwX2_balance_3 : List UInt8 := [185, 0, 129, 1, 0, 162, 0, 53, 29, 42, 180, 0, 14, 27, 185, 0, 133, 2, 0, 192, 0, 73]
abbrev dktX2_balance_3 : List UInt8 := dkwX2_balance_3 ++ dktX2_balance_4
def dkwX2_balance_2 : List UInt8 := [27, 4, 96, 42, 180, 0, 14, 185, 0, 129, 1, 0, 184, 0, 221, 60, 27, 42, 180, 0, 14]
abbrev dktX2_balance_2 : List UInt8 := dkwX2_balance_2 ++ dktX2_balance_3
def dkwX2_balance_1 : List UInt8 := [162, 0, 22, 42, 180, 0, 14, 27, 185, 0, 133, 2, 0, 192, 0, 73, 180, 0, 193, 167, 0, 4, 3, 62]
abbrev dktX2_balance_1 : List UInt8 := dkwX2_balance_1 ++ dktX2_balance_2
def dkwX2_balance_0 : List UInt8 := [3, 60, 4, 61, 28, 42, 180, 0, 45, 162, 0, 133, 27, 42, 180, 0, 14, 185, 0, 129, 1, 0]
abbrev dktX2_balance_0 : List UInt8 := dkwX2_balance_0 ++ dktX2_balance_1
theorem dksX2_balance_0 : cX2_balance.data.toList.drop 0 = dktX2_balance_0 := by decide +kernel
theorem dksX2_balance_1 : cX2_balance.data.toList.drop 22 = dktX2_balance_1 := dk_seg dksX2_balance_0 22 rfl rfl
theorem dksX2_balance_2 : cX2_balance.data.toList.drop 46 = dktX2_balance_2 := dk_seg dksX2_balance_1 24 rfl rfl
theorem dksX2_balance_3 : cX2_balance.data.toList.drop 67 = dktX2_balance_3 := dk_seg dksX2_balance_2 21 rfl rfl
theorem dksX2_balance_4 : cX2_balance.data.toList.drop 89 = dktX2_balance_4 := dk_seg dksX2_balance_3 22 rfl rfl
theorem dksX2_balance_5 : cX2_balance.data.toList.drop 111 = dktX2_balance_5 := dk_seg dksX2_balance_4 22 rfl rfl
theorem dksX2_balance_6 : cX2_balance.data.toList.drop 135 = dktX2_balance_6 := dk_seg dksX2_balance_5 24 rfl rfl
theorem dX2_balance_0 : decode cX2_balance 0 = .ok (.iconst 0, 1) := dk_3 (dk_at dksX2_balance_0 0 rfl rfl)
theorem dX2_balance_1 : decode cX2_balance 1 = .ok (.istore_n 1, 1) := dk_60 (dk_at dksX2_balance_0 1 rfl rfl)
theorem dX2_balance_2 : decode cX2_balance 2 = .ok (.iconst 1, 1) := dk_4 (dk_at dksX2_balance_0 2 rfl rfl)
theorem dX2_balance_3 : decode cX2_balance 3 = .ok (.istore_n 2, 1) := dk_61 (dk_at dksX2_balance_0 3 rfl rfl)
theorem dX2_balance_4 : decode cX2_balance 4 = .ok (.iload_n 2, 1) := dk_28 (dk_at dksX2_balance_0 4 rfl rfl)
theorem dX2_balance_5 : decode cX2_balance 5 = .ok (.aload_n 0, 1) := dk_42 (dk_at dksX2_balance_0 5 rfl rfl)
theorem dX2_balance_6 : decode cX2_balance 6 = .ok (.getfield 45, 3) := dk_180 0 45 (dk_at dksX2_balance_0 6 rfl rfl)
theorem dX2_balance_9 : decode cX2_balance 9 = .ok (.if_icmp .ge 133, 3) := dk_162 0 133 (dk_at dksX2_balance_0 9 rfl rfl)
theorem dX2_balance_12 : decode cX2_balance 12 = .ok (.iload_n 1, 1) := dk_27 (dk_at dksX2_balance_0 12 rfl rfl)
theorem dX2_balance_13 : decode cX2_balance 13 = .ok (.aload_n 0, 1) := dk_42 (dk_at dksX2_balance_0 13 rfl rfl)
theorem dX2_balance_14 : decode cX2_balance 14 = .ok (.getfield 14, 3) := dk_180 0 14 (dk_at dksX2_balance_0 14 rfl rfl)
theorem dX2_balance_17 : decode cX2_balance 17 = .ok (.invokeinterface 129 1, 5) := by decide +kernel
theorem dX2_balance_22 : decode cX2_balance 22 = .ok (.if_icmp .ge 22, 3) := dk_162 0 22 (dk_at dksX2_balance_1 0 rfl rfl)
theorem dX2_balance_25 : decode cX2_balance 25 = .ok (.aload_n 0, 1) := dk_42 (dk_at dksX2_balance_1 3 rfl rfl)
theorem dX2_balance_26 : decode cX2_balance 26 = .ok (.getfield 14, 3) := dk_180 0 14 (dk_at dksX2_balance_1 4 rfl rfl)
theorem dX2_balance_29 : decode cX2_balance 29 = .ok (.iload_n 1, 1) := dk_27 (dk_at dksX2_balance_1 7 rfl rfl)
theorem dX2_balance_30 : decode cX2_balance 30 = .ok (.invokeinterface 133 2, 5) := by decide +kernel
theorem dX2_balance_35 : decode cX2_balance 35 = .ok (.checkcast 73, 3) := dk_192 0 73 (dk_at dksX2_balance_1 13 rfl rfl)
theorem dX2_balance_38 : decode cX2_balance 38 = .ok (.getfield 193, 3) := dk_180 0 193 (dk_at dksX2_balance_1 16 rfl rfl)
theorem dX2_balance_41 : decode cX2_balance 41 = .ok (.goto 4, 3) := dk_167 0 4 (dk_at dksX2_balance_1 19 rfl rfl)
theorem dX2_balance_44 : decode cX2_balance 44 = .ok (.iconst 0, 1) := dk_3 (dk_at dksX2_balance_1 22 rfl rfl)
theorem dX2_balance_45 : decode cX2_balance 45 = .ok (.istore_n 3, 1) := dk_62 (dk_at dksX2_balance_1 23 rfl rfl)
theorem dX2_balance_46 : decode cX2_balance 46 = .ok (.iload_n 1, 1) := dk_27 (dk_at dksX2_balance_2 0 rfl rfl)
theorem dX2_balance_47 : decode cX2_balance 47 = .ok (.iconst 1, 1) := dk_4 (dk_at dksX2_balance_2 1 rfl rfl)
theorem dX2_balance_48 : decode cX2_balance 48 = .ok (.iadd, 1) := dk_96 (dk_at dksX2_balance_2 2 rfl rfl)
theorem dX2_balance_49 : decode cX2_balance 49 = .ok (.aload_n 0, 1) := dk_42 (dk_at dksX2_balance_2 3 rfl rfl)
theorem dX2_balance_50 : decode cX2_balance 50 = .ok (.getfield 14, 3) := dk_180 0 14 (dk_at dksX2_balance_2 4 rfl rfl)
theorem dX2_balance_53 : decode cX2_balance 53 = .ok (.invokeinterface 129 1, 5) := by decide +kernel
theorem dX2_balance_58 : decode cX2_balance 58 = .ok (.invokestatic 221, 3) := dk_184 0 221 (dk_at dksX2_balance_2 12 rfl rfl)
theorem dX2_balance_61 : decode cX2_balance 61 = .ok (.istore_n 1, 1) := dk_60 (dk_at dksX2_balance_2 15 rfl rfl)
theorem dX2_balance_62 : decode cX2_balance 62 = .ok (.iload_n 1, 1) := dk_27 (dk_at dksX2_balance_2 16 rfl rfl)
theorem dX2_balance_63 : decode cX2_balance 63 = .ok (.aload_n 0, 1) := dk_42 (dk_at dksX2_balance_2 17 rfl rfl)
theorem dX2_balance_64 : decode cX2_balance 64 = .ok (.getfield 14, 3) := dk_180 0 14 (dk_at dksX2_balance_2 18 rfl rfl)
theorem dX2_balance_67 : decode cX2_balance 67 = .ok (.invokeinterface 129 1, 5) := by decide +kernel
theorem dX2_balance_72 : decode cX2_balance 72 = .ok (.if_icmp .ge 53, 3) := dk_162 0 53 (dk_at dksX2_balance_3 5 rfl rfl)
theorem dX2_balance_75 : decode cX2_balance 75 = .ok (.iload_n 3, 1) := dk_29 (dk_at dksX2_balance_3 8 rfl rfl)
theorem dX2_balance_76 : decode cX2_balance 76 = .ok (.aload_n 0, 1) := dk_42 (dk_at dksX2_balance_3 9 rfl rfl)
theorem dX2_balance_77 : decode cX2_balance 77 = .ok (.getfield 14, 3) := dk_180 0 14 (dk_at dksX2_balance_3 10 rfl rfl)
theorem dX2_balance_80 : decode cX2_balance 80 = .ok (.iload_n 1, 1) := dk_27 (dk_at dksX2_balance_3 13 rfl rfl)
theorem dX2_balance_81 : decode cX2_balance 81 = .ok (.invokeinterface 133 2, 5) := by decide +kernel
theorem dX2_balance_86 : decode cX2_balance 86 = .ok (.checkcast 73, 3) := dk_192 0 73 (dk_at dksX2_balance_3 19 rfl rfl)
theorem dX2_balance_89 : decode cX2_balance 89 = .ok (.getfield 193, 3) := dk_180 0 193 (dk_at dksX2_balance_4 0 rfl rfl)
theorem dX2_balance_92 : decode cX2_balance 92 = .ok (.iadd, 1) := dk_96 (dk_at dksX2_balance_4 3 rfl rfl)
theorem dX2_balance_93 : decode cX2_balance 93 = .ok (.aload_n 0, 1) := dk_42 (dk_at dksX2_balance_4 4 rfl rfl)
theorem dX2_balance_94 : decode cX2_balance 94 = .ok (.getfield 48, 3) := dk_180 0 48 (dk_at dksX2_balance_4 5 rfl rfl)
theorem dX2_balance_97 : decode cX2_balance 97 = .ok (.if_icmp .gt 28, 3) := dk_163 0 28 (dk_at dksX2_balance_4 8 rfl rfl)
theorem dX2_balance_100 : decode cX2_balance 100 = .ok (.iload_n 3, 1) := dk_29 (dk_at dksX2_balance_4 11 rfl rfl)
theorem dX2_balance_101 : decode cX2_balance 101 = .ok (.aload_n 0, 1) := dk_42 (dk_at dksX2_balance_4 12 rfl rfl)
theorem dX2_balance_102 : decode cX2_balance 102 = .ok (.getfield 14, 3) := dk_180 0 14 (dk_at dksX2_balance_4 13 rfl rfl)
theorem dX2_balance_105 : decode cX2_balance 105 = .ok (.iload_n 1, 1) := dk_27 (dk_at dksX2_balance_4 16 rfl rfl)
theorem dX2_balance_106 : decode cX2_balance 106 = .ok (.invokeinterface 133 2, 5) := by decide +kernel
theorem dX2_balance_111 : decode cX2_balance 111 = .ok (.checkcast 73, 3) := dk_192 0 73 (dk_at dksX2_balance_5 0 rfl rfl)
theorem dX2_balance_114 : decode cX2_balance 114 = .ok (.getfield 193, 3) := dk_180 0 193 (dk_at dksX2_balance_5 3 rfl rfl)
theorem dX2_balance_117 : decode cX2_balance 117 = .ok (.iadd, 1) := dk_96 (dk_at dksX2_balance_5 6 rfl rfl)
theorem dX2_balance_118 : decode cX2_balance 118 = .ok (.istore_n 3, 1) := dk_62 (dk_at dksX2_balance_5 7 rfl rfl)
theorem dX2_balance_119 : decode cX2_balance 119 = .ok (.iinc 1 1, 3) := dk_132 1 1 (dk_at dksX2_balance_5 8 rfl rfl)
theorem dX2_balance_122 : decode cX2_balance 122 = .ok (.goto (-60), 3) := dk_167 255 196 (dk_at dksX2_balance_5 11 rfl rfl)
theorem dX2_balance_125 : decode cX2_balance 125 = .ok (.aload_n 0, 1) := dk_42 (dk_at dksX2_balance_5 14 rfl rfl)
theorem dX2_balance_126 : decode cX2_balance 126 = .ok (.getfield 51, 3) := dk_180 0 51 (dk_at dksX2_balance_5 15 rfl rfl)
theorem dX2_balance_129 : decode cX2_balance 129 = .ok (.iload_n 2, 1) := dk_28 (dk_at dksX2_balance_5 18 rfl rfl)
theorem dX2_balance_130 : decode cX2_balance 130 = .ok (.aload_n 0, 1) := dk_42 (dk_at dksX2_balance_5 19 rfl rfl)
theorem dX2_balance_131 : decode cX2_balance 131 = .ok (.iload_n 1, 1) := dk_27 (dk_at dksX2_balance_5 20 rfl rfl)
theorem dX2_balance_132 : decode cX2_balance 132 = .ok (.invokevirtual 152, 3) := dk_182 0 152 (dk_at dksX2_balance_5 21 rfl rfl)
theorem dX2_balance_135 : decode cX2_balance 135 = .ok (.iastore, 1) := dk_79 (dk_at dksX2_balance_6 0 rfl rfl)
theorem dX2_balance_136 : decode cX2_balance 136 = .ok (.iinc 2 1, 3) := dk_132 2 1 (dk_at dksX2_balance_6 1 rfl rfl)
theorem dX2_balance_139 : decode cX2_balance 139 = .ok (.goto (-135), 3) := dk_167 255 121 (dk_at dksX2_balance_6 4 rfl rfl)
theorem dX2_balance_142 : decode cX2_balance 142 = .ok (.aload_n 0, 1) := dk_42 (dk_at dksX2_balance_6 7 rfl rfl)
theorem dX2_balance_143 : decode cX2_balance 143 = .ok (.invokevirtual 224, 3) := dk_182 0 224 (dk_at dksX2_balance_6 8 rfl rfl)
theorem dX2_balance_146 : decode cX2_balance 146 = .ok (.ireturn, 1) := dk_172 (dk_at dksX2_balance_6 11 rfl rfl)
abbrev cX2_shelvesOver : ByteArray := prog_5_method_24_code
def yX2_shelvesOver : MethodName := ⟨RX2, "shelvesOver", "()I"⟩
def dkwX2_shelvesOver_1 : List UInt8 := [167, 0, 4, 3, 184, 0, 164, 96, 60, 132, 2, 1, 167, 255, 226, 27, 172]
abbrev dktX2_shelvesOver_1 : List UInt8 := dkwX2_shelvesOver_1 ++ []
def dkwX2_shelvesOver_0 : List UInt8 := [3, 60, 3, 61, 28, 42, 180, 0, 45, 162, 0, 28, 27, 42, 28, 182, 0, 218, 158, 0, 7, 4]
abbrev dktX2_shelvesOver_0 : List UInt8 := dkwX2_shelvesOver_0 ++ dktX2_shelvesOver_1
theorem dksX2_shelvesOver_0 : cX2_shelvesOver.data.toList.drop 0 = dktX2_shelvesOver_0 := by decide +kernel
theorem dksX2_shelvesOver_1 : cX2_shelvesOver.data.toList.drop 22 = dktX2_shelvesOver_1 := dk_seg dksX2_shelvesOver_0 22 rfl rfl
theorem dX2_shelvesOver_0 : decode cX2_shelvesOver 0 = .ok (.iconst 0, 1) := dk_3 (dk_at dksX2_shelvesOver_0 0 rfl rfl)
theorem dX2_shelvesOver_1 : decode cX2_shelvesOver 1 = .ok (.istore_n 1, 1) := dk_60 (dk_at dksX2_shelvesOver_0 1 rfl rfl)
theorem dX2_shelvesOver_2 : decode cX2_shelvesOver 2 = .ok (.iconst 0, 1) := dk_3 (dk_at dksX2_shelvesOver_0 2 rfl rfl)
theorem dX2_shelvesOver_3 : decode cX2_shelvesOver 3 = .ok (.istore_n 2, 1) := dk_61 (dk_at dksX2_shelvesOver_0 3 rfl rfl)
theorem dX2_shelvesOver_4 : decode cX2_shelvesOver 4 = .ok (.iload_n 2, 1) := dk_28 (dk_at dksX2_shelvesOver_0 4 rfl rfl)
theorem dX2_shelvesOver_5 : decode cX2_shelvesOver 5 = .ok (.aload_n 0, 1) := dk_42 (dk_at dksX2_shelvesOver_0 5 rfl rfl)
theorem dX2_shelvesOver_6 : decode cX2_shelvesOver 6 = .ok (.getfield 45, 3) := dk_180 0 45 (dk_at dksX2_shelvesOver_0 6 rfl rfl)
theorem dX2_shelvesOver_9 : decode cX2_shelvesOver 9 = .ok (.if_icmp .ge 28, 3) := dk_162 0 28 (dk_at dksX2_shelvesOver_0 9 rfl rfl)
theorem dX2_shelvesOver_12 : decode cX2_shelvesOver 12 = .ok (.iload_n 1, 1) := dk_27 (dk_at dksX2_shelvesOver_0 12 rfl rfl)
theorem dX2_shelvesOver_13 : decode cX2_shelvesOver 13 = .ok (.aload_n 0, 1) := dk_42 (dk_at dksX2_shelvesOver_0 13 rfl rfl)
theorem dX2_shelvesOver_14 : decode cX2_shelvesOver 14 = .ok (.iload_n 2, 1) := dk_28 (dk_at dksX2_shelvesOver_0 14 rfl rfl)
theorem dX2_shelvesOver_15 : decode cX2_shelvesOver 15 = .ok (.invokevirtual 218, 3) := dk_182 0 218 (dk_at dksX2_shelvesOver_0 15 rfl rfl)
theorem dX2_shelvesOver_18 : decode cX2_shelvesOver 18 = .ok (.ifCond .le 7, 3) := dk_158 0 7 (dk_at dksX2_shelvesOver_0 18 rfl rfl)
theorem dX2_shelvesOver_21 : decode cX2_shelvesOver 21 = .ok (.iconst 1, 1) := dk_4 (dk_at dksX2_shelvesOver_0 21 rfl rfl)
theorem dX2_shelvesOver_22 : decode cX2_shelvesOver 22 = .ok (.goto 4, 3) := dk_167 0 4 (dk_at dksX2_shelvesOver_1 0 rfl rfl)
theorem dX2_shelvesOver_25 : decode cX2_shelvesOver 25 = .ok (.iconst 0, 1) := dk_3 (dk_at dksX2_shelvesOver_1 3 rfl rfl)
theorem dX2_shelvesOver_26 : decode cX2_shelvesOver 26 = .ok (.invokestatic 164, 3) := dk_184 0 164 (dk_at dksX2_shelvesOver_1 4 rfl rfl)
theorem dX2_shelvesOver_29 : decode cX2_shelvesOver 29 = .ok (.iadd, 1) := dk_96 (dk_at dksX2_shelvesOver_1 7 rfl rfl)
theorem dX2_shelvesOver_30 : decode cX2_shelvesOver 30 = .ok (.istore_n 1, 1) := dk_60 (dk_at dksX2_shelvesOver_1 8 rfl rfl)
theorem dX2_shelvesOver_31 : decode cX2_shelvesOver 31 = .ok (.iinc 2 1, 3) := dk_132 2 1 (dk_at dksX2_shelvesOver_1 9 rfl rfl)
theorem dX2_shelvesOver_34 : decode cX2_shelvesOver 34 = .ok (.goto (-30), 3) := dk_167 255 226 (dk_at dksX2_shelvesOver_1 12 rfl rfl)
theorem dX2_shelvesOver_37 : decode cX2_shelvesOver 37 = .ok (.iload_n 1, 1) := dk_27 (dk_at dksX2_shelvesOver_1 15 rfl rfl)
theorem dX2_shelvesOver_38 : decode cX2_shelvesOver 38 = .ok (.ireturn, 1) := dk_172 (dk_at dksX2_shelvesOver_1 16 rfl rfl)
abbrev cX2_overOn : ByteArray := prog_5_method_23_code
def yX2_overOn : MethodName := ⟨RX2, "overOn", "(I)I"⟩
def dkwX2_overOn_0 : List UInt8 := [3, 42, 27, 182, 0, 210, 42, 180, 0, 48, 100, 184, 0, 213, 172]
abbrev dktX2_overOn_0 : List UInt8 := dkwX2_overOn_0 ++ []
theorem dksX2_overOn_0 : cX2_overOn.data.toList.drop 0 = dktX2_overOn_0 := by decide +kernel
theorem dX2_overOn_0 : decode cX2_overOn 0 = .ok (.iconst 0, 1) := dk_3 (dk_at dksX2_overOn_0 0 rfl rfl)
theorem dX2_overOn_1 : decode cX2_overOn 1 = .ok (.aload_n 0, 1) := dk_42 (dk_at dksX2_overOn_0 1 rfl rfl)
theorem dX2_overOn_2 : decode cX2_overOn 2 = .ok (.iload_n 1, 1) := dk_27 (dk_at dksX2_overOn_0 2 rfl rfl)
theorem dX2_overOn_3 : decode cX2_overOn 3 = .ok (.invokevirtual 210, 3) := dk_182 0 210 (dk_at dksX2_overOn_0 3 rfl rfl)
theorem dX2_overOn_6 : decode cX2_overOn 6 = .ok (.aload_n 0, 1) := dk_42 (dk_at dksX2_overOn_0 6 rfl rfl)
theorem dX2_overOn_7 : decode cX2_overOn 7 = .ok (.getfield 48, 3) := dk_180 0 48 (dk_at dksX2_overOn_0 7 rfl rfl)
theorem dX2_overOn_10 : decode cX2_overOn 10 = .ok (.isub, 1) := dk_100 (dk_at dksX2_overOn_0 10 rfl rfl)
theorem dX2_overOn_11 : decode cX2_overOn 11 = .ok (.invokestatic 213, 3) := dk_184 0 213 (dk_at dksX2_overOn_0 11 rfl rfl)
theorem dX2_overOn_14 : decode cX2_overOn 14 = .ok (.ireturn, 1) := dk_172 (dk_at dksX2_overOn_0 14 rfl rfl)
abbrev cX2_widthOn : ByteArray := prog_5_method_22_code
def yX2_widthOn : MethodName := ⟨RX2, "widthOn", "(I)I"⟩
def dkwX2_widthOn_3 : List UInt8 := [172]
abbrev dktX2_widthOn_3 : List UInt8 := dkwX2_widthOn_3 ++ []
def dkwX2_widthOn_2 : List UInt8 := [185, 0, 133, 2, 0, 192, 0, 73, 180, 0, 193, 167, 0, 4, 3, 96, 61, 132, 3, 1, 167, 255, 193, 28]
abbrev dktX2_widthOn_2 : List UInt8 := dkwX2_widthOn_2 ++ dktX2_widthOn_3
def dkwX2_widthOn_1 : List UInt8 := [185, 0, 133, 2, 0, 192, 0, 73, 180, 0, 149, 182, 0, 207, 27, 160, 0, 22, 42, 180, 0, 14, 29]
abbrev dktX2_widthOn_1 : List UInt8 := dkwX2_widthOn_1 ++ dktX2_widthOn_2
def dkwX2_widthOn_0 : List UInt8 := [3, 61, 3, 62, 29, 42, 180, 0, 14, 185, 0, 129, 1, 0, 162, 0, 56, 28, 42, 42, 180, 0, 14, 29]
abbrev dktX2_widthOn_0 : List UInt8 := dkwX2_widthOn_0 ++ dktX2_widthOn_1
theorem dksX2_widthOn_0 : cX2_widthOn.data.toList.drop 0 = dktX2_widthOn_0 := by decide +kernel
theorem dksX2_widthOn_1 : cX2_widthOn.data.toList.drop 24 = dktX2_widthOn_1 := dk_seg dksX2_widthOn_0 24 rfl rfl
theorem dksX2_widthOn_2 : cX2_widthOn.data.toList.drop 47 = dktX2_widthOn_2 := dk_seg dksX2_widthOn_1 23 rfl rfl
theorem dksX2_widthOn_3 : cX2_widthOn.data.toList.drop 71 = dktX2_widthOn_3 := dk_seg dksX2_widthOn_2 24 rfl rfl
theorem dX2_widthOn_0 : decode cX2_widthOn 0 = .ok (.iconst 0, 1) := dk_3 (dk_at dksX2_widthOn_0 0 rfl rfl)
theorem dX2_widthOn_1 : decode cX2_widthOn 1 = .ok (.istore_n 2, 1) := dk_61 (dk_at dksX2_widthOn_0 1 rfl rfl)
theorem dX2_widthOn_2 : decode cX2_widthOn 2 = .ok (.iconst 0, 1) := dk_3 (dk_at dksX2_widthOn_0 2 rfl rfl)
theorem dX2_widthOn_3 : decode cX2_widthOn 3 = .ok (.istore_n 3, 1) := dk_62 (dk_at dksX2_widthOn_0 3 rfl rfl)
theorem dX2_widthOn_4 : decode cX2_widthOn 4 = .ok (.iload_n 3, 1) := dk_29 (dk_at dksX2_widthOn_0 4 rfl rfl)
theorem dX2_widthOn_5 : decode cX2_widthOn 5 = .ok (.aload_n 0, 1) := dk_42 (dk_at dksX2_widthOn_0 5 rfl rfl)
theorem dX2_widthOn_6 : decode cX2_widthOn 6 = .ok (.getfield 14, 3) := dk_180 0 14 (dk_at dksX2_widthOn_0 6 rfl rfl)
theorem dX2_widthOn_9 : decode cX2_widthOn 9 = .ok (.invokeinterface 129 1, 5) := by decide +kernel
theorem dX2_widthOn_14 : decode cX2_widthOn 14 = .ok (.if_icmp .ge 56, 3) := dk_162 0 56 (dk_at dksX2_widthOn_0 14 rfl rfl)
theorem dX2_widthOn_17 : decode cX2_widthOn 17 = .ok (.iload_n 2, 1) := dk_28 (dk_at dksX2_widthOn_0 17 rfl rfl)
theorem dX2_widthOn_18 : decode cX2_widthOn 18 = .ok (.aload_n 0, 1) := dk_42 (dk_at dksX2_widthOn_0 18 rfl rfl)
theorem dX2_widthOn_19 : decode cX2_widthOn 19 = .ok (.aload_n 0, 1) := dk_42 (dk_at dksX2_widthOn_0 19 rfl rfl)
theorem dX2_widthOn_20 : decode cX2_widthOn 20 = .ok (.getfield 14, 3) := dk_180 0 14 (dk_at dksX2_widthOn_0 20 rfl rfl)
theorem dX2_widthOn_23 : decode cX2_widthOn 23 = .ok (.iload_n 3, 1) := dk_29 (dk_at dksX2_widthOn_0 23 rfl rfl)
theorem dX2_widthOn_24 : decode cX2_widthOn 24 = .ok (.invokeinterface 133 2, 5) := by decide +kernel
theorem dX2_widthOn_29 : decode cX2_widthOn 29 = .ok (.checkcast 73, 3) := dk_192 0 73 (dk_at dksX2_widthOn_1 5 rfl rfl)
theorem dX2_widthOn_32 : decode cX2_widthOn 32 = .ok (.getfield 149, 3) := dk_180 0 149 (dk_at dksX2_widthOn_1 8 rfl rfl)
theorem dX2_widthOn_35 : decode cX2_widthOn 35 = .ok (.invokevirtual 207, 3) := dk_182 0 207 (dk_at dksX2_widthOn_1 11 rfl rfl)
theorem dX2_widthOn_38 : decode cX2_widthOn 38 = .ok (.iload_n 1, 1) := dk_27 (dk_at dksX2_widthOn_1 14 rfl rfl)
theorem dX2_widthOn_39 : decode cX2_widthOn 39 = .ok (.if_icmp .ne 22, 3) := dk_160 0 22 (dk_at dksX2_widthOn_1 15 rfl rfl)
theorem dX2_widthOn_42 : decode cX2_widthOn 42 = .ok (.aload_n 0, 1) := dk_42 (dk_at dksX2_widthOn_1 18 rfl rfl)
theorem dX2_widthOn_43 : decode cX2_widthOn 43 = .ok (.getfield 14, 3) := dk_180 0 14 (dk_at dksX2_widthOn_1 19 rfl rfl)
theorem dX2_widthOn_46 : decode cX2_widthOn 46 = .ok (.iload_n 3, 1) := dk_29 (dk_at dksX2_widthOn_1 22 rfl rfl)
theorem dX2_widthOn_47 : decode cX2_widthOn 47 = .ok (.invokeinterface 133 2, 5) := by decide +kernel
theorem dX2_widthOn_52 : decode cX2_widthOn 52 = .ok (.checkcast 73, 3) := dk_192 0 73 (dk_at dksX2_widthOn_2 5 rfl rfl)
theorem dX2_widthOn_55 : decode cX2_widthOn 55 = .ok (.getfield 193, 3) := dk_180 0 193 (dk_at dksX2_widthOn_2 8 rfl rfl)
theorem dX2_widthOn_58 : decode cX2_widthOn 58 = .ok (.goto 4, 3) := dk_167 0 4 (dk_at dksX2_widthOn_2 11 rfl rfl)
theorem dX2_widthOn_61 : decode cX2_widthOn 61 = .ok (.iconst 0, 1) := dk_3 (dk_at dksX2_widthOn_2 14 rfl rfl)
theorem dX2_widthOn_62 : decode cX2_widthOn 62 = .ok (.iadd, 1) := dk_96 (dk_at dksX2_widthOn_2 15 rfl rfl)
theorem dX2_widthOn_63 : decode cX2_widthOn 63 = .ok (.istore_n 2, 1) := dk_61 (dk_at dksX2_widthOn_2 16 rfl rfl)
theorem dX2_widthOn_64 : decode cX2_widthOn 64 = .ok (.iinc 3 1, 3) := dk_132 3 1 (dk_at dksX2_widthOn_2 17 rfl rfl)
theorem dX2_widthOn_67 : decode cX2_widthOn 67 = .ok (.goto (-63), 3) := dk_167 255 193 (dk_at dksX2_widthOn_2 20 rfl rfl)
theorem dX2_widthOn_70 : decode cX2_widthOn 70 = .ok (.iload_n 2, 1) := dk_28 (dk_at dksX2_widthOn_2 23 rfl rfl)
theorem dX2_widthOn_71 : decode cX2_widthOn 71 = .ok (.ireturn, 1) := dk_172 (dk_at dksX2_widthOn_3 0 rfl rfl)
abbrev cX2_shelfOf : ByteArray := prog_5_method_20_code
def yX2_shelfOf : MethodName := ⟨RX2, "shelfOf", "(I)I"⟩
def dkwX2_shelfOf_1 : List UInt8 := [172]
abbrev dktX2_shelfOf_1 : List UInt8 := dkwX2_shelfOf_1 ++ []
def dkwX2_shelfOf_0 : List UInt8 := [42, 180, 0, 45, 4, 100, 61, 42, 180, 0, 51, 28, 46, 27, 164, 0, 9, 132, 2, 255, 167, 255, 243, 28]
abbrev dktX2_shelfOf_0 : List UInt8 := dkwX2_shelfOf_0 ++ dktX2_shelfOf_1
theorem dksX2_shelfOf_0 : cX2_shelfOf.data.toList.drop 0 = dktX2_shelfOf_0 := by decide +kernel
theorem dksX2_shelfOf_1 : cX2_shelfOf.data.toList.drop 24 = dktX2_shelfOf_1 := dk_seg dksX2_shelfOf_0 24 rfl rfl
theorem dX2_shelfOf_0 : decode cX2_shelfOf 0 = .ok (.aload_n 0, 1) := dk_42 (dk_at dksX2_shelfOf_0 0 rfl rfl)
theorem dX2_shelfOf_1 : decode cX2_shelfOf 1 = .ok (.getfield 45, 3) := dk_180 0 45 (dk_at dksX2_shelfOf_0 1 rfl rfl)
theorem dX2_shelfOf_4 : decode cX2_shelfOf 4 = .ok (.iconst 1, 1) := dk_4 (dk_at dksX2_shelfOf_0 4 rfl rfl)
theorem dX2_shelfOf_5 : decode cX2_shelfOf 5 = .ok (.isub, 1) := dk_100 (dk_at dksX2_shelfOf_0 5 rfl rfl)
theorem dX2_shelfOf_6 : decode cX2_shelfOf 6 = .ok (.istore_n 2, 1) := dk_61 (dk_at dksX2_shelfOf_0 6 rfl rfl)
theorem dX2_shelfOf_7 : decode cX2_shelfOf 7 = .ok (.aload_n 0, 1) := dk_42 (dk_at dksX2_shelfOf_0 7 rfl rfl)
theorem dX2_shelfOf_8 : decode cX2_shelfOf 8 = .ok (.getfield 51, 3) := dk_180 0 51 (dk_at dksX2_shelfOf_0 8 rfl rfl)
theorem dX2_shelfOf_11 : decode cX2_shelfOf 11 = .ok (.iload_n 2, 1) := dk_28 (dk_at dksX2_shelfOf_0 11 rfl rfl)
theorem dX2_shelfOf_12 : decode cX2_shelfOf 12 = .ok (.iaload, 1) := dk_46 (dk_at dksX2_shelfOf_0 12 rfl rfl)
theorem dX2_shelfOf_13 : decode cX2_shelfOf 13 = .ok (.iload_n 1, 1) := dk_27 (dk_at dksX2_shelfOf_0 13 rfl rfl)
theorem dX2_shelfOf_14 : decode cX2_shelfOf 14 = .ok (.if_icmp .le 9, 3) := dk_164 0 9 (dk_at dksX2_shelfOf_0 14 rfl rfl)
theorem dX2_shelfOf_17 : decode cX2_shelfOf 17 = .ok (.iinc 2 (-1), 3) := dk_132 2 255 (dk_at dksX2_shelfOf_0 17 rfl rfl)
theorem dX2_shelfOf_20 : decode cX2_shelfOf 20 = .ok (.goto (-13), 3) := dk_167 255 243 (dk_at dksX2_shelfOf_0 20 rfl rfl)
theorem dX2_shelfOf_23 : decode cX2_shelfOf 23 = .ok (.iload_n 2, 1) := dk_28 (dk_at dksX2_shelfOf_0 23 rfl rfl)
theorem dX2_shelfOf_24 : decode cX2_shelfOf 24 = .ok (.ireturn, 1) := dk_172 (dk_at dksX2_shelfOf_1 0 rfl rfl)
abbrev cX2_isBound : ByteArray := prog_5_method_27_code
def yX2_isBound : MethodName := ⟨RX2, "isBound", "(II)Z"⟩
def dkwX2_isBound_1 : List UInt8 := [180, 0, 51, 27, 4, 96, 46, 163, 0, 7, 4, 167, 0, 4, 3, 172]
abbrev dktX2_isBound_1 : List UInt8 := dkwX2_isBound_1 ++ []
def dkwX2_isBound_0 : List UInt8 := [28, 42, 180, 0, 51, 27, 4, 100, 46, 161, 0, 29, 27, 42, 180, 0, 45, 4, 100, 159, 0, 15, 28, 42]
abbrev dktX2_isBound_0 : List UInt8 := dkwX2_isBound_0 ++ dktX2_isBound_1
theorem dksX2_isBound_0 : cX2_isBound.data.toList.drop 0 = dktX2_isBound_0 := by decide +kernel
theorem dksX2_isBound_1 : cX2_isBound.data.toList.drop 24 = dktX2_isBound_1 := dk_seg dksX2_isBound_0 24 rfl rfl
theorem dX2_isBound_0 : decode cX2_isBound 0 = .ok (.iload_n 2, 1) := dk_28 (dk_at dksX2_isBound_0 0 rfl rfl)
theorem dX2_isBound_1 : decode cX2_isBound 1 = .ok (.aload_n 0, 1) := dk_42 (dk_at dksX2_isBound_0 1 rfl rfl)
theorem dX2_isBound_2 : decode cX2_isBound 2 = .ok (.getfield 51, 3) := dk_180 0 51 (dk_at dksX2_isBound_0 2 rfl rfl)
theorem dX2_isBound_5 : decode cX2_isBound 5 = .ok (.iload_n 1, 1) := dk_27 (dk_at dksX2_isBound_0 5 rfl rfl)
theorem dX2_isBound_6 : decode cX2_isBound 6 = .ok (.iconst 1, 1) := dk_4 (dk_at dksX2_isBound_0 6 rfl rfl)
theorem dX2_isBound_7 : decode cX2_isBound 7 = .ok (.isub, 1) := dk_100 (dk_at dksX2_isBound_0 7 rfl rfl)
theorem dX2_isBound_8 : decode cX2_isBound 8 = .ok (.iaload, 1) := dk_46 (dk_at dksX2_isBound_0 8 rfl rfl)
theorem dX2_isBound_9 : decode cX2_isBound 9 = .ok (.if_icmp .lt 29, 3) := dk_161 0 29 (dk_at dksX2_isBound_0 9 rfl rfl)
theorem dX2_isBound_12 : decode cX2_isBound 12 = .ok (.iload_n 1, 1) := dk_27 (dk_at dksX2_isBound_0 12 rfl rfl)
theorem dX2_isBound_13 : decode cX2_isBound 13 = .ok (.aload_n 0, 1) := dk_42 (dk_at dksX2_isBound_0 13 rfl rfl)
theorem dX2_isBound_14 : decode cX2_isBound 14 = .ok (.getfield 45, 3) := dk_180 0 45 (dk_at dksX2_isBound_0 14 rfl rfl)
theorem dX2_isBound_17 : decode cX2_isBound 17 = .ok (.iconst 1, 1) := dk_4 (dk_at dksX2_isBound_0 17 rfl rfl)
theorem dX2_isBound_18 : decode cX2_isBound 18 = .ok (.isub, 1) := dk_100 (dk_at dksX2_isBound_0 18 rfl rfl)
theorem dX2_isBound_19 : decode cX2_isBound 19 = .ok (.if_icmp .eq 15, 3) := dk_159 0 15 (dk_at dksX2_isBound_0 19 rfl rfl)
theorem dX2_isBound_22 : decode cX2_isBound 22 = .ok (.iload_n 2, 1) := dk_28 (dk_at dksX2_isBound_0 22 rfl rfl)
theorem dX2_isBound_23 : decode cX2_isBound 23 = .ok (.aload_n 0, 1) := dk_42 (dk_at dksX2_isBound_0 23 rfl rfl)
theorem dX2_isBound_24 : decode cX2_isBound 24 = .ok (.getfield 51, 3) := dk_180 0 51 (dk_at dksX2_isBound_1 0 rfl rfl)
theorem dX2_isBound_27 : decode cX2_isBound 27 = .ok (.iload_n 1, 1) := dk_27 (dk_at dksX2_isBound_1 3 rfl rfl)
theorem dX2_isBound_28 : decode cX2_isBound 28 = .ok (.iconst 1, 1) := dk_4 (dk_at dksX2_isBound_1 4 rfl rfl)
theorem dX2_isBound_29 : decode cX2_isBound 29 = .ok (.iadd, 1) := dk_96 (dk_at dksX2_isBound_1 5 rfl rfl)
theorem dX2_isBound_30 : decode cX2_isBound 30 = .ok (.iaload, 1) := dk_46 (dk_at dksX2_isBound_1 6 rfl rfl)
theorem dX2_isBound_31 : decode cX2_isBound 31 = .ok (.if_icmp .gt 7, 3) := dk_163 0 7 (dk_at dksX2_isBound_1 7 rfl rfl)
theorem dX2_isBound_34 : decode cX2_isBound 34 = .ok (.iconst 1, 1) := dk_4 (dk_at dksX2_isBound_1 10 rfl rfl)
theorem dX2_isBound_35 : decode cX2_isBound 35 = .ok (.goto 4, 3) := dk_167 0 4 (dk_at dksX2_isBound_1 11 rfl rfl)
theorem dX2_isBound_38 : decode cX2_isBound 38 = .ok (.iconst 0, 1) := dk_3 (dk_at dksX2_isBound_1 14 rfl rfl)
theorem dX2_isBound_39 : decode cX2_isBound 39 = .ok (.ireturn, 1) := dk_172 (dk_at dksX2_isBound_1 15 rfl rfl)
abbrev cX2_rankOf : ByteArray := prog_5_method_6_code
def yX2_rankOf : MethodName := ⟨RX2, "rankOf", "(I)I"⟩
def dkwX2_rankOf_2 : List UInt8 := [180, 0, 14, 185, 0, 129, 1, 0, 162, 0, 7, 28, 167, 0, 4, 2, 172]
abbrev dktX2_rankOf_2 : List UInt8 := dkwX2_rankOf_2 ++ []
def dkwX2_rankOf_1 : List UInt8 := [185, 0, 133, 2, 0, 192, 0, 73, 180, 0, 136, 27, 159, 0, 9, 132, 2, 1, 167, 255, 220, 28, 42]
abbrev dktX2_rankOf_1 : List UInt8 := dkwX2_rankOf_1 ++ dktX2_rankOf_2
def dkwX2_rankOf_0 : List UInt8 := [3, 61, 28, 42, 180, 0, 14, 185, 0, 129, 1, 0, 162, 0, 29, 42, 180, 0, 14, 28]
abbrev dktX2_rankOf_0 : List UInt8 := dkwX2_rankOf_0 ++ dktX2_rankOf_1
theorem dksX2_rankOf_0 : cX2_rankOf.data.toList.drop 0 = dktX2_rankOf_0 := by decide +kernel
theorem dksX2_rankOf_1 : cX2_rankOf.data.toList.drop 20 = dktX2_rankOf_1 := dk_seg dksX2_rankOf_0 20 rfl rfl
theorem dksX2_rankOf_2 : cX2_rankOf.data.toList.drop 43 = dktX2_rankOf_2 := dk_seg dksX2_rankOf_1 23 rfl rfl
theorem dX2_rankOf_0 : decode cX2_rankOf 0 = .ok (.iconst 0, 1) := dk_3 (dk_at dksX2_rankOf_0 0 rfl rfl)
theorem dX2_rankOf_1 : decode cX2_rankOf 1 = .ok (.istore_n 2, 1) := dk_61 (dk_at dksX2_rankOf_0 1 rfl rfl)
theorem dX2_rankOf_2 : decode cX2_rankOf 2 = .ok (.iload_n 2, 1) := dk_28 (dk_at dksX2_rankOf_0 2 rfl rfl)
theorem dX2_rankOf_3 : decode cX2_rankOf 3 = .ok (.aload_n 0, 1) := dk_42 (dk_at dksX2_rankOf_0 3 rfl rfl)
theorem dX2_rankOf_4 : decode cX2_rankOf 4 = .ok (.getfield 14, 3) := dk_180 0 14 (dk_at dksX2_rankOf_0 4 rfl rfl)
theorem dX2_rankOf_7 : decode cX2_rankOf 7 = .ok (.invokeinterface 129 1, 5) := by decide +kernel
theorem dX2_rankOf_12 : decode cX2_rankOf 12 = .ok (.if_icmp .ge 29, 3) := dk_162 0 29 (dk_at dksX2_rankOf_0 12 rfl rfl)
theorem dX2_rankOf_15 : decode cX2_rankOf 15 = .ok (.aload_n 0, 1) := dk_42 (dk_at dksX2_rankOf_0 15 rfl rfl)
theorem dX2_rankOf_16 : decode cX2_rankOf 16 = .ok (.getfield 14, 3) := dk_180 0 14 (dk_at dksX2_rankOf_0 16 rfl rfl)
theorem dX2_rankOf_19 : decode cX2_rankOf 19 = .ok (.iload_n 2, 1) := dk_28 (dk_at dksX2_rankOf_0 19 rfl rfl)
theorem dX2_rankOf_20 : decode cX2_rankOf 20 = .ok (.invokeinterface 133 2, 5) := by decide +kernel
theorem dX2_rankOf_25 : decode cX2_rankOf 25 = .ok (.checkcast 73, 3) := dk_192 0 73 (dk_at dksX2_rankOf_1 5 rfl rfl)
theorem dX2_rankOf_28 : decode cX2_rankOf 28 = .ok (.getfield 136, 3) := dk_180 0 136 (dk_at dksX2_rankOf_1 8 rfl rfl)
theorem dX2_rankOf_31 : decode cX2_rankOf 31 = .ok (.iload_n 1, 1) := dk_27 (dk_at dksX2_rankOf_1 11 rfl rfl)
theorem dX2_rankOf_32 : decode cX2_rankOf 32 = .ok (.if_icmp .eq 9, 3) := dk_159 0 9 (dk_at dksX2_rankOf_1 12 rfl rfl)
theorem dX2_rankOf_35 : decode cX2_rankOf 35 = .ok (.iinc 2 1, 3) := dk_132 2 1 (dk_at dksX2_rankOf_1 15 rfl rfl)
theorem dX2_rankOf_38 : decode cX2_rankOf 38 = .ok (.goto (-36), 3) := dk_167 255 220 (dk_at dksX2_rankOf_1 18 rfl rfl)
theorem dX2_rankOf_41 : decode cX2_rankOf 41 = .ok (.iload_n 2, 1) := dk_28 (dk_at dksX2_rankOf_1 21 rfl rfl)
theorem dX2_rankOf_42 : decode cX2_rankOf 42 = .ok (.aload_n 0, 1) := dk_42 (dk_at dksX2_rankOf_1 22 rfl rfl)
theorem dX2_rankOf_43 : decode cX2_rankOf 43 = .ok (.getfield 14, 3) := dk_180 0 14 (dk_at dksX2_rankOf_2 0 rfl rfl)
theorem dX2_rankOf_46 : decode cX2_rankOf 46 = .ok (.invokeinterface 129 1, 5) := by decide +kernel
theorem dX2_rankOf_51 : decode cX2_rankOf 51 = .ok (.if_icmp .ge 7, 3) := dk_162 0 7 (dk_at dksX2_rankOf_2 8 rfl rfl)
theorem dX2_rankOf_54 : decode cX2_rankOf 54 = .ok (.iload_n 2, 1) := dk_28 (dk_at dksX2_rankOf_2 11 rfl rfl)
theorem dX2_rankOf_55 : decode cX2_rankOf 55 = .ok (.goto 4, 3) := dk_167 0 4 (dk_at dksX2_rankOf_2 12 rfl rfl)
theorem dX2_rankOf_58 : decode cX2_rankOf 58 = .ok (.iconst (-1), 1) := dk_2 (dk_at dksX2_rankOf_2 15 rfl rfl)
theorem dX2_rankOf_59 : decode cX2_rankOf 59 = .ok (.ireturn, 1) := dk_172 (dk_at dksX2_rankOf_2 16 rfl rfl)
abbrev cX2_ruleFor : ByteArray := prog_5_method_17_code
def yX2_ruleFor : MethodName := ⟨RX2, "ruleFor", "(Ljava/lang/String;)I"⟩
def dkwX2_ruleFor_2 : List UInt8 := [167, 255, 215, 2, 172]
abbrev dktX2_ruleFor_2 : List UInt8 := dkwX2_ruleFor_2 ++ []
def dkwX2_ruleFor_1 : List UInt8 := [185, 0, 133, 2, 0, 192, 0, 83, 180, 0, 85, 43, 182, 0, 196, 153, 0, 5, 28, 172, 132, 2, 1]
abbrev dktX2_ruleFor_1 : List UInt8 := dkwX2_ruleFor_1 ++ dktX2_ruleFor_2
def dkwX2_ruleFor_0 : List UInt8 := [3, 61, 28, 42, 180, 0, 20, 185, 0, 129, 1, 0, 162, 0, 34, 42, 180, 0, 20, 28]
abbrev dktX2_ruleFor_0 : List UInt8 := dkwX2_ruleFor_0 ++ dktX2_ruleFor_1
theorem dksX2_ruleFor_0 : cX2_ruleFor.data.toList.drop 0 = dktX2_ruleFor_0 := by decide +kernel
theorem dksX2_ruleFor_1 : cX2_ruleFor.data.toList.drop 20 = dktX2_ruleFor_1 := dk_seg dksX2_ruleFor_0 20 rfl rfl
theorem dksX2_ruleFor_2 : cX2_ruleFor.data.toList.drop 43 = dktX2_ruleFor_2 := dk_seg dksX2_ruleFor_1 23 rfl rfl
theorem dX2_ruleFor_0 : decode cX2_ruleFor 0 = .ok (.iconst 0, 1) := dk_3 (dk_at dksX2_ruleFor_0 0 rfl rfl)
theorem dX2_ruleFor_1 : decode cX2_ruleFor 1 = .ok (.istore_n 2, 1) := dk_61 (dk_at dksX2_ruleFor_0 1 rfl rfl)
theorem dX2_ruleFor_2 : decode cX2_ruleFor 2 = .ok (.iload_n 2, 1) := dk_28 (dk_at dksX2_ruleFor_0 2 rfl rfl)
theorem dX2_ruleFor_3 : decode cX2_ruleFor 3 = .ok (.aload_n 0, 1) := dk_42 (dk_at dksX2_ruleFor_0 3 rfl rfl)
theorem dX2_ruleFor_4 : decode cX2_ruleFor 4 = .ok (.getfield 20, 3) := dk_180 0 20 (dk_at dksX2_ruleFor_0 4 rfl rfl)
theorem dX2_ruleFor_7 : decode cX2_ruleFor 7 = .ok (.invokeinterface 129 1, 5) := by decide +kernel
theorem dX2_ruleFor_12 : decode cX2_ruleFor 12 = .ok (.if_icmp .ge 34, 3) := dk_162 0 34 (dk_at dksX2_ruleFor_0 12 rfl rfl)
theorem dX2_ruleFor_15 : decode cX2_ruleFor 15 = .ok (.aload_n 0, 1) := dk_42 (dk_at dksX2_ruleFor_0 15 rfl rfl)
theorem dX2_ruleFor_16 : decode cX2_ruleFor 16 = .ok (.getfield 20, 3) := dk_180 0 20 (dk_at dksX2_ruleFor_0 16 rfl rfl)
theorem dX2_ruleFor_19 : decode cX2_ruleFor 19 = .ok (.iload_n 2, 1) := dk_28 (dk_at dksX2_ruleFor_0 19 rfl rfl)
theorem dX2_ruleFor_20 : decode cX2_ruleFor 20 = .ok (.invokeinterface 133 2, 5) := by decide +kernel
theorem dX2_ruleFor_25 : decode cX2_ruleFor 25 = .ok (.checkcast 83, 3) := dk_192 0 83 (dk_at dksX2_ruleFor_1 5 rfl rfl)
theorem dX2_ruleFor_28 : decode cX2_ruleFor 28 = .ok (.getfield 85, 3) := dk_180 0 85 (dk_at dksX2_ruleFor_1 8 rfl rfl)
theorem dX2_ruleFor_31 : decode cX2_ruleFor 31 = .ok (.aload_n 1, 1) := dk_43 (dk_at dksX2_ruleFor_1 11 rfl rfl)
theorem dX2_ruleFor_32 : decode cX2_ruleFor 32 = .ok (.invokevirtual 196, 3) := dk_182 0 196 (dk_at dksX2_ruleFor_1 12 rfl rfl)
theorem dX2_ruleFor_35 : decode cX2_ruleFor 35 = .ok (.ifCond .eq 5, 3) := dk_153 0 5 (dk_at dksX2_ruleFor_1 15 rfl rfl)
theorem dX2_ruleFor_38 : decode cX2_ruleFor 38 = .ok (.iload_n 2, 1) := dk_28 (dk_at dksX2_ruleFor_1 18 rfl rfl)
theorem dX2_ruleFor_39 : decode cX2_ruleFor 39 = .ok (.ireturn, 1) := dk_172 (dk_at dksX2_ruleFor_1 19 rfl rfl)
theorem dX2_ruleFor_40 : decode cX2_ruleFor 40 = .ok (.iinc 2 1, 3) := dk_132 2 1 (dk_at dksX2_ruleFor_1 20 rfl rfl)
theorem dX2_ruleFor_43 : decode cX2_ruleFor 43 = .ok (.goto (-41), 3) := dk_167 255 215 (dk_at dksX2_ruleFor_2 0 rfl rfl)
theorem dX2_ruleFor_46 : decode cX2_ruleFor 46 = .ok (.iconst (-1), 1) := dk_2 (dk_at dksX2_ruleFor_2 3 rfl rfl)
theorem dX2_ruleFor_47 : decode cX2_ruleFor 47 = .ok (.ireturn, 1) := dk_172 (dk_at dksX2_ruleFor_2 4 rfl rfl)
abbrev cX2_unsay : ByteArray := prog_5_method_19_code
def yX2_unsay : MethodName := ⟨RX2, "unsay", "(I)I"⟩
def dkwX2_unsay_1 : List UInt8 := [185, 0, 205, 2, 0, 192, 0, 106, 78, 42, 182, 0, 199, 172]
abbrev dktX2_unsay_1 : List UInt8 := dkwX2_unsay_1 ++ []
def dkwX2_unsay_0 : List UInt8 := [42, 180, 0, 20, 27, 185, 0, 202, 2, 0, 192, 0, 83, 77, 42, 180, 0, 26, 44, 180, 0, 85]
abbrev dktX2_unsay_0 : List UInt8 := dkwX2_unsay_0 ++ dktX2_unsay_1
theorem dksX2_unsay_0 : cX2_unsay.data.toList.drop 0 = dktX2_unsay_0 := by decide +kernel
theorem dksX2_unsay_1 : cX2_unsay.data.toList.drop 22 = dktX2_unsay_1 := dk_seg dksX2_unsay_0 22 rfl rfl
theorem dX2_unsay_0 : decode cX2_unsay 0 = .ok (.aload_n 0, 1) := dk_42 (dk_at dksX2_unsay_0 0 rfl rfl)
theorem dX2_unsay_1 : decode cX2_unsay 1 = .ok (.getfield 20, 3) := dk_180 0 20 (dk_at dksX2_unsay_0 1 rfl rfl)
theorem dX2_unsay_4 : decode cX2_unsay 4 = .ok (.iload_n 1, 1) := dk_27 (dk_at dksX2_unsay_0 4 rfl rfl)
theorem dX2_unsay_5 : decode cX2_unsay 5 = .ok (.invokeinterface 202 2, 5) := by decide +kernel
theorem dX2_unsay_10 : decode cX2_unsay 10 = .ok (.checkcast 83, 3) := dk_192 0 83 (dk_at dksX2_unsay_0 10 rfl rfl)
theorem dX2_unsay_13 : decode cX2_unsay 13 = .ok (.astore_n 2, 1) := dk_77 (dk_at dksX2_unsay_0 13 rfl rfl)
theorem dX2_unsay_14 : decode cX2_unsay 14 = .ok (.aload_n 0, 1) := dk_42 (dk_at dksX2_unsay_0 14 rfl rfl)
theorem dX2_unsay_15 : decode cX2_unsay 15 = .ok (.getfield 26, 3) := dk_180 0 26 (dk_at dksX2_unsay_0 15 rfl rfl)
theorem dX2_unsay_18 : decode cX2_unsay 18 = .ok (.aload_n 2, 1) := dk_44 (dk_at dksX2_unsay_0 18 rfl rfl)
theorem dX2_unsay_19 : decode cX2_unsay 19 = .ok (.getfield 85, 3) := dk_180 0 85 (dk_at dksX2_unsay_0 19 rfl rfl)
theorem dX2_unsay_22 : decode cX2_unsay 22 = .ok (.invokeinterface 205 2, 5) := by decide +kernel
theorem dX2_unsay_27 : decode cX2_unsay 27 = .ok (.checkcast 106, 3) := dk_192 0 106 (dk_at dksX2_unsay_1 5 rfl rfl)
theorem dX2_unsay_30 : decode cX2_unsay 30 = .ok (.astore_n 3, 1) := dk_78 (dk_at dksX2_unsay_1 8 rfl rfl)
theorem dX2_unsay_31 : decode cX2_unsay 31 = .ok (.aload_n 0, 1) := dk_42 (dk_at dksX2_unsay_1 9 rfl rfl)
theorem dX2_unsay_32 : decode cX2_unsay 32 = .ok (.invokevirtual 199, 3) := dk_182 0 199 (dk_at dksX2_unsay_1 10 rfl rfl)
theorem dX2_unsay_35 : decode cX2_unsay 35 = .ok (.ireturn, 1) := dk_172 (dk_at dksX2_unsay_1 13 rfl rfl)
abbrev cX2_widths : ByteArray := prog_5_method_28_code
def yX2_widths : MethodName := ⟨RX2, "widths", "()I"⟩
def dkwX2_widths_1 : List UInt8 := [185, 0, 69, 1, 0, 192, 0, 73, 78, 27, 45, 180, 0, 193, 96, 60, 167, 255, 230, 27, 172]
abbrev dktX2_widths_1 : List UInt8 := dkwX2_widths_1 ++ []
def dkwX2_widths_0 : List UInt8 := [3, 60, 42, 180, 0, 14, 185, 0, 57, 1, 0, 77, 44, 185, 0, 63, 1, 0, 153, 0, 23, 44]
abbrev dktX2_widths_0 : List UInt8 := dkwX2_widths_0 ++ dktX2_widths_1
theorem dksX2_widths_0 : cX2_widths.data.toList.drop 0 = dktX2_widths_0 := by decide +kernel
theorem dksX2_widths_1 : cX2_widths.data.toList.drop 22 = dktX2_widths_1 := dk_seg dksX2_widths_0 22 rfl rfl
theorem dX2_widths_0 : decode cX2_widths 0 = .ok (.iconst 0, 1) := dk_3 (dk_at dksX2_widths_0 0 rfl rfl)
theorem dX2_widths_1 : decode cX2_widths 1 = .ok (.istore_n 1, 1) := dk_60 (dk_at dksX2_widths_0 1 rfl rfl)
theorem dX2_widths_2 : decode cX2_widths 2 = .ok (.aload_n 0, 1) := dk_42 (dk_at dksX2_widths_0 2 rfl rfl)
theorem dX2_widths_3 : decode cX2_widths 3 = .ok (.getfield 14, 3) := dk_180 0 14 (dk_at dksX2_widths_0 3 rfl rfl)
theorem dX2_widths_6 : decode cX2_widths 6 = .ok (.invokeinterface 57 1, 5) := by decide +kernel
theorem dX2_widths_11 : decode cX2_widths 11 = .ok (.astore_n 2, 1) := dk_77 (dk_at dksX2_widths_0 11 rfl rfl)
theorem dX2_widths_12 : decode cX2_widths 12 = .ok (.aload_n 2, 1) := dk_44 (dk_at dksX2_widths_0 12 rfl rfl)
theorem dX2_widths_13 : decode cX2_widths 13 = .ok (.invokeinterface 63 1, 5) := by decide +kernel
theorem dX2_widths_18 : decode cX2_widths 18 = .ok (.ifCond .eq 23, 3) := dk_153 0 23 (dk_at dksX2_widths_0 18 rfl rfl)
theorem dX2_widths_21 : decode cX2_widths 21 = .ok (.aload_n 2, 1) := dk_44 (dk_at dksX2_widths_0 21 rfl rfl)
theorem dX2_widths_22 : decode cX2_widths 22 = .ok (.invokeinterface 69 1, 5) := by decide +kernel
theorem dX2_widths_27 : decode cX2_widths 27 = .ok (.checkcast 73, 3) := dk_192 0 73 (dk_at dksX2_widths_1 5 rfl rfl)
theorem dX2_widths_30 : decode cX2_widths 30 = .ok (.astore_n 3, 1) := dk_78 (dk_at dksX2_widths_1 8 rfl rfl)
theorem dX2_widths_31 : decode cX2_widths 31 = .ok (.iload_n 1, 1) := dk_27 (dk_at dksX2_widths_1 9 rfl rfl)
theorem dX2_widths_32 : decode cX2_widths 32 = .ok (.aload_n 3, 1) := dk_45 (dk_at dksX2_widths_1 10 rfl rfl)
theorem dX2_widths_33 : decode cX2_widths 33 = .ok (.getfield 193, 3) := dk_180 0 193 (dk_at dksX2_widths_1 11 rfl rfl)
theorem dX2_widths_36 : decode cX2_widths 36 = .ok (.iadd, 1) := dk_96 (dk_at dksX2_widths_1 14 rfl rfl)
theorem dX2_widths_37 : decode cX2_widths 37 = .ok (.istore_n 1, 1) := dk_60 (dk_at dksX2_widths_1 15 rfl rfl)
theorem dX2_widths_38 : decode cX2_widths 38 = .ok (.goto (-26), 3) := dk_167 255 230 (dk_at dksX2_widths_1 16 rfl rfl)
theorem dX2_widths_41 : decode cX2_widths 41 = .ok (.iload_n 1, 1) := dk_27 (dk_at dksX2_widths_1 19 rfl rfl)
theorem dX2_widths_42 : decode cX2_widths 42 = .ok (.ireturn, 1) := dk_172 (dk_at dksX2_widths_1 20 rfl rfl)
abbrev cX2_leastStep : ByteArray := prog_5_method_29_code
def yX2_leastStep : MethodName := ⟨RX2, "leastStep", "()I"⟩
def dkwX2_leastStep_3 : List UInt8 := [100, 184, 0, 221, 60, 132, 2, 1, 167, 255, 200, 27, 172]
abbrev dktX2_leastStep_3 : List UInt8 := dkwX2_leastStep_3 ++ []
def dkwX2_leastStep_2 : List UInt8 := [192, 0, 73, 180, 0, 149, 42, 180, 0, 14, 28, 4, 100, 185, 0, 133, 2, 0, 192, 0, 73, 180, 0, 149]
abbrev dktX2_leastStep_2 : List UInt8 := dkwX2_leastStep_2 ++ dktX2_leastStep_3
def dkwX2_leastStep_1 : List UInt8 := [42, 180, 0, 14, 185, 0, 129, 1, 0, 162, 0, 49, 27, 42, 180, 0, 14, 28, 185, 0, 133, 2, 0]
abbrev dktX2_leastStep_1 : List UInt8 := dkwX2_leastStep_1 ++ dktX2_leastStep_2
def dkwX2_leastStep_0 : List UInt8 := [42, 180, 0, 14, 185, 0, 129, 1, 0, 5, 162, 0, 7, 3, 167, 0, 6, 17, 39, 16, 60, 4, 61, 28]
abbrev dktX2_leastStep_0 : List UInt8 := dkwX2_leastStep_0 ++ dktX2_leastStep_1
theorem dksX2_leastStep_0 : cX2_leastStep.data.toList.drop 0 = dktX2_leastStep_0 := by decide +kernel
theorem dksX2_leastStep_1 : cX2_leastStep.data.toList.drop 24 = dktX2_leastStep_1 := dk_seg dksX2_leastStep_0 24 rfl rfl
theorem dksX2_leastStep_2 : cX2_leastStep.data.toList.drop 47 = dktX2_leastStep_2 := dk_seg dksX2_leastStep_1 23 rfl rfl
theorem dksX2_leastStep_3 : cX2_leastStep.data.toList.drop 71 = dktX2_leastStep_3 := dk_seg dksX2_leastStep_2 24 rfl rfl
theorem dX2_leastStep_0 : decode cX2_leastStep 0 = .ok (.aload_n 0, 1) := dk_42 (dk_at dksX2_leastStep_0 0 rfl rfl)
theorem dX2_leastStep_1 : decode cX2_leastStep 1 = .ok (.getfield 14, 3) := dk_180 0 14 (dk_at dksX2_leastStep_0 1 rfl rfl)
theorem dX2_leastStep_4 : decode cX2_leastStep 4 = .ok (.invokeinterface 129 1, 5) := by decide +kernel
theorem dX2_leastStep_9 : decode cX2_leastStep 9 = .ok (.iconst 2, 1) := dk_5 (dk_at dksX2_leastStep_0 9 rfl rfl)
theorem dX2_leastStep_10 : decode cX2_leastStep 10 = .ok (.if_icmp .ge 7, 3) := dk_162 0 7 (dk_at dksX2_leastStep_0 10 rfl rfl)
theorem dX2_leastStep_13 : decode cX2_leastStep 13 = .ok (.iconst 0, 1) := dk_3 (dk_at dksX2_leastStep_0 13 rfl rfl)
theorem dX2_leastStep_14 : decode cX2_leastStep 14 = .ok (.goto 6, 3) := dk_167 0 6 (dk_at dksX2_leastStep_0 14 rfl rfl)
theorem dX2_leastStep_17 : decode cX2_leastStep 17 = .ok (.sipush 10000, 3) := dk_17 39 16 (dk_at dksX2_leastStep_0 17 rfl rfl)
theorem dX2_leastStep_20 : decode cX2_leastStep 20 = .ok (.istore_n 1, 1) := dk_60 (dk_at dksX2_leastStep_0 20 rfl rfl)
theorem dX2_leastStep_21 : decode cX2_leastStep 21 = .ok (.iconst 1, 1) := dk_4 (dk_at dksX2_leastStep_0 21 rfl rfl)
theorem dX2_leastStep_22 : decode cX2_leastStep 22 = .ok (.istore_n 2, 1) := dk_61 (dk_at dksX2_leastStep_0 22 rfl rfl)
theorem dX2_leastStep_23 : decode cX2_leastStep 23 = .ok (.iload_n 2, 1) := dk_28 (dk_at dksX2_leastStep_0 23 rfl rfl)
theorem dX2_leastStep_24 : decode cX2_leastStep 24 = .ok (.aload_n 0, 1) := dk_42 (dk_at dksX2_leastStep_1 0 rfl rfl)
theorem dX2_leastStep_25 : decode cX2_leastStep 25 = .ok (.getfield 14, 3) := dk_180 0 14 (dk_at dksX2_leastStep_1 1 rfl rfl)
theorem dX2_leastStep_28 : decode cX2_leastStep 28 = .ok (.invokeinterface 129 1, 5) := by decide +kernel
theorem dX2_leastStep_33 : decode cX2_leastStep 33 = .ok (.if_icmp .ge 49, 3) := dk_162 0 49 (dk_at dksX2_leastStep_1 9 rfl rfl)
theorem dX2_leastStep_36 : decode cX2_leastStep 36 = .ok (.iload_n 1, 1) := dk_27 (dk_at dksX2_leastStep_1 12 rfl rfl)
theorem dX2_leastStep_37 : decode cX2_leastStep 37 = .ok (.aload_n 0, 1) := dk_42 (dk_at dksX2_leastStep_1 13 rfl rfl)
theorem dX2_leastStep_38 : decode cX2_leastStep 38 = .ok (.getfield 14, 3) := dk_180 0 14 (dk_at dksX2_leastStep_1 14 rfl rfl)
theorem dX2_leastStep_41 : decode cX2_leastStep 41 = .ok (.iload_n 2, 1) := dk_28 (dk_at dksX2_leastStep_1 17 rfl rfl)
theorem dX2_leastStep_42 : decode cX2_leastStep 42 = .ok (.invokeinterface 133 2, 5) := by decide +kernel
theorem dX2_leastStep_47 : decode cX2_leastStep 47 = .ok (.checkcast 73, 3) := dk_192 0 73 (dk_at dksX2_leastStep_2 0 rfl rfl)
theorem dX2_leastStep_50 : decode cX2_leastStep 50 = .ok (.getfield 149, 3) := dk_180 0 149 (dk_at dksX2_leastStep_2 3 rfl rfl)
theorem dX2_leastStep_53 : decode cX2_leastStep 53 = .ok (.aload_n 0, 1) := dk_42 (dk_at dksX2_leastStep_2 6 rfl rfl)
theorem dX2_leastStep_54 : decode cX2_leastStep 54 = .ok (.getfield 14, 3) := dk_180 0 14 (dk_at dksX2_leastStep_2 7 rfl rfl)
theorem dX2_leastStep_57 : decode cX2_leastStep 57 = .ok (.iload_n 2, 1) := dk_28 (dk_at dksX2_leastStep_2 10 rfl rfl)
theorem dX2_leastStep_58 : decode cX2_leastStep 58 = .ok (.iconst 1, 1) := dk_4 (dk_at dksX2_leastStep_2 11 rfl rfl)
theorem dX2_leastStep_59 : decode cX2_leastStep 59 = .ok (.isub, 1) := dk_100 (dk_at dksX2_leastStep_2 12 rfl rfl)
theorem dX2_leastStep_60 : decode cX2_leastStep 60 = .ok (.invokeinterface 133 2, 5) := by decide +kernel
theorem dX2_leastStep_65 : decode cX2_leastStep 65 = .ok (.checkcast 73, 3) := dk_192 0 73 (dk_at dksX2_leastStep_2 18 rfl rfl)
theorem dX2_leastStep_68 : decode cX2_leastStep 68 = .ok (.getfield 149, 3) := dk_180 0 149 (dk_at dksX2_leastStep_2 21 rfl rfl)
theorem dX2_leastStep_71 : decode cX2_leastStep 71 = .ok (.isub, 1) := dk_100 (dk_at dksX2_leastStep_3 0 rfl rfl)
theorem dX2_leastStep_72 : decode cX2_leastStep 72 = .ok (.invokestatic 221, 3) := dk_184 0 221 (dk_at dksX2_leastStep_3 1 rfl rfl)
theorem dX2_leastStep_75 : decode cX2_leastStep 75 = .ok (.istore_n 1, 1) := dk_60 (dk_at dksX2_leastStep_3 4 rfl rfl)
theorem dX2_leastStep_76 : decode cX2_leastStep 76 = .ok (.iinc 2 1, 3) := dk_132 2 1 (dk_at dksX2_leastStep_3 5 rfl rfl)
theorem dX2_leastStep_79 : decode cX2_leastStep 79 = .ok (.goto (-56), 3) := dk_167 255 200 (dk_at dksX2_leastStep_3 8 rfl rfl)
theorem dX2_leastStep_82 : decode cX2_leastStep 82 = .ok (.iload_n 1, 1) := dk_27 (dk_at dksX2_leastStep_3 11 rfl rfl)
theorem dX2_leastStep_83 : decode cX2_leastStep 83 = .ok (.ireturn, 1) := dk_172 (dk_at dksX2_leastStep_3 12 rfl rfl)
abbrev cX2_marksOn : ByteArray := prog_5_method_21_code
def yX2_marksOn : MethodName := ⟨RX2, "marksOn", "(I)I"⟩
def dkwX2_marksOn_2 : List UInt8 := [184, 0, 164, 96, 61, 132, 3, 1, 167, 255, 205, 28, 172]
abbrev dktX2_marksOn_2 : List UInt8 := dkwX2_marksOn_2 ++ []
def dkwX2_marksOn_1 : List UInt8 := [185, 0, 133, 2, 0, 192, 0, 73, 180, 0, 149, 182, 0, 207, 27, 160, 0, 7, 4, 167, 0, 4, 3]
abbrev dktX2_marksOn_1 : List UInt8 := dkwX2_marksOn_1 ++ dktX2_marksOn_2
def dkwX2_marksOn_0 : List UInt8 := [3, 61, 3, 62, 29, 42, 180, 0, 14, 185, 0, 129, 1, 0, 162, 0, 44, 28, 42, 42, 180, 0, 14, 29]
abbrev dktX2_marksOn_0 : List UInt8 := dkwX2_marksOn_0 ++ dktX2_marksOn_1
theorem dksX2_marksOn_0 : cX2_marksOn.data.toList.drop 0 = dktX2_marksOn_0 := by decide +kernel
theorem dksX2_marksOn_1 : cX2_marksOn.data.toList.drop 24 = dktX2_marksOn_1 := dk_seg dksX2_marksOn_0 24 rfl rfl
theorem dksX2_marksOn_2 : cX2_marksOn.data.toList.drop 47 = dktX2_marksOn_2 := dk_seg dksX2_marksOn_1 23 rfl rfl
theorem dX2_marksOn_0 : decode cX2_marksOn 0 = .ok (.iconst 0, 1) := dk_3 (dk_at dksX2_marksOn_0 0 rfl rfl)
theorem dX2_marksOn_1 : decode cX2_marksOn 1 = .ok (.istore_n 2, 1) := dk_61 (dk_at dksX2_marksOn_0 1 rfl rfl)
theorem dX2_marksOn_2 : decode cX2_marksOn 2 = .ok (.iconst 0, 1) := dk_3 (dk_at dksX2_marksOn_0 2 rfl rfl)
theorem dX2_marksOn_3 : decode cX2_marksOn 3 = .ok (.istore_n 3, 1) := dk_62 (dk_at dksX2_marksOn_0 3 rfl rfl)
theorem dX2_marksOn_4 : decode cX2_marksOn 4 = .ok (.iload_n 3, 1) := dk_29 (dk_at dksX2_marksOn_0 4 rfl rfl)
theorem dX2_marksOn_5 : decode cX2_marksOn 5 = .ok (.aload_n 0, 1) := dk_42 (dk_at dksX2_marksOn_0 5 rfl rfl)
theorem dX2_marksOn_6 : decode cX2_marksOn 6 = .ok (.getfield 14, 3) := dk_180 0 14 (dk_at dksX2_marksOn_0 6 rfl rfl)
theorem dX2_marksOn_9 : decode cX2_marksOn 9 = .ok (.invokeinterface 129 1, 5) := by decide +kernel
theorem dX2_marksOn_14 : decode cX2_marksOn 14 = .ok (.if_icmp .ge 44, 3) := dk_162 0 44 (dk_at dksX2_marksOn_0 14 rfl rfl)
theorem dX2_marksOn_17 : decode cX2_marksOn 17 = .ok (.iload_n 2, 1) := dk_28 (dk_at dksX2_marksOn_0 17 rfl rfl)
theorem dX2_marksOn_18 : decode cX2_marksOn 18 = .ok (.aload_n 0, 1) := dk_42 (dk_at dksX2_marksOn_0 18 rfl rfl)
theorem dX2_marksOn_19 : decode cX2_marksOn 19 = .ok (.aload_n 0, 1) := dk_42 (dk_at dksX2_marksOn_0 19 rfl rfl)
theorem dX2_marksOn_20 : decode cX2_marksOn 20 = .ok (.getfield 14, 3) := dk_180 0 14 (dk_at dksX2_marksOn_0 20 rfl rfl)
theorem dX2_marksOn_23 : decode cX2_marksOn 23 = .ok (.iload_n 3, 1) := dk_29 (dk_at dksX2_marksOn_0 23 rfl rfl)
theorem dX2_marksOn_24 : decode cX2_marksOn 24 = .ok (.invokeinterface 133 2, 5) := by decide +kernel
theorem dX2_marksOn_29 : decode cX2_marksOn 29 = .ok (.checkcast 73, 3) := dk_192 0 73 (dk_at dksX2_marksOn_1 5 rfl rfl)
theorem dX2_marksOn_32 : decode cX2_marksOn 32 = .ok (.getfield 149, 3) := dk_180 0 149 (dk_at dksX2_marksOn_1 8 rfl rfl)
theorem dX2_marksOn_35 : decode cX2_marksOn 35 = .ok (.invokevirtual 207, 3) := dk_182 0 207 (dk_at dksX2_marksOn_1 11 rfl rfl)
theorem dX2_marksOn_38 : decode cX2_marksOn 38 = .ok (.iload_n 1, 1) := dk_27 (dk_at dksX2_marksOn_1 14 rfl rfl)
theorem dX2_marksOn_39 : decode cX2_marksOn 39 = .ok (.if_icmp .ne 7, 3) := dk_160 0 7 (dk_at dksX2_marksOn_1 15 rfl rfl)
theorem dX2_marksOn_42 : decode cX2_marksOn 42 = .ok (.iconst 1, 1) := dk_4 (dk_at dksX2_marksOn_1 18 rfl rfl)
theorem dX2_marksOn_43 : decode cX2_marksOn 43 = .ok (.goto 4, 3) := dk_167 0 4 (dk_at dksX2_marksOn_1 19 rfl rfl)
theorem dX2_marksOn_46 : decode cX2_marksOn 46 = .ok (.iconst 0, 1) := dk_3 (dk_at dksX2_marksOn_1 22 rfl rfl)
theorem dX2_marksOn_47 : decode cX2_marksOn 47 = .ok (.invokestatic 164, 3) := dk_184 0 164 (dk_at dksX2_marksOn_2 0 rfl rfl)
theorem dX2_marksOn_50 : decode cX2_marksOn 50 = .ok (.iadd, 1) := dk_96 (dk_at dksX2_marksOn_2 3 rfl rfl)
theorem dX2_marksOn_51 : decode cX2_marksOn 51 = .ok (.istore_n 2, 1) := dk_61 (dk_at dksX2_marksOn_2 4 rfl rfl)
theorem dX2_marksOn_52 : decode cX2_marksOn 52 = .ok (.iinc 3 1, 3) := dk_132 3 1 (dk_at dksX2_marksOn_2 5 rfl rfl)
theorem dX2_marksOn_55 : decode cX2_marksOn 55 = .ok (.goto (-51), 3) := dk_167 255 205 (dk_at dksX2_marksOn_2 8 rfl rfl)
theorem dX2_marksOn_58 : decode cX2_marksOn 58 = .ok (.iload_n 2, 1) := dk_28 (dk_at dksX2_marksOn_2 11 rfl rfl)
theorem dX2_marksOn_59 : decode cX2_marksOn 59 = .ok (.ireturn, 1) := dk_172 (dk_at dksX2_marksOn_2 12 rfl rfl)
abbrev cX2_endOn : ByteArray := prog_5_method_25_code
def yX2_endOn : MethodName := ⟨RX2, "endOn", "(IZ)I"⟩
def dkwX2_endOn_3 : List UInt8 := [185, 0, 133, 2, 0, 192, 0, 73, 180, 0, 136, 167, 0, 4, 29, 62, 132, 4, 1, 167, 255, 171, 29, 172]
abbrev dktX2_endOn_3 : List UInt8 := dkwX2_endOn_3 ++ []
def dkwX2_endOn_2 : List UInt8 := [29, 2, 160, 0, 7, 4, 167, 0, 4, 3, 54, 5, 21, 5, 153, 0, 23, 42, 180, 0, 14, 21, 4]
abbrev dktX2_endOn_2 : List UInt8 := dkwX2_endOn_2 ++ dktX2_endOn_3
def dkwX2_endOn_1 : List UInt8 := [21, 4, 185, 0, 133, 2, 0, 192, 0, 73, 180, 0, 149, 182, 0, 207, 27, 160, 0, 16, 28, 154, 0, 8]
abbrev dktX2_endOn_1 : List UInt8 := dkwX2_endOn_1 ++ dktX2_endOn_2
def dkwX2_endOn_0 : List UInt8 := [2, 62, 3, 54, 4, 21, 4, 42, 180, 0, 14, 185, 0, 129, 1, 0, 162, 0, 77, 42, 42, 180, 0, 14]
abbrev dktX2_endOn_0 : List UInt8 := dkwX2_endOn_0 ++ dktX2_endOn_1
theorem dksX2_endOn_0 : cX2_endOn.data.toList.drop 0 = dktX2_endOn_0 := by decide +kernel
theorem dksX2_endOn_1 : cX2_endOn.data.toList.drop 24 = dktX2_endOn_1 := dk_seg dksX2_endOn_0 24 rfl rfl
theorem dksX2_endOn_2 : cX2_endOn.data.toList.drop 48 = dktX2_endOn_2 := dk_seg dksX2_endOn_1 24 rfl rfl
theorem dksX2_endOn_3 : cX2_endOn.data.toList.drop 71 = dktX2_endOn_3 := dk_seg dksX2_endOn_2 23 rfl rfl
theorem dX2_endOn_0 : decode cX2_endOn 0 = .ok (.iconst (-1), 1) := dk_2 (dk_at dksX2_endOn_0 0 rfl rfl)
theorem dX2_endOn_1 : decode cX2_endOn 1 = .ok (.istore_n 3, 1) := dk_62 (dk_at dksX2_endOn_0 1 rfl rfl)
theorem dX2_endOn_2 : decode cX2_endOn 2 = .ok (.iconst 0, 1) := dk_3 (dk_at dksX2_endOn_0 2 rfl rfl)
theorem dX2_endOn_3 : decode cX2_endOn 3 = .ok (.istore 4, 2) := dk_54 4 (dk_at dksX2_endOn_0 3 rfl rfl)
theorem dX2_endOn_5 : decode cX2_endOn 5 = .ok (.iload 4, 2) := dk_21 4 (dk_at dksX2_endOn_0 5 rfl rfl)
theorem dX2_endOn_7 : decode cX2_endOn 7 = .ok (.aload_n 0, 1) := dk_42 (dk_at dksX2_endOn_0 7 rfl rfl)
theorem dX2_endOn_8 : decode cX2_endOn 8 = .ok (.getfield 14, 3) := dk_180 0 14 (dk_at dksX2_endOn_0 8 rfl rfl)
theorem dX2_endOn_11 : decode cX2_endOn 11 = .ok (.invokeinterface 129 1, 5) := by decide +kernel
theorem dX2_endOn_16 : decode cX2_endOn 16 = .ok (.if_icmp .ge 77, 3) := dk_162 0 77 (dk_at dksX2_endOn_0 16 rfl rfl)
theorem dX2_endOn_19 : decode cX2_endOn 19 = .ok (.aload_n 0, 1) := dk_42 (dk_at dksX2_endOn_0 19 rfl rfl)
theorem dX2_endOn_20 : decode cX2_endOn 20 = .ok (.aload_n 0, 1) := dk_42 (dk_at dksX2_endOn_0 20 rfl rfl)
theorem dX2_endOn_21 : decode cX2_endOn 21 = .ok (.getfield 14, 3) := dk_180 0 14 (dk_at dksX2_endOn_0 21 rfl rfl)
theorem dX2_endOn_24 : decode cX2_endOn 24 = .ok (.iload 4, 2) := dk_21 4 (dk_at dksX2_endOn_1 0 rfl rfl)
theorem dX2_endOn_26 : decode cX2_endOn 26 = .ok (.invokeinterface 133 2, 5) := by decide +kernel
theorem dX2_endOn_31 : decode cX2_endOn 31 = .ok (.checkcast 73, 3) := dk_192 0 73 (dk_at dksX2_endOn_1 7 rfl rfl)
theorem dX2_endOn_34 : decode cX2_endOn 34 = .ok (.getfield 149, 3) := dk_180 0 149 (dk_at dksX2_endOn_1 10 rfl rfl)
theorem dX2_endOn_37 : decode cX2_endOn 37 = .ok (.invokevirtual 207, 3) := dk_182 0 207 (dk_at dksX2_endOn_1 13 rfl rfl)
theorem dX2_endOn_40 : decode cX2_endOn 40 = .ok (.iload_n 1, 1) := dk_27 (dk_at dksX2_endOn_1 16 rfl rfl)
theorem dX2_endOn_41 : decode cX2_endOn 41 = .ok (.if_icmp .ne 16, 3) := dk_160 0 16 (dk_at dksX2_endOn_1 17 rfl rfl)
theorem dX2_endOn_44 : decode cX2_endOn 44 = .ok (.iload_n 2, 1) := dk_28 (dk_at dksX2_endOn_1 20 rfl rfl)
theorem dX2_endOn_45 : decode cX2_endOn 45 = .ok (.ifCond .ne 8, 3) := dk_154 0 8 (dk_at dksX2_endOn_1 21 rfl rfl)
theorem dX2_endOn_48 : decode cX2_endOn 48 = .ok (.iload_n 3, 1) := dk_29 (dk_at dksX2_endOn_2 0 rfl rfl)
theorem dX2_endOn_49 : decode cX2_endOn 49 = .ok (.iconst (-1), 1) := dk_2 (dk_at dksX2_endOn_2 1 rfl rfl)
theorem dX2_endOn_50 : decode cX2_endOn 50 = .ok (.if_icmp .ne 7, 3) := dk_160 0 7 (dk_at dksX2_endOn_2 2 rfl rfl)
theorem dX2_endOn_53 : decode cX2_endOn 53 = .ok (.iconst 1, 1) := dk_4 (dk_at dksX2_endOn_2 5 rfl rfl)
theorem dX2_endOn_54 : decode cX2_endOn 54 = .ok (.goto 4, 3) := dk_167 0 4 (dk_at dksX2_endOn_2 6 rfl rfl)
theorem dX2_endOn_57 : decode cX2_endOn 57 = .ok (.iconst 0, 1) := dk_3 (dk_at dksX2_endOn_2 9 rfl rfl)
theorem dX2_endOn_58 : decode cX2_endOn 58 = .ok (.istore 5, 2) := dk_54 5 (dk_at dksX2_endOn_2 10 rfl rfl)
theorem dX2_endOn_60 : decode cX2_endOn 60 = .ok (.iload 5, 2) := dk_21 5 (dk_at dksX2_endOn_2 12 rfl rfl)
theorem dX2_endOn_62 : decode cX2_endOn 62 = .ok (.ifCond .eq 23, 3) := dk_153 0 23 (dk_at dksX2_endOn_2 14 rfl rfl)
theorem dX2_endOn_65 : decode cX2_endOn 65 = .ok (.aload_n 0, 1) := dk_42 (dk_at dksX2_endOn_2 17 rfl rfl)
theorem dX2_endOn_66 : decode cX2_endOn 66 = .ok (.getfield 14, 3) := dk_180 0 14 (dk_at dksX2_endOn_2 18 rfl rfl)
theorem dX2_endOn_69 : decode cX2_endOn 69 = .ok (.iload 4, 2) := dk_21 4 (dk_at dksX2_endOn_2 21 rfl rfl)
theorem dX2_endOn_71 : decode cX2_endOn 71 = .ok (.invokeinterface 133 2, 5) := by decide +kernel
theorem dX2_endOn_76 : decode cX2_endOn 76 = .ok (.checkcast 73, 3) := dk_192 0 73 (dk_at dksX2_endOn_3 5 rfl rfl)
theorem dX2_endOn_79 : decode cX2_endOn 79 = .ok (.getfield 136, 3) := dk_180 0 136 (dk_at dksX2_endOn_3 8 rfl rfl)
theorem dX2_endOn_82 : decode cX2_endOn 82 = .ok (.goto 4, 3) := dk_167 0 4 (dk_at dksX2_endOn_3 11 rfl rfl)
theorem dX2_endOn_85 : decode cX2_endOn 85 = .ok (.iload_n 3, 1) := dk_29 (dk_at dksX2_endOn_3 14 rfl rfl)
theorem dX2_endOn_86 : decode cX2_endOn 86 = .ok (.istore_n 3, 1) := dk_62 (dk_at dksX2_endOn_3 15 rfl rfl)
theorem dX2_endOn_87 : decode cX2_endOn 87 = .ok (.iinc 4 1, 3) := dk_132 4 1 (dk_at dksX2_endOn_3 16 rfl rfl)
theorem dX2_endOn_90 : decode cX2_endOn 90 = .ok (.goto (-85), 3) := dk_167 255 171 (dk_at dksX2_endOn_3 19 rfl rfl)
theorem dX2_endOn_93 : decode cX2_endOn 93 = .ok (.iload_n 3, 1) := dk_29 (dk_at dksX2_endOn_3 22 rfl rfl)
theorem dX2_endOn_94 : decode cX2_endOn 94 = .ok (.ireturn, 1) := dk_172 (dk_at dksX2_endOn_3 23 rfl rfl)
abbrev cX2_family : ByteArray := prog_5_method_31_code
def yX2_family : MethodName := ⟨RX2, "family", "(LSpokenMarks$Mark;)I"⟩
def dkwX2_family_3 : List UInt8 := [96, 61, 132, 3, 1, 167, 255, 184, 28, 172]
abbrev dktX2_family_3 : List UInt8 := dkwX2_family_3 ++ []
def dkwX2_family_2 : List UInt8 := [3, 185, 0, 133, 2, 0, 192, 0, 120, 4, 184, 0, 231, 154, 0, 7, 4, 167, 0, 4, 3, 184, 0, 164]
abbrev dktX2_family_2 : List UInt8 := dkwX2_family_2 ++ dktX2_family_3
def dkwX2_family_1 : List UInt8 := [185, 0, 133, 2, 0, 192, 0, 73, 180, 0, 186, 3, 185, 0, 133, 2, 0, 192, 0, 120, 43, 180, 0, 186]
abbrev dktX2_family_1 : List UInt8 := dkwX2_family_1 ++ dktX2_family_2
def dkwX2_family_0 : List UInt8 := [3, 61, 3, 62, 29, 42, 180, 0, 14, 185, 0, 129, 1, 0, 162, 0, 65, 28, 42, 180, 0, 14, 29]
abbrev dktX2_family_0 : List UInt8 := dkwX2_family_0 ++ dktX2_family_1
theorem dksX2_family_0 : cX2_family.data.toList.drop 0 = dktX2_family_0 := by decide +kernel
theorem dksX2_family_1 : cX2_family.data.toList.drop 23 = dktX2_family_1 := dk_seg dksX2_family_0 23 rfl rfl
theorem dksX2_family_2 : cX2_family.data.toList.drop 47 = dktX2_family_2 := dk_seg dksX2_family_1 24 rfl rfl
theorem dksX2_family_3 : cX2_family.data.toList.drop 71 = dktX2_family_3 := dk_seg dksX2_family_2 24 rfl rfl
theorem dX2_family_0 : decode cX2_family 0 = .ok (.iconst 0, 1) := dk_3 (dk_at dksX2_family_0 0 rfl rfl)
theorem dX2_family_1 : decode cX2_family 1 = .ok (.istore_n 2, 1) := dk_61 (dk_at dksX2_family_0 1 rfl rfl)
theorem dX2_family_2 : decode cX2_family 2 = .ok (.iconst 0, 1) := dk_3 (dk_at dksX2_family_0 2 rfl rfl)
theorem dX2_family_3 : decode cX2_family 3 = .ok (.istore_n 3, 1) := dk_62 (dk_at dksX2_family_0 3 rfl rfl)
theorem dX2_family_4 : decode cX2_family 4 = .ok (.iload_n 3, 1) := dk_29 (dk_at dksX2_family_0 4 rfl rfl)
theorem dX2_family_5 : decode cX2_family 5 = .ok (.aload_n 0, 1) := dk_42 (dk_at dksX2_family_0 5 rfl rfl)
theorem dX2_family_6 : decode cX2_family 6 = .ok (.getfield 14, 3) := dk_180 0 14 (dk_at dksX2_family_0 6 rfl rfl)
theorem dX2_family_9 : decode cX2_family 9 = .ok (.invokeinterface 129 1, 5) := by decide +kernel
theorem dX2_family_14 : decode cX2_family 14 = .ok (.if_icmp .ge 65, 3) := dk_162 0 65 (dk_at dksX2_family_0 14 rfl rfl)
theorem dX2_family_17 : decode cX2_family 17 = .ok (.iload_n 2, 1) := dk_28 (dk_at dksX2_family_0 17 rfl rfl)
theorem dX2_family_18 : decode cX2_family 18 = .ok (.aload_n 0, 1) := dk_42 (dk_at dksX2_family_0 18 rfl rfl)
theorem dX2_family_19 : decode cX2_family 19 = .ok (.getfield 14, 3) := dk_180 0 14 (dk_at dksX2_family_0 19 rfl rfl)
theorem dX2_family_22 : decode cX2_family 22 = .ok (.iload_n 3, 1) := dk_29 (dk_at dksX2_family_0 22 rfl rfl)
theorem dX2_family_23 : decode cX2_family 23 = .ok (.invokeinterface 133 2, 5) := by decide +kernel
theorem dX2_family_28 : decode cX2_family 28 = .ok (.checkcast 73, 3) := dk_192 0 73 (dk_at dksX2_family_1 5 rfl rfl)
theorem dX2_family_31 : decode cX2_family 31 = .ok (.getfield 186, 3) := dk_180 0 186 (dk_at dksX2_family_1 8 rfl rfl)
theorem dX2_family_34 : decode cX2_family 34 = .ok (.iconst 0, 1) := dk_3 (dk_at dksX2_family_1 11 rfl rfl)
theorem dX2_family_35 : decode cX2_family 35 = .ok (.invokeinterface 133 2, 5) := by decide +kernel
theorem dX2_family_40 : decode cX2_family 40 = .ok (.checkcast 120, 3) := dk_192 0 120 (dk_at dksX2_family_1 17 rfl rfl)
theorem dX2_family_43 : decode cX2_family 43 = .ok (.aload_n 1, 1) := dk_43 (dk_at dksX2_family_1 20 rfl rfl)
theorem dX2_family_44 : decode cX2_family 44 = .ok (.getfield 186, 3) := dk_180 0 186 (dk_at dksX2_family_1 21 rfl rfl)
theorem dX2_family_47 : decode cX2_family 47 = .ok (.iconst 0, 1) := dk_3 (dk_at dksX2_family_2 0 rfl rfl)
theorem dX2_family_48 : decode cX2_family 48 = .ok (.invokeinterface 133 2, 5) := by decide +kernel
theorem dX2_family_53 : decode cX2_family 53 = .ok (.checkcast 120, 3) := dk_192 0 120 (dk_at dksX2_family_2 6 rfl rfl)
theorem dX2_family_56 : decode cX2_family 56 = .ok (.iconst 1, 1) := dk_4 (dk_at dksX2_family_2 9 rfl rfl)
theorem dX2_family_57 : decode cX2_family 57 = .ok (.invokestatic 231, 3) := dk_184 0 231 (dk_at dksX2_family_2 10 rfl rfl)
theorem dX2_family_60 : decode cX2_family 60 = .ok (.ifCond .ne 7, 3) := dk_154 0 7 (dk_at dksX2_family_2 13 rfl rfl)
theorem dX2_family_63 : decode cX2_family 63 = .ok (.iconst 1, 1) := dk_4 (dk_at dksX2_family_2 16 rfl rfl)
theorem dX2_family_64 : decode cX2_family 64 = .ok (.goto 4, 3) := dk_167 0 4 (dk_at dksX2_family_2 17 rfl rfl)
theorem dX2_family_67 : decode cX2_family 67 = .ok (.iconst 0, 1) := dk_3 (dk_at dksX2_family_2 20 rfl rfl)
theorem dX2_family_68 : decode cX2_family 68 = .ok (.invokestatic 164, 3) := dk_184 0 164 (dk_at dksX2_family_2 21 rfl rfl)
theorem dX2_family_71 : decode cX2_family 71 = .ok (.iadd, 1) := dk_96 (dk_at dksX2_family_3 0 rfl rfl)
theorem dX2_family_72 : decode cX2_family 72 = .ok (.istore_n 2, 1) := dk_61 (dk_at dksX2_family_3 1 rfl rfl)
theorem dX2_family_73 : decode cX2_family 73 = .ok (.iinc 3 1, 3) := dk_132 3 1 (dk_at dksX2_family_3 2 rfl rfl)
theorem dX2_family_76 : decode cX2_family 76 = .ok (.goto (-72), 3) := dk_167 255 184 (dk_at dksX2_family_3 5 rfl rfl)
theorem dX2_family_79 : decode cX2_family 79 = .ok (.iload_n 2, 1) := dk_28 (dk_at dksX2_family_3 8 rfl rfl)
theorem dX2_family_80 : decode cX2_family 80 = .ok (.ireturn, 1) := dk_172 (dk_at dksX2_family_3 9 rfl rfl)
abbrev cX2_movesFor : ByteArray := prog_5_method_13_code
def yX2_movesFor : MethodName := ⟨RX2, "movesFor", "(I)I"⟩
def dkwX2_movesFor_3 : List UInt8 := [159, 0, 7, 4, 167, 0, 4, 3, 184, 0, 164, 96, 61, 132, 3, 1, 167, 255, 184, 28, 172]
abbrev dktX2_movesFor_3 : List UInt8 := dkwX2_movesFor_3 ++ []
def dkwX2_movesFor_2 : List UInt8 := [162, 0, 7, 29, 167, 0, 6, 29, 4, 96, 42, 180, 0, 14, 185, 0, 129, 1, 0, 4, 96, 184, 0, 160]
abbrev dktX2_movesFor_2 : List UInt8 := dkwX2_movesFor_2 ++ dktX2_movesFor_3
def dkwX2_movesFor_1 : List UInt8 := [162, 0, 65, 28, 42, 180, 0, 14, 29, 185, 0, 133, 2, 0, 192, 0, 73, 180, 0, 149, 29, 27]
abbrev dktX2_movesFor_1 : List UInt8 := dkwX2_movesFor_1 ++ dktX2_movesFor_2
def dkwX2_movesFor_0 : List UInt8 := [42, 27, 182, 0, 156, 154, 0, 5, 3, 172, 3, 61, 3, 62, 29, 42, 180, 0, 14, 185, 0, 129, 1, 0]
abbrev dktX2_movesFor_0 : List UInt8 := dkwX2_movesFor_0 ++ dktX2_movesFor_1
theorem dksX2_movesFor_0 : cX2_movesFor.data.toList.drop 0 = dktX2_movesFor_0 := by decide +kernel
theorem dksX2_movesFor_1 : cX2_movesFor.data.toList.drop 24 = dktX2_movesFor_1 := dk_seg dksX2_movesFor_0 24 rfl rfl
theorem dksX2_movesFor_2 : cX2_movesFor.data.toList.drop 46 = dktX2_movesFor_2 := dk_seg dksX2_movesFor_1 22 rfl rfl
theorem dksX2_movesFor_3 : cX2_movesFor.data.toList.drop 70 = dktX2_movesFor_3 := dk_seg dksX2_movesFor_2 24 rfl rfl
theorem dX2_movesFor_0 : decode cX2_movesFor 0 = .ok (.aload_n 0, 1) := dk_42 (dk_at dksX2_movesFor_0 0 rfl rfl)
theorem dX2_movesFor_1 : decode cX2_movesFor 1 = .ok (.iload_n 1, 1) := dk_27 (dk_at dksX2_movesFor_0 1 rfl rfl)
theorem dX2_movesFor_2 : decode cX2_movesFor 2 = .ok (.invokevirtual 156, 3) := dk_182 0 156 (dk_at dksX2_movesFor_0 2 rfl rfl)
theorem dX2_movesFor_5 : decode cX2_movesFor 5 = .ok (.ifCond .ne 5, 3) := dk_154 0 5 (dk_at dksX2_movesFor_0 5 rfl rfl)
theorem dX2_movesFor_8 : decode cX2_movesFor 8 = .ok (.iconst 0, 1) := dk_3 (dk_at dksX2_movesFor_0 8 rfl rfl)
theorem dX2_movesFor_9 : decode cX2_movesFor 9 = .ok (.ireturn, 1) := dk_172 (dk_at dksX2_movesFor_0 9 rfl rfl)
theorem dX2_movesFor_10 : decode cX2_movesFor 10 = .ok (.iconst 0, 1) := dk_3 (dk_at dksX2_movesFor_0 10 rfl rfl)
theorem dX2_movesFor_11 : decode cX2_movesFor 11 = .ok (.istore_n 2, 1) := dk_61 (dk_at dksX2_movesFor_0 11 rfl rfl)
theorem dX2_movesFor_12 : decode cX2_movesFor 12 = .ok (.iconst 0, 1) := dk_3 (dk_at dksX2_movesFor_0 12 rfl rfl)
theorem dX2_movesFor_13 : decode cX2_movesFor 13 = .ok (.istore_n 3, 1) := dk_62 (dk_at dksX2_movesFor_0 13 rfl rfl)
theorem dX2_movesFor_14 : decode cX2_movesFor 14 = .ok (.iload_n 3, 1) := dk_29 (dk_at dksX2_movesFor_0 14 rfl rfl)
theorem dX2_movesFor_15 : decode cX2_movesFor 15 = .ok (.aload_n 0, 1) := dk_42 (dk_at dksX2_movesFor_0 15 rfl rfl)
theorem dX2_movesFor_16 : decode cX2_movesFor 16 = .ok (.getfield 14, 3) := dk_180 0 14 (dk_at dksX2_movesFor_0 16 rfl rfl)
theorem dX2_movesFor_19 : decode cX2_movesFor 19 = .ok (.invokeinterface 129 1, 5) := by decide +kernel
theorem dX2_movesFor_24 : decode cX2_movesFor 24 = .ok (.if_icmp .ge 65, 3) := dk_162 0 65 (dk_at dksX2_movesFor_1 0 rfl rfl)
theorem dX2_movesFor_27 : decode cX2_movesFor 27 = .ok (.iload_n 2, 1) := dk_28 (dk_at dksX2_movesFor_1 3 rfl rfl)
theorem dX2_movesFor_28 : decode cX2_movesFor 28 = .ok (.aload_n 0, 1) := dk_42 (dk_at dksX2_movesFor_1 4 rfl rfl)
theorem dX2_movesFor_29 : decode cX2_movesFor 29 = .ok (.getfield 14, 3) := dk_180 0 14 (dk_at dksX2_movesFor_1 5 rfl rfl)
theorem dX2_movesFor_32 : decode cX2_movesFor 32 = .ok (.iload_n 3, 1) := dk_29 (dk_at dksX2_movesFor_1 8 rfl rfl)
theorem dX2_movesFor_33 : decode cX2_movesFor 33 = .ok (.invokeinterface 133 2, 5) := by decide +kernel
theorem dX2_movesFor_38 : decode cX2_movesFor 38 = .ok (.checkcast 73, 3) := dk_192 0 73 (dk_at dksX2_movesFor_1 14 rfl rfl)
theorem dX2_movesFor_41 : decode cX2_movesFor 41 = .ok (.getfield 149, 3) := dk_180 0 149 (dk_at dksX2_movesFor_1 17 rfl rfl)
theorem dX2_movesFor_44 : decode cX2_movesFor 44 = .ok (.iload_n 3, 1) := dk_29 (dk_at dksX2_movesFor_1 20 rfl rfl)
theorem dX2_movesFor_45 : decode cX2_movesFor 45 = .ok (.iload_n 1, 1) := dk_27 (dk_at dksX2_movesFor_1 21 rfl rfl)
theorem dX2_movesFor_46 : decode cX2_movesFor 46 = .ok (.if_icmp .ge 7, 3) := dk_162 0 7 (dk_at dksX2_movesFor_2 0 rfl rfl)
theorem dX2_movesFor_49 : decode cX2_movesFor 49 = .ok (.iload_n 3, 1) := dk_29 (dk_at dksX2_movesFor_2 3 rfl rfl)
theorem dX2_movesFor_50 : decode cX2_movesFor 50 = .ok (.goto 6, 3) := dk_167 0 6 (dk_at dksX2_movesFor_2 4 rfl rfl)
theorem dX2_movesFor_53 : decode cX2_movesFor 53 = .ok (.iload_n 3, 1) := dk_29 (dk_at dksX2_movesFor_2 7 rfl rfl)
theorem dX2_movesFor_54 : decode cX2_movesFor 54 = .ok (.iconst 1, 1) := dk_4 (dk_at dksX2_movesFor_2 8 rfl rfl)
theorem dX2_movesFor_55 : decode cX2_movesFor 55 = .ok (.iadd, 1) := dk_96 (dk_at dksX2_movesFor_2 9 rfl rfl)
theorem dX2_movesFor_56 : decode cX2_movesFor 56 = .ok (.aload_n 0, 1) := dk_42 (dk_at dksX2_movesFor_2 10 rfl rfl)
theorem dX2_movesFor_57 : decode cX2_movesFor 57 = .ok (.getfield 14, 3) := dk_180 0 14 (dk_at dksX2_movesFor_2 11 rfl rfl)
theorem dX2_movesFor_60 : decode cX2_movesFor 60 = .ok (.invokeinterface 129 1, 5) := by decide +kernel
theorem dX2_movesFor_65 : decode cX2_movesFor 65 = .ok (.iconst 1, 1) := dk_4 (dk_at dksX2_movesFor_2 19 rfl rfl)
theorem dX2_movesFor_66 : decode cX2_movesFor 66 = .ok (.iadd, 1) := dk_96 (dk_at dksX2_movesFor_2 20 rfl rfl)
theorem dX2_movesFor_67 : decode cX2_movesFor 67 = .ok (.invokestatic 160, 3) := dk_184 0 160 (dk_at dksX2_movesFor_2 21 rfl rfl)
theorem dX2_movesFor_70 : decode cX2_movesFor 70 = .ok (.if_icmp .eq 7, 3) := dk_159 0 7 (dk_at dksX2_movesFor_3 0 rfl rfl)
theorem dX2_movesFor_73 : decode cX2_movesFor 73 = .ok (.iconst 1, 1) := dk_4 (dk_at dksX2_movesFor_3 3 rfl rfl)
theorem dX2_movesFor_74 : decode cX2_movesFor 74 = .ok (.goto 4, 3) := dk_167 0 4 (dk_at dksX2_movesFor_3 4 rfl rfl)
theorem dX2_movesFor_77 : decode cX2_movesFor 77 = .ok (.iconst 0, 1) := dk_3 (dk_at dksX2_movesFor_3 7 rfl rfl)
theorem dX2_movesFor_78 : decode cX2_movesFor 78 = .ok (.invokestatic 164, 3) := dk_184 0 164 (dk_at dksX2_movesFor_3 8 rfl rfl)
theorem dX2_movesFor_81 : decode cX2_movesFor 81 = .ok (.iadd, 1) := dk_96 (dk_at dksX2_movesFor_3 11 rfl rfl)
theorem dX2_movesFor_82 : decode cX2_movesFor 82 = .ok (.istore_n 2, 1) := dk_61 (dk_at dksX2_movesFor_3 12 rfl rfl)
theorem dX2_movesFor_83 : decode cX2_movesFor 83 = .ok (.iinc 3 1, 3) := dk_132 3 1 (dk_at dksX2_movesFor_3 13 rfl rfl)
theorem dX2_movesFor_86 : decode cX2_movesFor 86 = .ok (.goto (-72), 3) := dk_167 255 184 (dk_at dksX2_movesFor_3 16 rfl rfl)
theorem dX2_movesFor_89 : decode cX2_movesFor 89 = .ok (.iload_n 2, 1) := dk_28 (dk_at dksX2_movesFor_3 19 rfl rfl)
theorem dX2_movesFor_90 : decode cX2_movesFor 90 = .ok (.ireturn, 1) := dk_172 (dk_at dksX2_movesFor_3 20 rfl rfl)
abbrev cX2_firstLike : ByteArray := prog_5_method_32_code
def yX2_firstLike : MethodName := ⟨RX2, "firstLike", "(LSpokenMarks$Mark;)I"⟩
def dkwX2_firstLike_2 : List UInt8 := [185, 0, 133, 2, 0, 192, 0, 73, 180, 0, 136, 172, 132, 2, 1, 167, 255, 202, 2, 172]
abbrev dktX2_firstLike_2 : List UInt8 := dkwX2_firstLike_2 ++ []
def dkwX2_firstLike_1 : List UInt8 := [185, 0, 133, 2, 0, 192, 0, 73, 43, 184, 0, 227, 2, 160, 0, 20, 42, 180, 0, 14, 28]
abbrev dktX2_firstLike_1 : List UInt8 := dkwX2_firstLike_1 ++ dktX2_firstLike_2
def dkwX2_firstLike_0 : List UInt8 := [3, 61, 28, 42, 180, 0, 14, 185, 0, 129, 1, 0, 162, 0, 47, 42, 180, 0, 14, 28]
abbrev dktX2_firstLike_0 : List UInt8 := dkwX2_firstLike_0 ++ dktX2_firstLike_1
theorem dksX2_firstLike_0 : cX2_firstLike.data.toList.drop 0 = dktX2_firstLike_0 := by decide +kernel
theorem dksX2_firstLike_1 : cX2_firstLike.data.toList.drop 20 = dktX2_firstLike_1 := dk_seg dksX2_firstLike_0 20 rfl rfl
theorem dksX2_firstLike_2 : cX2_firstLike.data.toList.drop 41 = dktX2_firstLike_2 := dk_seg dksX2_firstLike_1 21 rfl rfl
theorem dX2_firstLike_0 : decode cX2_firstLike 0 = .ok (.iconst 0, 1) := dk_3 (dk_at dksX2_firstLike_0 0 rfl rfl)
theorem dX2_firstLike_1 : decode cX2_firstLike 1 = .ok (.istore_n 2, 1) := dk_61 (dk_at dksX2_firstLike_0 1 rfl rfl)
theorem dX2_firstLike_2 : decode cX2_firstLike 2 = .ok (.iload_n 2, 1) := dk_28 (dk_at dksX2_firstLike_0 2 rfl rfl)
theorem dX2_firstLike_3 : decode cX2_firstLike 3 = .ok (.aload_n 0, 1) := dk_42 (dk_at dksX2_firstLike_0 3 rfl rfl)
theorem dX2_firstLike_4 : decode cX2_firstLike 4 = .ok (.getfield 14, 3) := dk_180 0 14 (dk_at dksX2_firstLike_0 4 rfl rfl)
theorem dX2_firstLike_7 : decode cX2_firstLike 7 = .ok (.invokeinterface 129 1, 5) := by decide +kernel
theorem dX2_firstLike_12 : decode cX2_firstLike 12 = .ok (.if_icmp .ge 47, 3) := dk_162 0 47 (dk_at dksX2_firstLike_0 12 rfl rfl)
theorem dX2_firstLike_15 : decode cX2_firstLike 15 = .ok (.aload_n 0, 1) := dk_42 (dk_at dksX2_firstLike_0 15 rfl rfl)
theorem dX2_firstLike_16 : decode cX2_firstLike 16 = .ok (.getfield 14, 3) := dk_180 0 14 (dk_at dksX2_firstLike_0 16 rfl rfl)
theorem dX2_firstLike_19 : decode cX2_firstLike 19 = .ok (.iload_n 2, 1) := dk_28 (dk_at dksX2_firstLike_0 19 rfl rfl)
theorem dX2_firstLike_20 : decode cX2_firstLike 20 = .ok (.invokeinterface 133 2, 5) := by decide +kernel
theorem dX2_firstLike_25 : decode cX2_firstLike 25 = .ok (.checkcast 73, 3) := dk_192 0 73 (dk_at dksX2_firstLike_1 5 rfl rfl)
theorem dX2_firstLike_28 : decode cX2_firstLike 28 = .ok (.aload_n 1, 1) := dk_43 (dk_at dksX2_firstLike_1 8 rfl rfl)
theorem dX2_firstLike_29 : decode cX2_firstLike 29 = .ok (.invokestatic 227, 3) := dk_184 0 227 (dk_at dksX2_firstLike_1 9 rfl rfl)
theorem dX2_firstLike_32 : decode cX2_firstLike 32 = .ok (.iconst (-1), 1) := dk_2 (dk_at dksX2_firstLike_1 12 rfl rfl)
theorem dX2_firstLike_33 : decode cX2_firstLike 33 = .ok (.if_icmp .ne 20, 3) := dk_160 0 20 (dk_at dksX2_firstLike_1 13 rfl rfl)
theorem dX2_firstLike_36 : decode cX2_firstLike 36 = .ok (.aload_n 0, 1) := dk_42 (dk_at dksX2_firstLike_1 16 rfl rfl)
theorem dX2_firstLike_37 : decode cX2_firstLike 37 = .ok (.getfield 14, 3) := dk_180 0 14 (dk_at dksX2_firstLike_1 17 rfl rfl)
theorem dX2_firstLike_40 : decode cX2_firstLike 40 = .ok (.iload_n 2, 1) := dk_28 (dk_at dksX2_firstLike_1 20 rfl rfl)
theorem dX2_firstLike_41 : decode cX2_firstLike 41 = .ok (.invokeinterface 133 2, 5) := by decide +kernel
theorem dX2_firstLike_46 : decode cX2_firstLike 46 = .ok (.checkcast 73, 3) := dk_192 0 73 (dk_at dksX2_firstLike_2 5 rfl rfl)
theorem dX2_firstLike_49 : decode cX2_firstLike 49 = .ok (.getfield 136, 3) := dk_180 0 136 (dk_at dksX2_firstLike_2 8 rfl rfl)
theorem dX2_firstLike_52 : decode cX2_firstLike 52 = .ok (.ireturn, 1) := dk_172 (dk_at dksX2_firstLike_2 11 rfl rfl)
theorem dX2_firstLike_53 : decode cX2_firstLike 53 = .ok (.iinc 2 1, 3) := dk_132 2 1 (dk_at dksX2_firstLike_2 12 rfl rfl)
theorem dX2_firstLike_56 : decode cX2_firstLike 56 = .ok (.goto (-54), 3) := dk_167 255 202 (dk_at dksX2_firstLike_2 15 rfl rfl)
theorem dX2_firstLike_59 : decode cX2_firstLike 59 = .ok (.iconst (-1), 1) := dk_2 (dk_at dksX2_firstLike_2 18 rfl rfl)
theorem dX2_firstLike_60 : decode cX2_firstLike 60 = .ok (.ireturn, 1) := dk_172 (dk_at dksX2_firstLike_2 19 rfl rfl)
theorem q123 : (Jvm.Cond.initialized "SpokenMarks$Catalogue") ∈ lw_all := lw_g (lw_at lw_m1 4 rfl) rfl
theorem q205 : (Jvm.Cond.instantiable "SpokenMarks$Catalogue" (9 : Nat)) ∈ lw_all := lw_g (lw_at lw_m1 86 rfl) rfl
theorem q207 : (Jvm.Cond.instanceMethod ({ cls := "SpokenMarks$Catalogue", name := "<init>", desc := "(II)V" } : Jvm.MethodName)) ∈ lw_all := lw_g (lw_at lw_m1 88 rfl) rfl
theorem q208 : (Jvm.Cond.code ({ cls := "SpokenMarks$Catalogue", name := "<init>", desc := "(II)V" } : Jvm.MethodName) prog_5_method_1_code (4 : Nat) (Option.none : Option Jvm.ClassFile.FieldType)) ∈ lw_all := lw_g (lw_at lw_m1 89 rfl) rfl
theorem q209 : (Jvm.Cond.methodLink "SpokenMarks$Catalogue" (3 : Nat) ({ cls := "java/lang/Object", name := "<init>", desc := "()V" } : Jvm.MethodName)) ∈ lw_all := lw_g (lw_at lw_m1 90 rfl) rfl
theorem q210 : (Jvm.Cond.classLink "SpokenMarks$Catalogue" (9 : Nat) "java/util/ArrayList") ∈ lw_all := lw_g (lw_at lw_m1 91 rfl) rfl
theorem q212 : (Jvm.Cond.methodLink "SpokenMarks$Catalogue" (11 : Nat) ({ cls := "java/util/ArrayList", name := "<init>", desc := "(I)V" } : Jvm.MethodName)) ∈ lw_all := lw_g (lw_at lw_m1 93 rfl) rfl
theorem q550 : (Jvm.Cond.classLink "SpokenMarks$Catalogue" (23 : Nat) "java/util/HashMap") ∈ lw_all := lw_g (lw_at lw_m2 191 rfl) rfl
theorem q552 : (Jvm.Cond.methodLink "SpokenMarks$Catalogue" (25 : Nat) ({ cls := "java/util/HashMap", name := "<init>", desc := "()V" } : Jvm.MethodName)) ∈ lw_all := lw_g (lw_at lw_m2 193 rfl) rfl
theorem q582 : (Jvm.Cond.classLink "SpokenMarks$Catalogue" (30 : Nat) "SpokenMarks$Spoken") ∈ lw_all := lw_g (lw_at lw_m2 223 rfl) rfl
theorem q584 : (Jvm.Cond.methodLinkNest "SpokenMarks$Catalogue" (32 : Nat) ({ cls := "SpokenMarks$Spoken", name := "<init>", desc := "()V" } : Jvm.MethodName) "SpokenMarks") ∈ lw_tbl := lw_at lw_m2 225 rfl
theorem q589 : (Jvm.Cond.fieldLink "SpokenMarks$Catalogue" (45 : Nat) "SpokenMarks$Catalogue" "shelves" "I") ∈ lw_all := lw_g (lw_at lw_m2 230 rfl) rfl
theorem q592 : (Jvm.Cond.fieldLink "SpokenMarks$Catalogue" (48 : Nat) "SpokenMarks$Catalogue" "room" "I") ∈ lw_all := lw_g (lw_at lw_m2 233 rfl) rfl
theorem q594 : (Jvm.Cond.fieldLink "SpokenMarks$Catalogue" (51 : Nat) "SpokenMarks$Catalogue" "bounds" "[I") ∈ lw_all := lw_g (lw_at lw_m2 235 rfl) rfl
theorem q597 : (Jvm.Cond.fieldLink "SpokenMarks$Catalogue" (14 : Nat) "SpokenMarks$Catalogue" "marks" "Ljava/util/List;") ∈ lw_all := lw_g (lw_at lw_m2 238 rfl) rfl
theorem q603 : (Jvm.Cond.fieldLink "SpokenMarks$Catalogue" (20 : Nat) "SpokenMarks$Catalogue" "rules" "Ljava/util/List;") ∈ lw_all := lw_g (lw_at lw_m3 4 rfl) rfl
theorem q608 : (Jvm.Cond.fieldLink "SpokenMarks$Catalogue" (26 : Nat) "SpokenMarks$Catalogue" "spoken" "Ljava/util/Map;") ∈ lw_all := lw_g (lw_at lw_m3 9 rfl) rfl
theorem q609 : (Jvm.Cond.fieldLink "SpokenMarks$Catalogue" (33 : Nat) "SpokenMarks$Catalogue" "order" "Ljava/util/Comparator;") ∈ lw_all := lw_g (lw_at lw_m3 10 rfl) rfl
theorem q611 : (Jvm.Cond.fieldLink "SpokenMarks$Catalogue" (37 : Nat) "SpokenMarks$Catalogue" "accounts" "[I") ∈ lw_all := lw_g (lw_at lw_m3 12 rfl) rfl
theorem q613 : (Jvm.Cond.fieldLink "SpokenMarks$Catalogue" (41 : Nat) "SpokenMarks$Catalogue" "nextId" "I") ∈ lw_all := lw_g (lw_at lw_m3 14 rfl) rfl
theorem q615 : (Jvm.Cond.laysFinal "SpokenMarks$Catalogue" "SpokenMarks$Catalogue" "shelves" "I") ∈ lw_all := lw_g (lw_at lw_m3 16 rfl) rfl
theorem q616 : (Jvm.Cond.soleField "SpokenMarks$Catalogue" "shelves") ∈ lw_all := lw_g (lw_at lw_m3 17 rfl) rfl
theorem q617 : (Jvm.Cond.laysFinal "SpokenMarks$Catalogue" "SpokenMarks$Catalogue" "room" "I") ∈ lw_all := lw_g (lw_at lw_m3 18 rfl) rfl
theorem q618 : (Jvm.Cond.soleField "SpokenMarks$Catalogue" "room") ∈ lw_all := lw_g (lw_at lw_m3 19 rfl) rfl
theorem q619 : (Jvm.Cond.laysFinal "SpokenMarks$Catalogue" "SpokenMarks$Catalogue" "bounds" "[I") ∈ lw_all := lw_g (lw_at lw_m3 20 rfl) rfl
theorem q620 : (Jvm.Cond.soleField "SpokenMarks$Catalogue" "bounds") ∈ lw_all := lw_g (lw_at lw_m3 21 rfl) rfl
theorem q621 : (Jvm.Cond.laysFinal "SpokenMarks$Catalogue" "SpokenMarks$Catalogue" "marks" "Ljava/util/List;") ∈ lw_all := lw_g (lw_at lw_m3 22 rfl) rfl
theorem q622 : (Jvm.Cond.soleField "SpokenMarks$Catalogue" "marks") ∈ lw_all := lw_g (lw_at lw_m3 23 rfl) rfl
theorem q623 : (Jvm.Cond.laysFinal "SpokenMarks$Catalogue" "SpokenMarks$Catalogue" "rules" "Ljava/util/List;") ∈ lw_all := lw_g (lw_at lw_m3 24 rfl) rfl
theorem q624 : (Jvm.Cond.soleField "SpokenMarks$Catalogue" "rules") ∈ lw_all := lw_g (lw_at lw_m3 25 rfl) rfl
theorem q625 : (Jvm.Cond.laysFinal "SpokenMarks$Catalogue" "SpokenMarks$Catalogue" "spoken" "Ljava/util/Map;") ∈ lw_all := lw_g (lw_at lw_m3 26 rfl) rfl
theorem q626 : (Jvm.Cond.soleField "SpokenMarks$Catalogue" "spoken") ∈ lw_all := lw_g (lw_at lw_m3 27 rfl) rfl
theorem q627 : (Jvm.Cond.laysFinal "SpokenMarks$Catalogue" "SpokenMarks$Catalogue" "order" "Ljava/util/Comparator;") ∈ lw_all := lw_g (lw_at lw_m3 28 rfl) rfl
theorem q628 : (Jvm.Cond.soleField "SpokenMarks$Catalogue" "order") ∈ lw_all := lw_g (lw_at lw_m3 29 rfl) rfl
theorem q629 : (Jvm.Cond.lays "SpokenMarks$Catalogue" "SpokenMarks$Catalogue" "accounts" "[I") ∈ lw_all := lw_g (lw_at lw_m3 30 rfl) rfl
theorem q630 : (Jvm.Cond.soleField "SpokenMarks$Catalogue" "accounts") ∈ lw_all := lw_g (lw_at lw_m3 31 rfl) rfl
theorem q631 : (Jvm.Cond.lays "SpokenMarks$Catalogue" "SpokenMarks$Catalogue" "nextId" "I") ∈ lw_all := lw_g (lw_at lw_m3 32 rfl) rfl
theorem q632 : (Jvm.Cond.soleField "SpokenMarks$Catalogue" "nextId") ∈ lw_all := lw_g (lw_at lw_m3 33 rfl) rfl
theorem q633 : (Jvm.Cond.superclass "SpokenMarks$Catalogue" "java/lang/Object") ∈ lw_all := lw_g (lw_at lw_m3 34 rfl) rfl
theorem q646 : (Jvm.Cond.fieldLinkNest "SpokenMarks$Catalogue" (85 : Nat) "SpokenMarks$Rule" "first" "Ljava/lang/String;" "SpokenMarks") ∈ lw_tbl := lw_at lw_m3 47 rfl
theorem q649 : (Jvm.Cond.fieldLinkNest "SpokenMarks$Catalogue" (89 : Nat) "SpokenMarks$Rule" "second" "Ljava/lang/String;" "SpokenMarks") ∈ lw_tbl := lw_at lw_m3 50 rfl
theorem q657 : (Jvm.Cond.instanceMethod ({ cls := "SpokenMarks$Catalogue", name := "say", desc := "(LSpokenMarks$Rule;)I" } : Jvm.MethodName)) ∈ lw_all := lw_g (lw_at lw_m3 58 rfl) rfl
theorem q658 : (Jvm.Cond.selects "SpokenMarks$Catalogue" ({ cls := "SpokenMarks$Catalogue", name := "say", desc := "(LSpokenMarks$Rule;)I" } : Jvm.MethodName) ({ cls := "SpokenMarks$Catalogue", name := "say", desc := "(LSpokenMarks$Rule;)I" } : Jvm.MethodName)) ∈ lw_all := lw_g (lw_at lw_m3 59 rfl) rfl
theorem q659 : (Jvm.Cond.code ({ cls := "SpokenMarks$Catalogue", name := "say", desc := "(LSpokenMarks$Rule;)I" } : Jvm.MethodName) prog_5_method_18_code (2 : Nat) (Option.some Jvm.ClassFile.FieldType.int)) ∈ lw_all := lw_g (lw_at lw_m3 60 rfl) rfl
theorem q660 : (Jvm.Cond.interfaceEntry "SpokenMarks$Catalogue" (79 : Nat)) ∈ lw_tbl := lw_at lw_m3 61 rfl
theorem q661 : (Jvm.Cond.methodLink "SpokenMarks$Catalogue" (79 : Nat) ({ cls := "java/util/List", name := "add", desc := "(Ljava/lang/Object;)Z" } : Jvm.MethodName)) ∈ lw_all := lw_g (lw_at lw_m3 62 rfl) rfl
theorem q695 : (Jvm.Cond.selects "SpokenMarks$Catalogue" ({ cls := "java/lang/Object", name := "getClass", desc := "()Ljava/lang/Class;" } : Jvm.MethodName) ({ cls := "java/lang/Object", name := "getClass", desc := "()Ljava/lang/Class;" } : Jvm.MethodName)) ∈ lw_all := lw_g (lw_at lw_m3 96 rfl) rfl
theorem q734 : (Jvm.Cond.interfaceEntry "SpokenMarks$Catalogue" (92 : Nat)) ∈ lw_tbl := lw_at lw_m3 135 rfl
theorem q735 : (Jvm.Cond.methodLink "SpokenMarks$Catalogue" (92 : Nat) ({ cls := "java/util/Map", name := "put", desc := "(Ljava/lang/Object;Ljava/lang/Object;)Ljava/lang/Object;" } : Jvm.MethodName)) ∈ lw_all := lw_g (lw_at lw_m3 136 rfl) rfl
theorem q755 : (Jvm.Cond.selects "SpokenMarks$Catalogue" ({ cls := "java/lang/Object", name := "hashCode", desc := "()I" } : Jvm.MethodName) ({ cls := "java/lang/Object", name := "hashCode", desc := "()I" } : Jvm.MethodName)) ∈ lw_all := lw_g (lw_at lw_m3 156 rfl) rfl
theorem q1162 : (Jvm.Cond.selects "SpokenMarks$Catalogue" ({ cls := "java/lang/Object", name := "equals", desc := "(Ljava/lang/Object;)Z" } : Jvm.MethodName) ({ cls := "java/lang/Object", name := "equals", desc := "(Ljava/lang/Object;)Z" } : Jvm.MethodName)) ∈ lw_all := lw_g (lw_at lw_m5 83 rfl) rfl
theorem q1262 : (Jvm.Cond.methodLink "SpokenMarks$Catalogue" (199 : Nat) ({ cls := "SpokenMarks$Catalogue", name := "hearAnew", desc := "()I" } : Jvm.MethodName)) ∈ lw_all := lw_g (lw_at lw_m5 183 rfl) rfl
theorem q1263 : (Jvm.Cond.privateMethod ({ cls := "SpokenMarks$Catalogue", name := "hearAnew", desc := "()I" } : Jvm.MethodName)) ∈ lw_tbl := lw_at lw_m5 184 rfl
theorem q1264 : (Jvm.Cond.instanceMethod ({ cls := "SpokenMarks$Catalogue", name := "hearAnew", desc := "()I" } : Jvm.MethodName)) ∈ lw_all := lw_g (lw_at lw_m5 185 rfl) rfl
theorem q1265 : (Jvm.Cond.code ({ cls := "SpokenMarks$Catalogue", name := "hearAnew", desc := "()I" } : Jvm.MethodName) prog_5_method_16_code (7 : Nat) (Option.some Jvm.ClassFile.FieldType.int)) ∈ lw_all := lw_g (lw_at lw_m5 186 rfl) rfl
theorem q1266 : (Jvm.Cond.methodLink "SpokenMarks$Catalogue" (180 : Nat) ({ cls := "java/util/ArrayList", name := "<init>", desc := "(Ljava/util/Collection;)V" } : Jvm.MethodName)) ∈ lw_all := lw_g (lw_at lw_m5 187 rfl) rfl
theorem q1304 : (Jvm.Cond.interfaceEntry "SpokenMarks$Catalogue" (183 : Nat)) ∈ lw_tbl := lw_at lw_m5 225 rfl
theorem q1305 : (Jvm.Cond.methodLink "SpokenMarks$Catalogue" (183 : Nat) ({ cls := "java/util/List", name := "clear", desc := "()V" } : Jvm.MethodName)) ∈ lw_all := lw_g (lw_at lw_m5 226 rfl) rfl
theorem q1313 : (Jvm.Cond.interfaceEntry "SpokenMarks$Catalogue" (57 : Nat)) ∈ lw_tbl := lw_at lw_m5 234 rfl
theorem q1314 : (Jvm.Cond.methodLink "SpokenMarks$Catalogue" (57 : Nat) ({ cls := "java/util/List", name := "iterator", desc := "()Ljava/util/Iterator;" } : Jvm.MethodName)) ∈ lw_all := lw_g (lw_at lw_m5 235 rfl) rfl
theorem q1341 : (Jvm.Cond.interfaceEntry "SpokenMarks$Catalogue" (63 : Nat)) ∈ lw_tbl := lw_at lw_m6 22 rfl
theorem q1342 : (Jvm.Cond.methodLink "SpokenMarks$Catalogue" (63 : Nat) ({ cls := "java/util/Iterator", name := "hasNext", desc := "()Z" } : Jvm.MethodName)) ∈ lw_all := lw_g (lw_at lw_m6 23 rfl) rfl
theorem q1351 : (Jvm.Cond.interfaceEntry "SpokenMarks$Catalogue" (69 : Nat)) ∈ lw_tbl := lw_at lw_m6 32 rfl
theorem q1352 : (Jvm.Cond.methodLink "SpokenMarks$Catalogue" (69 : Nat) ({ cls := "java/util/Iterator", name := "next", desc := "()Ljava/lang/Object;" } : Jvm.MethodName)) ∈ lw_all := lw_g (lw_at lw_m6 33 rfl) rfl
theorem q1385 : (Jvm.Cond.classLink "SpokenMarks$Catalogue" (73 : Nat) "SpokenMarks$Mark") ∈ lw_all := lw_g (lw_at lw_m6 66 rfl) rfl
theorem q1387 : (Jvm.Cond.methodLink "SpokenMarks$Catalogue" (189 : Nat) ({ cls := "SpokenMarks$Catalogue", name := "heardAnew", desc := "(Ljava/util/List;)Ljava/util/List;" } : Jvm.MethodName)) ∈ lw_all := lw_g (lw_at lw_m6 68 rfl) rfl
theorem q1388 : (Jvm.Cond.privateMethod ({ cls := "SpokenMarks$Catalogue", name := "heardAnew", desc := "(Ljava/util/List;)Ljava/util/List;" } : Jvm.MethodName)) ∈ lw_tbl := lw_at lw_m6 69 rfl
theorem q1389 : (Jvm.Cond.instanceMethod ({ cls := "SpokenMarks$Catalogue", name := "heardAnew", desc := "(Ljava/util/List;)Ljava/util/List;" } : Jvm.MethodName)) ∈ lw_all := lw_g (lw_at lw_m6 70 rfl) rfl
theorem q1390 : (Jvm.Cond.code ({ cls := "SpokenMarks$Catalogue", name := "heardAnew", desc := "(Ljava/util/List;)Ljava/util/List;" } : Jvm.MethodName) prog_5_method_5_code (6 : Nat) (Option.some (Jvm.ClassFile.FieldType.object "java/util/List"))) ∈ lw_all := lw_g (lw_at lw_m6 71 rfl) rfl
theorem q1391 : (Jvm.Cond.classLink "SpokenMarks$Catalogue" (120 : Nat) "SpokenMarks$Part") ∈ lw_all := lw_g (lw_at lw_m6 72 rfl) rfl
theorem q1392 : (Jvm.Cond.classLink "SpokenMarks$Catalogue" (114 : Nat) "SpokenMarks$Word") ∈ lw_all := lw_g (lw_at lw_m6 73 rfl) rfl
theorem q1393 : (Jvm.Cond.methodLink "SpokenMarks$Catalogue" (125 : Nat) ({ cls := "SpokenMarks$Catalogue", name := "heard", desc := "(Ljava/lang/String;)LSpokenMarks$Word;" } : Jvm.MethodName)) ∈ lw_all := lw_g (lw_at lw_m6 74 rfl) rfl
theorem q1394 : (Jvm.Cond.instanceMethod ({ cls := "SpokenMarks$Catalogue", name := "heard", desc := "(Ljava/lang/String;)LSpokenMarks$Word;" } : Jvm.MethodName)) ∈ lw_all := lw_g (lw_at lw_m6 75 rfl) rfl
theorem q1395 : (Jvm.Cond.selects "SpokenMarks$Catalogue" ({ cls := "SpokenMarks$Catalogue", name := "heard", desc := "(Ljava/lang/String;)LSpokenMarks$Word;" } : Jvm.MethodName) ({ cls := "SpokenMarks$Catalogue", name := "heard", desc := "(Ljava/lang/String;)LSpokenMarks$Word;" } : Jvm.MethodName)) ∈ lw_all := lw_g (lw_at lw_m6 76 rfl) rfl
theorem q1396 : (Jvm.Cond.code ({ cls := "SpokenMarks$Catalogue", name := "heard", desc := "(Ljava/lang/String;)LSpokenMarks$Word;" } : Jvm.MethodName) prog_5_method_4_code (2 : Nat) (Option.some (Jvm.ClassFile.FieldType.object "SpokenMarks$Word"))) ∈ lw_all := lw_g (lw_at lw_m6 77 rfl) rfl
theorem q1398 : (Jvm.Cond.methodLink "SpokenMarks$Catalogue" (116 : Nat) ({ cls := "SpokenMarks$Catalogue", name := "earOf", desc := "(Ljava/lang/String;)Ljava/lang/String;" } : Jvm.MethodName)) ∈ lw_all := lw_g (lw_at lw_m6 79 rfl) rfl
theorem q1399 : (Jvm.Cond.instanceMethod ({ cls := "SpokenMarks$Catalogue", name := "earOf", desc := "(Ljava/lang/String;)Ljava/lang/String;" } : Jvm.MethodName)) ∈ lw_all := lw_g (lw_at lw_m6 80 rfl) rfl
theorem q1400 : (Jvm.Cond.selects "SpokenMarks$Catalogue" ({ cls := "SpokenMarks$Catalogue", name := "earOf", desc := "(Ljava/lang/String;)Ljava/lang/String;" } : Jvm.MethodName) ({ cls := "SpokenMarks$Catalogue", name := "earOf", desc := "(Ljava/lang/String;)Ljava/lang/String;" } : Jvm.MethodName)) ∈ lw_all := lw_g (lw_at lw_m6 81 rfl) rfl
theorem q1401 : (Jvm.Cond.code ({ cls := "SpokenMarks$Catalogue", name := "earOf", desc := "(Ljava/lang/String;)Ljava/lang/String;" } : Jvm.MethodName) prog_5_method_3_code (3 : Nat) (Option.some (Jvm.ClassFile.FieldType.object "java/lang/String"))) ∈ lw_all := lw_g (lw_at lw_m6 82 rfl) rfl
theorem q1402 : (Jvm.Cond.interfaceEntry "SpokenMarks$Catalogue" (102 : Nat)) ∈ lw_tbl := lw_at lw_m6 83 rfl
theorem q1403 : (Jvm.Cond.methodLink "SpokenMarks$Catalogue" (102 : Nat) ({ cls := "java/util/Map", name := "get", desc := "(Ljava/lang/Object;)Ljava/lang/Object;" } : Jvm.MethodName)) ∈ lw_all := lw_g (lw_at lw_m6 84 rfl) rfl
theorem q1419 : (Jvm.Cond.classLink "SpokenMarks$Catalogue" (106 : Nat) "java/lang/String") ∈ lw_all := lw_g (lw_at lw_m6 100 rfl) rfl
theorem q1420 : (Jvm.Cond.methodLink "SpokenMarks$Catalogue" (108 : Nat) ({ cls := "SpokenMarks$Step", name := "earOf", desc := "(Ljava/lang/String;)Ljava/lang/String;" } : Jvm.MethodName)) ∈ lw_all := lw_g (lw_at lw_m6 101 rfl) rfl
theorem q1515 : (Jvm.Cond.methodLink "SpokenMarks$Catalogue" (117 : Nat) ({ cls := "SpokenMarks$Word", name := "<init>", desc := "(Ljava/lang/String;Ljava/lang/String;)V" } : Jvm.MethodName)) ∈ lw_all := lw_g (lw_at lw_m6 196 rfl) rfl
theorem q1521 : (Jvm.Cond.fieldLinkNest "SpokenMarks$Catalogue" (122 : Nat) "SpokenMarks$Word" "letters" "Ljava/lang/String;" "SpokenMarks") ∈ lw_tbl := lw_at lw_m6 202 rfl
theorem q1532 : (Jvm.Cond.methodLink "SpokenMarks$Catalogue" (168 : Nat) ({ cls := "SpokenMarks$Mark", name := "<init>", desc := "(ILjava/util/List;II)V" } : Jvm.MethodName)) ∈ lw_all := lw_g (lw_at lw_m6 213 rfl) rfl
theorem q1537 : (Jvm.Cond.fieldLinkNest "SpokenMarks$Catalogue" (136 : Nat) "SpokenMarks$Mark" "id" "I" "SpokenMarks") ∈ lw_tbl := lw_at lw_m6 218 rfl
theorem q1542 : (Jvm.Cond.fieldLinkNest "SpokenMarks$Catalogue" (186 : Nat) "SpokenMarks$Mark" "parts" "Ljava/util/List;" "SpokenMarks") ∈ lw_tbl := lw_at lw_m6 223 rfl
theorem q1545 : (Jvm.Cond.fieldLinkNest "SpokenMarks$Catalogue" (193 : Nat) "SpokenMarks$Mark" "width" "I" "SpokenMarks") ∈ lw_tbl := lw_at lw_m6 226 rfl
theorem q1548 : (Jvm.Cond.fieldLinkNest "SpokenMarks$Catalogue" (149 : Nat) "SpokenMarks$Mark" "place" "I" "SpokenMarks") ∈ lw_tbl := lw_at lw_m6 229 rfl
theorem q1559 : (Jvm.Cond.methodLink "SpokenMarks$Catalogue" (145 : Nat) ({ cls := "SpokenMarks$Catalogue", name := "rankFor", desc := "(LSpokenMarks$Mark;)I" } : Jvm.MethodName)) ∈ lw_all := lw_g (lw_at lw_m7 0 rfl) rfl
theorem q1560 : (Jvm.Cond.instanceMethod ({ cls := "SpokenMarks$Catalogue", name := "rankFor", desc := "(LSpokenMarks$Mark;)I" } : Jvm.MethodName)) ∈ lw_all := lw_g (lw_at lw_m7 1 rfl) rfl
theorem q1561 : (Jvm.Cond.selects "SpokenMarks$Catalogue" ({ cls := "SpokenMarks$Catalogue", name := "rankFor", desc := "(LSpokenMarks$Mark;)I" } : Jvm.MethodName) ({ cls := "SpokenMarks$Catalogue", name := "rankFor", desc := "(LSpokenMarks$Mark;)I" } : Jvm.MethodName)) ∈ lw_all := lw_g (lw_at lw_m7 2 rfl) rfl
theorem q1562 : (Jvm.Cond.code ({ cls := "SpokenMarks$Catalogue", name := "rankFor", desc := "(LSpokenMarks$Mark;)I" } : Jvm.MethodName) prog_5_method_7_code (3 : Nat) (Option.some Jvm.ClassFile.FieldType.int)) ∈ lw_all := lw_g (lw_at lw_m7 3 rfl) rfl
theorem q1563 : (Jvm.Cond.interfaceEntry "SpokenMarks$Catalogue" (129 : Nat)) ∈ lw_tbl := lw_at lw_m7 4 rfl
theorem q1564 : (Jvm.Cond.methodLink "SpokenMarks$Catalogue" (129 : Nat) ({ cls := "java/util/List", name := "size", desc := "()I" } : Jvm.MethodName)) ∈ lw_all := lw_g (lw_at lw_m7 5 rfl) rfl
theorem q1572 : (Jvm.Cond.interfaceEntry "SpokenMarks$Catalogue" (133 : Nat)) ∈ lw_tbl := lw_at lw_m7 13 rfl
theorem q1573 : (Jvm.Cond.methodLink "SpokenMarks$Catalogue" (133 : Nat) ({ cls := "java/util/List", name := "get", desc := "(I)Ljava/lang/Object;" } : Jvm.MethodName)) ∈ lw_all := lw_g (lw_at lw_m7 14 rfl) rfl
theorem q1589 : (Jvm.Cond.interfaceEntry "SpokenMarks$Catalogue" (139 : Nat)) ∈ lw_tbl := lw_at lw_m7 30 rfl
theorem q1590 : (Jvm.Cond.methodLink "SpokenMarks$Catalogue" (139 : Nat) ({ cls := "java/util/Comparator", name := "compare", desc := "(Ljava/lang/Object;Ljava/lang/Object;)I" } : Jvm.MethodName)) ∈ lw_all := lw_g (lw_at lw_m7 31 rfl) rfl
theorem q1622 : (Jvm.Cond.interfaceEntry "SpokenMarks$Catalogue" (174 : Nat)) ∈ lw_tbl := lw_at lw_m7 63 rfl
theorem q1623 : (Jvm.Cond.methodLink "SpokenMarks$Catalogue" (174 : Nat) ({ cls := "java/util/List", name := "add", desc := "(ILjava/lang/Object;)V" } : Jvm.MethodName)) ∈ lw_all := lw_g (lw_at lw_m7 64 rfl) rfl
theorem q1636 : (Jvm.Cond.methodLink "SpokenMarks$Catalogue" (177 : Nat) ({ cls := "SpokenMarks$Catalogue", name := "respace", desc := "(I)I" } : Jvm.MethodName)) ∈ lw_all := lw_g (lw_at lw_m7 77 rfl) rfl
theorem q1637 : (Jvm.Cond.instanceMethod ({ cls := "SpokenMarks$Catalogue", name := "respace", desc := "(I)I" } : Jvm.MethodName)) ∈ lw_all := lw_g (lw_at lw_m7 78 rfl) rfl
theorem q1638 : (Jvm.Cond.selects "SpokenMarks$Catalogue" ({ cls := "SpokenMarks$Catalogue", name := "respace", desc := "(I)I" } : Jvm.MethodName) ({ cls := "SpokenMarks$Catalogue", name := "respace", desc := "(I)I" } : Jvm.MethodName)) ∈ lw_all := lw_g (lw_at lw_m7 79 rfl) rfl
theorem q1639 : (Jvm.Cond.code ({ cls := "SpokenMarks$Catalogue", name := "respace", desc := "(I)I" } : Jvm.MethodName) prog_5_method_14_code (6 : Nat) (Option.some Jvm.ClassFile.FieldType.int)) ∈ lw_all := lw_g (lw_at lw_m7 80 rfl) rfl
theorem q1640 : (Jvm.Cond.methodLink "SpokenMarks$Catalogue" (160 : Nat) ({ cls := "SpokenMarks$Catalogue", name := "spaced", desc := "(II)I" } : Jvm.MethodName)) ∈ lw_all := lw_g (lw_at lw_m7 81 rfl) rfl
theorem q1641 : (Jvm.Cond.static ({ cls := "SpokenMarks$Catalogue", name := "spaced", desc := "(II)I" } : Jvm.MethodName)) ∈ lw_all := lw_g (lw_at lw_m7 82 rfl) rfl
theorem q1642 : (Jvm.Cond.code ({ cls := "SpokenMarks$Catalogue", name := "spaced", desc := "(II)I" } : Jvm.MethodName) prog_5_method_12_code (2 : Nat) (Option.some Jvm.ClassFile.FieldType.int)) ∈ lw_all := lw_g (lw_at lw_m7 83 rfl) rfl
theorem q1643 : (Jvm.Cond.methodLinkNest "SpokenMarks$Catalogue" (164 : Nat) ({ cls := "SpokenMarks", name := "bit", desc := "(Z)I" } : Jvm.MethodName) "SpokenMarks") ∈ lw_tbl := lw_at lw_m7 84 rfl
theorem q1674 : (Jvm.Cond.instanceMethod ({ cls := "SpokenMarks$Catalogue", name := "add", desc := "(Ljava/util/List;I)I" } : Jvm.MethodName)) ∈ lw_all := lw_g (lw_at lw_m7 115 rfl) rfl
theorem q1675 : (Jvm.Cond.selects "SpokenMarks$Catalogue" ({ cls := "SpokenMarks$Catalogue", name := "add", desc := "(Ljava/util/List;I)I" } : Jvm.MethodName) ({ cls := "SpokenMarks$Catalogue", name := "add", desc := "(Ljava/util/List;I)I" } : Jvm.MethodName)) ∈ lw_all := lw_g (lw_at lw_m7 116 rfl) rfl
theorem q1676 : (Jvm.Cond.code ({ cls := "SpokenMarks$Catalogue", name := "add", desc := "(Ljava/util/List;I)I" } : Jvm.MethodName) prog_5_method_15_code (7 : Nat) (Option.some Jvm.ClassFile.FieldType.int)) ∈ lw_all := lw_g (lw_at lw_m7 117 rfl) rfl
theorem q1677 : (Jvm.Cond.methodLink "SpokenMarks$Catalogue" (156 : Nat) ({ cls := "SpokenMarks$Catalogue", name := "isTight", desc := "(I)Z" } : Jvm.MethodName)) ∈ lw_all := lw_g (lw_at lw_m7 118 rfl) rfl
theorem q1678 : (Jvm.Cond.instanceMethod ({ cls := "SpokenMarks$Catalogue", name := "isTight", desc := "(I)Z" } : Jvm.MethodName)) ∈ lw_all := lw_g (lw_at lw_m7 119 rfl) rfl
theorem q1679 : (Jvm.Cond.selects "SpokenMarks$Catalogue" ({ cls := "SpokenMarks$Catalogue", name := "isTight", desc := "(I)Z" } : Jvm.MethodName) ({ cls := "SpokenMarks$Catalogue", name := "isTight", desc := "(I)Z" } : Jvm.MethodName)) ∈ lw_all := lw_g (lw_at lw_m7 120 rfl) rfl
theorem q1680 : (Jvm.Cond.code ({ cls := "SpokenMarks$Catalogue", name := "isTight", desc := "(I)Z" } : Jvm.MethodName) prog_5_method_10_code (2 : Nat) (Option.some Jvm.ClassFile.FieldType.boolean)) ∈ lw_all := lw_g (lw_at lw_m7 121 rfl) rfl
theorem q1681 : (Jvm.Cond.methodLink "SpokenMarks$Catalogue" (152 : Nat) ({ cls := "SpokenMarks$Catalogue", name := "placeAt", desc := "(I)I" } : Jvm.MethodName)) ∈ lw_all := lw_g (lw_at lw_m7 122 rfl) rfl
theorem q1682 : (Jvm.Cond.privateMethod ({ cls := "SpokenMarks$Catalogue", name := "placeAt", desc := "(I)I" } : Jvm.MethodName)) ∈ lw_tbl := lw_at lw_m7 123 rfl
theorem q1683 : (Jvm.Cond.instanceMethod ({ cls := "SpokenMarks$Catalogue", name := "placeAt", desc := "(I)I" } : Jvm.MethodName)) ∈ lw_all := lw_g (lw_at lw_m7 124 rfl) rfl
theorem q1684 : (Jvm.Cond.code ({ cls := "SpokenMarks$Catalogue", name := "placeAt", desc := "(I)I" } : Jvm.MethodName) prog_5_method_9_code (2 : Nat) (Option.some Jvm.ClassFile.FieldType.int)) ∈ lw_all := lw_g (lw_at lw_m7 125 rfl) rfl
theorem q1685 : (Jvm.Cond.methodLink "SpokenMarks$Catalogue" (171 : Nat) ({ cls := "SpokenMarks$Catalogue", name := "placeFor", desc := "(I)I" } : Jvm.MethodName)) ∈ lw_all := lw_g (lw_at lw_m7 126 rfl) rfl
theorem q1686 : (Jvm.Cond.instanceMethod ({ cls := "SpokenMarks$Catalogue", name := "placeFor", desc := "(I)I" } : Jvm.MethodName)) ∈ lw_all := lw_g (lw_at lw_m7 127 rfl) rfl
theorem q1687 : (Jvm.Cond.selects "SpokenMarks$Catalogue" ({ cls := "SpokenMarks$Catalogue", name := "placeFor", desc := "(I)I" } : Jvm.MethodName) ({ cls := "SpokenMarks$Catalogue", name := "placeFor", desc := "(I)I" } : Jvm.MethodName)) ∈ lw_all := lw_g (lw_at lw_m7 128 rfl) rfl
theorem q1688 : (Jvm.Cond.code ({ cls := "SpokenMarks$Catalogue", name := "placeFor", desc := "(I)I" } : Jvm.MethodName) prog_5_method_11_code (2 : Nat) (Option.some Jvm.ClassFile.FieldType.int)) ∈ lw_all := lw_g (lw_at lw_m7 129 rfl) rfl
theorem q1751 : (Jvm.Cond.instanceMethod ({ cls := "SpokenMarks$Catalogue", name := "gap", desc := "()I" } : Jvm.MethodName)) ∈ lw_all := lw_g (lw_at lw_m7 192 rfl) rfl
theorem q1752 : (Jvm.Cond.selects "SpokenMarks$Catalogue" ({ cls := "SpokenMarks$Catalogue", name := "gap", desc := "()I" } : Jvm.MethodName) ({ cls := "SpokenMarks$Catalogue", name := "gap", desc := "()I" } : Jvm.MethodName)) ∈ lw_all := lw_g (lw_at lw_m7 193 rfl) rfl
theorem q1753 : (Jvm.Cond.code ({ cls := "SpokenMarks$Catalogue", name := "gap", desc := "()I" } : Jvm.MethodName) prog_5_method_33_code (3 : Nat) (Option.some Jvm.ClassFile.FieldType.int)) ∈ lw_all := lw_g (lw_at lw_m7 194 rfl) rfl
theorem q1759 : (Jvm.Cond.instanceMethod ({ cls := "SpokenMarks$Catalogue", name := "alike", desc := "()I" } : Jvm.MethodName)) ∈ lw_all := lw_g (lw_at lw_m7 200 rfl) rfl
theorem q1760 : (Jvm.Cond.selects "SpokenMarks$Catalogue" ({ cls := "SpokenMarks$Catalogue", name := "alike", desc := "()I" } : Jvm.MethodName) ({ cls := "SpokenMarks$Catalogue", name := "alike", desc := "()I" } : Jvm.MethodName)) ∈ lw_all := lw_g (lw_at lw_m7 201 rfl) rfl
theorem q1761 : (Jvm.Cond.code ({ cls := "SpokenMarks$Catalogue", name := "alike", desc := "()I" } : Jvm.MethodName) prog_5_method_30_code (4 : Nat) (Option.some Jvm.ClassFile.FieldType.int)) ∈ lw_all := lw_g (lw_at lw_m7 202 rfl) rfl
theorem q1762 : (Jvm.Cond.methodLink "SpokenMarks$Catalogue" (227 : Nat) ({ cls := "SpokenMarks$Spoken", name := "differ", desc := "(LSpokenMarks$Mark;LSpokenMarks$Mark;)I" } : Jvm.MethodName)) ∈ lw_all := lw_g (lw_at lw_m7 203 rfl) rfl
theorem q1795 : (Jvm.Cond.instanceMethod ({ cls := "SpokenMarks$Catalogue", name := "copy", desc := "()LSpokenMarks$Catalogue;" } : Jvm.MethodName)) ∈ lw_all := lw_g (lw_at lw_m7 236 rfl) rfl
theorem q1796 : (Jvm.Cond.selects "SpokenMarks$Catalogue" ({ cls := "SpokenMarks$Catalogue", name := "copy", desc := "()LSpokenMarks$Catalogue;" } : Jvm.MethodName) ({ cls := "SpokenMarks$Catalogue", name := "copy", desc := "()LSpokenMarks$Catalogue;" } : Jvm.MethodName)) ∈ lw_all := lw_g (lw_at lw_m7 237 rfl) rfl
theorem q1797 : (Jvm.Cond.code ({ cls := "SpokenMarks$Catalogue", name := "copy", desc := "()LSpokenMarks$Catalogue;" } : Jvm.MethodName) prog_5_method_2_code (4 : Nat) (Option.some (Jvm.ClassFile.FieldType.object "SpokenMarks$Catalogue"))) ∈ lw_all := lw_g (lw_at lw_m7 238 rfl) rfl
theorem q1798 : (Jvm.Cond.classLink "SpokenMarks$Catalogue" (15 : Nat) "SpokenMarks$Catalogue") ∈ lw_all := lw_g (lw_at lw_m7 239 rfl) rfl
theorem q1799 : (Jvm.Cond.methodLink "SpokenMarks$Catalogue" (54 : Nat) ({ cls := "SpokenMarks$Catalogue", name := "<init>", desc := "(II)V" } : Jvm.MethodName)) ∈ lw_all := lw_g (lw_at lw_m8 0 rfl) rfl
theorem q1800 : (Jvm.Cond.methodLink "SpokenMarks$Catalogue" (75 : Nat) ({ cls := "SpokenMarks$Mark", name := "copy", desc := "()LSpokenMarks$Mark;" } : Jvm.MethodName)) ∈ lw_all := lw_g (lw_at lw_m8 1 rfl) rfl
theorem q1806 : (Jvm.Cond.classLink "SpokenMarks$Catalogue" (83 : Nat) "SpokenMarks$Rule") ∈ lw_all := lw_g (lw_at lw_m8 7 rfl) rfl
theorem q1807 : (Jvm.Cond.methodLink "SpokenMarks$Catalogue" (98 : Nat) ({ cls := "[I", name := "clone", desc := "()Ljava/lang/Object;" } : Jvm.MethodName)) ∈ lw_all := lw_g (lw_at lw_m8 8 rfl) rfl
theorem q1811 : (Jvm.Cond.classLink "SpokenMarks$Catalogue" (99 : Nat) "[I") ∈ lw_all := lw_g (lw_at lw_m8 12 rfl) rfl
theorem q1822 : (Jvm.Cond.instanceMethod ({ cls := "SpokenMarks$Catalogue", name := "isThere", desc := "(LSpokenMarks$Mark;)Z" } : Jvm.MethodName)) ∈ lw_all := lw_g (lw_at lw_m8 23 rfl) rfl
theorem q1823 : (Jvm.Cond.selects "SpokenMarks$Catalogue" ({ cls := "SpokenMarks$Catalogue", name := "isThere", desc := "(LSpokenMarks$Mark;)Z" } : Jvm.MethodName) ({ cls := "SpokenMarks$Catalogue", name := "isThere", desc := "(LSpokenMarks$Mark;)Z" } : Jvm.MethodName)) ∈ lw_all := lw_g (lw_at lw_m8 24 rfl) rfl
theorem q1824 : (Jvm.Cond.code ({ cls := "SpokenMarks$Catalogue", name := "isThere", desc := "(LSpokenMarks$Mark;)Z" } : Jvm.MethodName) prog_5_method_8_code (3 : Nat) (Option.some Jvm.ClassFile.FieldType.boolean)) ∈ lw_all := lw_g (lw_at lw_m8 25 rfl) rfl
theorem q1832 : (Jvm.Cond.instanceMethod ({ cls := "SpokenMarks$Catalogue", name := "balance", desc := "()I" } : Jvm.MethodName)) ∈ lw_all := lw_g (lw_at lw_m8 33 rfl) rfl
theorem q1833 : (Jvm.Cond.selects "SpokenMarks$Catalogue" ({ cls := "SpokenMarks$Catalogue", name := "balance", desc := "()I" } : Jvm.MethodName) ({ cls := "SpokenMarks$Catalogue", name := "balance", desc := "()I" } : Jvm.MethodName)) ∈ lw_all := lw_g (lw_at lw_m8 34 rfl) rfl
theorem q1834 : (Jvm.Cond.code ({ cls := "SpokenMarks$Catalogue", name := "balance", desc := "()I" } : Jvm.MethodName) prog_5_method_26_code (4 : Nat) (Option.some Jvm.ClassFile.FieldType.int)) ∈ lw_all := lw_g (lw_at lw_m8 35 rfl) rfl
theorem q1835 : (Jvm.Cond.methodLink "SpokenMarks$Catalogue" (221 : Nat) ({ cls := "java/lang/Math", name := "min", desc := "(II)I" } : Jvm.MethodName)) ∈ lw_all := lw_g (lw_at lw_m8 36 rfl) rfl
theorem q1836 : (Jvm.Cond.methodLink "SpokenMarks$Catalogue" (224 : Nat) ({ cls := "SpokenMarks$Catalogue", name := "shelvesOver", desc := "()I" } : Jvm.MethodName)) ∈ lw_all := lw_g (lw_at lw_m8 37 rfl) rfl
theorem q1837 : (Jvm.Cond.instanceMethod ({ cls := "SpokenMarks$Catalogue", name := "shelvesOver", desc := "()I" } : Jvm.MethodName)) ∈ lw_all := lw_g (lw_at lw_m8 38 rfl) rfl
theorem q1838 : (Jvm.Cond.selects "SpokenMarks$Catalogue" ({ cls := "SpokenMarks$Catalogue", name := "shelvesOver", desc := "()I" } : Jvm.MethodName) ({ cls := "SpokenMarks$Catalogue", name := "shelvesOver", desc := "()I" } : Jvm.MethodName)) ∈ lw_all := lw_g (lw_at lw_m8 39 rfl) rfl
theorem q1839 : (Jvm.Cond.code ({ cls := "SpokenMarks$Catalogue", name := "shelvesOver", desc := "()I" } : Jvm.MethodName) prog_5_method_24_code (3 : Nat) (Option.some Jvm.ClassFile.FieldType.int)) ∈ lw_all := lw_g (lw_at lw_m8 40 rfl) rfl
theorem q1840 : (Jvm.Cond.methodLink "SpokenMarks$Catalogue" (218 : Nat) ({ cls := "SpokenMarks$Catalogue", name := "overOn", desc := "(I)I" } : Jvm.MethodName)) ∈ lw_all := lw_g (lw_at lw_m8 41 rfl) rfl
theorem q1841 : (Jvm.Cond.instanceMethod ({ cls := "SpokenMarks$Catalogue", name := "overOn", desc := "(I)I" } : Jvm.MethodName)) ∈ lw_all := lw_g (lw_at lw_m8 42 rfl) rfl
theorem q1842 : (Jvm.Cond.selects "SpokenMarks$Catalogue" ({ cls := "SpokenMarks$Catalogue", name := "overOn", desc := "(I)I" } : Jvm.MethodName) ({ cls := "SpokenMarks$Catalogue", name := "overOn", desc := "(I)I" } : Jvm.MethodName)) ∈ lw_all := lw_g (lw_at lw_m8 43 rfl) rfl
theorem q1843 : (Jvm.Cond.code ({ cls := "SpokenMarks$Catalogue", name := "overOn", desc := "(I)I" } : Jvm.MethodName) prog_5_method_23_code (2 : Nat) (Option.some Jvm.ClassFile.FieldType.int)) ∈ lw_all := lw_g (lw_at lw_m8 44 rfl) rfl
theorem q1844 : (Jvm.Cond.methodLink "SpokenMarks$Catalogue" (210 : Nat) ({ cls := "SpokenMarks$Catalogue", name := "widthOn", desc := "(I)I" } : Jvm.MethodName)) ∈ lw_all := lw_g (lw_at lw_m8 45 rfl) rfl
theorem q1845 : (Jvm.Cond.instanceMethod ({ cls := "SpokenMarks$Catalogue", name := "widthOn", desc := "(I)I" } : Jvm.MethodName)) ∈ lw_all := lw_g (lw_at lw_m8 46 rfl) rfl
theorem q1846 : (Jvm.Cond.selects "SpokenMarks$Catalogue" ({ cls := "SpokenMarks$Catalogue", name := "widthOn", desc := "(I)I" } : Jvm.MethodName) ({ cls := "SpokenMarks$Catalogue", name := "widthOn", desc := "(I)I" } : Jvm.MethodName)) ∈ lw_all := lw_g (lw_at lw_m8 47 rfl) rfl
theorem q1847 : (Jvm.Cond.code ({ cls := "SpokenMarks$Catalogue", name := "widthOn", desc := "(I)I" } : Jvm.MethodName) prog_5_method_22_code (4 : Nat) (Option.some Jvm.ClassFile.FieldType.int)) ∈ lw_all := lw_g (lw_at lw_m8 48 rfl) rfl
theorem q1848 : (Jvm.Cond.methodLink "SpokenMarks$Catalogue" (207 : Nat) ({ cls := "SpokenMarks$Catalogue", name := "shelfOf", desc := "(I)I" } : Jvm.MethodName)) ∈ lw_all := lw_g (lw_at lw_m8 49 rfl) rfl
theorem q1849 : (Jvm.Cond.instanceMethod ({ cls := "SpokenMarks$Catalogue", name := "shelfOf", desc := "(I)I" } : Jvm.MethodName)) ∈ lw_all := lw_g (lw_at lw_m8 50 rfl) rfl
theorem q1850 : (Jvm.Cond.selects "SpokenMarks$Catalogue" ({ cls := "SpokenMarks$Catalogue", name := "shelfOf", desc := "(I)I" } : Jvm.MethodName) ({ cls := "SpokenMarks$Catalogue", name := "shelfOf", desc := "(I)I" } : Jvm.MethodName)) ∈ lw_all := lw_g (lw_at lw_m8 51 rfl) rfl
theorem q1851 : (Jvm.Cond.code ({ cls := "SpokenMarks$Catalogue", name := "shelfOf", desc := "(I)I" } : Jvm.MethodName) prog_5_method_20_code (3 : Nat) (Option.some Jvm.ClassFile.FieldType.int)) ∈ lw_all := lw_g (lw_at lw_m8 52 rfl) rfl
theorem q1852 : (Jvm.Cond.methodLink "SpokenMarks$Catalogue" (213 : Nat) ({ cls := "java/lang/Math", name := "max", desc := "(II)I" } : Jvm.MethodName)) ∈ lw_all := lw_g (lw_at lw_m8 53 rfl) rfl
theorem q1858 : (Jvm.Cond.instanceMethod ({ cls := "SpokenMarks$Catalogue", name := "isBound", desc := "(II)Z" } : Jvm.MethodName)) ∈ lw_all := lw_g (lw_at lw_m8 59 rfl) rfl
theorem q1859 : (Jvm.Cond.selects "SpokenMarks$Catalogue" ({ cls := "SpokenMarks$Catalogue", name := "isBound", desc := "(II)Z" } : Jvm.MethodName) ({ cls := "SpokenMarks$Catalogue", name := "isBound", desc := "(II)Z" } : Jvm.MethodName)) ∈ lw_all := lw_g (lw_at lw_m8 60 rfl) rfl
theorem q1860 : (Jvm.Cond.code ({ cls := "SpokenMarks$Catalogue", name := "isBound", desc := "(II)Z" } : Jvm.MethodName) prog_5_method_27_code (3 : Nat) (Option.some Jvm.ClassFile.FieldType.boolean)) ∈ lw_all := lw_g (lw_at lw_m8 61 rfl) rfl
theorem q1865 : (Jvm.Cond.instanceMethod ({ cls := "SpokenMarks$Catalogue", name := "rankOf", desc := "(I)I" } : Jvm.MethodName)) ∈ lw_all := lw_g (lw_at lw_m8 66 rfl) rfl
theorem q1866 : (Jvm.Cond.selects "SpokenMarks$Catalogue" ({ cls := "SpokenMarks$Catalogue", name := "rankOf", desc := "(I)I" } : Jvm.MethodName) ({ cls := "SpokenMarks$Catalogue", name := "rankOf", desc := "(I)I" } : Jvm.MethodName)) ∈ lw_all := lw_g (lw_at lw_m8 67 rfl) rfl
theorem q1867 : (Jvm.Cond.code ({ cls := "SpokenMarks$Catalogue", name := "rankOf", desc := "(I)I" } : Jvm.MethodName) prog_5_method_6_code (3 : Nat) (Option.some Jvm.ClassFile.FieldType.int)) ∈ lw_all := lw_g (lw_at lw_m8 68 rfl) rfl
theorem q1888 : (Jvm.Cond.instanceMethod ({ cls := "SpokenMarks$Catalogue", name := "ruleFor", desc := "(Ljava/lang/String;)I" } : Jvm.MethodName)) ∈ lw_all := lw_g (lw_at lw_m8 89 rfl) rfl
theorem q1889 : (Jvm.Cond.selects "SpokenMarks$Catalogue" ({ cls := "SpokenMarks$Catalogue", name := "ruleFor", desc := "(Ljava/lang/String;)I" } : Jvm.MethodName) ({ cls := "SpokenMarks$Catalogue", name := "ruleFor", desc := "(Ljava/lang/String;)I" } : Jvm.MethodName)) ∈ lw_all := lw_g (lw_at lw_m8 90 rfl) rfl
theorem q1890 : (Jvm.Cond.code ({ cls := "SpokenMarks$Catalogue", name := "ruleFor", desc := "(Ljava/lang/String;)I" } : Jvm.MethodName) prog_5_method_17_code (3 : Nat) (Option.some Jvm.ClassFile.FieldType.int)) ∈ lw_all := lw_g (lw_at lw_m8 91 rfl) rfl
theorem q1891 : (Jvm.Cond.methodLink "SpokenMarks$Catalogue" (196 : Nat) ({ cls := "java/lang/String", name := "equals", desc := "(Ljava/lang/Object;)Z" } : Jvm.MethodName)) ∈ lw_all := lw_g (lw_at lw_m8 92 rfl) rfl
theorem q1901 : (Jvm.Cond.instanceMethod ({ cls := "SpokenMarks$Catalogue", name := "unsay", desc := "(I)I" } : Jvm.MethodName)) ∈ lw_all := lw_g (lw_at lw_m8 102 rfl) rfl
theorem q1902 : (Jvm.Cond.selects "SpokenMarks$Catalogue" ({ cls := "SpokenMarks$Catalogue", name := "unsay", desc := "(I)I" } : Jvm.MethodName) ({ cls := "SpokenMarks$Catalogue", name := "unsay", desc := "(I)I" } : Jvm.MethodName)) ∈ lw_all := lw_g (lw_at lw_m8 103 rfl) rfl
theorem q1903 : (Jvm.Cond.code ({ cls := "SpokenMarks$Catalogue", name := "unsay", desc := "(I)I" } : Jvm.MethodName) prog_5_method_19_code (4 : Nat) (Option.some Jvm.ClassFile.FieldType.int)) ∈ lw_all := lw_g (lw_at lw_m8 104 rfl) rfl
theorem q1904 : (Jvm.Cond.interfaceEntry "SpokenMarks$Catalogue" (202 : Nat)) ∈ lw_tbl := lw_at lw_m8 105 rfl
theorem q1905 : (Jvm.Cond.methodLink "SpokenMarks$Catalogue" (202 : Nat) ({ cls := "java/util/List", name := "remove", desc := "(I)Ljava/lang/Object;" } : Jvm.MethodName)) ∈ lw_all := lw_g (lw_at lw_m8 106 rfl) rfl
theorem q1906 : (Jvm.Cond.interfaceEntry "SpokenMarks$Catalogue" (205 : Nat)) ∈ lw_tbl := lw_at lw_m8 107 rfl
theorem q1907 : (Jvm.Cond.methodLink "SpokenMarks$Catalogue" (205 : Nat) ({ cls := "java/util/Map", name := "remove", desc := "(Ljava/lang/Object;)Ljava/lang/Object;" } : Jvm.MethodName)) ∈ lw_all := lw_g (lw_at lw_m8 108 rfl) rfl
theorem q2256 : (Jvm.Cond.instanceMethod ({ cls := "SpokenMarks$Catalogue", name := "widths", desc := "()I" } : Jvm.MethodName)) ∈ lw_all := lw_g (lw_at lw_m9 217 rfl) rfl
theorem q2257 : (Jvm.Cond.selects "SpokenMarks$Catalogue" ({ cls := "SpokenMarks$Catalogue", name := "widths", desc := "()I" } : Jvm.MethodName) ({ cls := "SpokenMarks$Catalogue", name := "widths", desc := "()I" } : Jvm.MethodName)) ∈ lw_all := lw_g (lw_at lw_m9 218 rfl) rfl
theorem q2258 : (Jvm.Cond.code ({ cls := "SpokenMarks$Catalogue", name := "widths", desc := "()I" } : Jvm.MethodName) prog_5_method_28_code (4 : Nat) (Option.some Jvm.ClassFile.FieldType.int)) ∈ lw_all := lw_g (lw_at lw_m9 219 rfl) rfl
theorem q2260 : (Jvm.Cond.instanceMethod ({ cls := "SpokenMarks$Catalogue", name := "leastStep", desc := "()I" } : Jvm.MethodName)) ∈ lw_all := lw_g (lw_at lw_m9 221 rfl) rfl
theorem q2261 : (Jvm.Cond.selects "SpokenMarks$Catalogue" ({ cls := "SpokenMarks$Catalogue", name := "leastStep", desc := "()I" } : Jvm.MethodName) ({ cls := "SpokenMarks$Catalogue", name := "leastStep", desc := "()I" } : Jvm.MethodName)) ∈ lw_all := lw_g (lw_at lw_m9 222 rfl) rfl
theorem q2262 : (Jvm.Cond.code ({ cls := "SpokenMarks$Catalogue", name := "leastStep", desc := "()I" } : Jvm.MethodName) prog_5_method_29_code (3 : Nat) (Option.some Jvm.ClassFile.FieldType.int)) ∈ lw_all := lw_g (lw_at lw_m9 223 rfl) rfl
theorem q2345 : (Jvm.Cond.instanceMethod ({ cls := "SpokenMarks$Catalogue", name := "marksOn", desc := "(I)I" } : Jvm.MethodName)) ∈ lw_all := lw_g (lw_at lw_m10 66 rfl) rfl
theorem q2346 : (Jvm.Cond.selects "SpokenMarks$Catalogue" ({ cls := "SpokenMarks$Catalogue", name := "marksOn", desc := "(I)I" } : Jvm.MethodName) ({ cls := "SpokenMarks$Catalogue", name := "marksOn", desc := "(I)I" } : Jvm.MethodName)) ∈ lw_all := lw_g (lw_at lw_m10 67 rfl) rfl
theorem q2347 : (Jvm.Cond.code ({ cls := "SpokenMarks$Catalogue", name := "marksOn", desc := "(I)I" } : Jvm.MethodName) prog_5_method_21_code (4 : Nat) (Option.some Jvm.ClassFile.FieldType.int)) ∈ lw_all := lw_g (lw_at lw_m10 68 rfl) rfl
theorem q2351 : (Jvm.Cond.instanceMethod ({ cls := "SpokenMarks$Catalogue", name := "endOn", desc := "(IZ)I" } : Jvm.MethodName)) ∈ lw_all := lw_g (lw_at lw_m10 72 rfl) rfl
theorem q2352 : (Jvm.Cond.selects "SpokenMarks$Catalogue" ({ cls := "SpokenMarks$Catalogue", name := "endOn", desc := "(IZ)I" } : Jvm.MethodName) ({ cls := "SpokenMarks$Catalogue", name := "endOn", desc := "(IZ)I" } : Jvm.MethodName)) ∈ lw_all := lw_g (lw_at lw_m10 73 rfl) rfl
theorem q2353 : (Jvm.Cond.code ({ cls := "SpokenMarks$Catalogue", name := "endOn", desc := "(IZ)I" } : Jvm.MethodName) prog_5_method_25_code (6 : Nat) (Option.some Jvm.ClassFile.FieldType.int)) ∈ lw_all := lw_g (lw_at lw_m10 74 rfl) rfl
theorem q2390 : (Jvm.Cond.instanceMethod ({ cls := "SpokenMarks$Catalogue", name := "family", desc := "(LSpokenMarks$Mark;)I" } : Jvm.MethodName)) ∈ lw_all := lw_g (lw_at lw_m10 111 rfl) rfl
theorem q2391 : (Jvm.Cond.selects "SpokenMarks$Catalogue" ({ cls := "SpokenMarks$Catalogue", name := "family", desc := "(LSpokenMarks$Mark;)I" } : Jvm.MethodName) ({ cls := "SpokenMarks$Catalogue", name := "family", desc := "(LSpokenMarks$Mark;)I" } : Jvm.MethodName)) ∈ lw_all := lw_g (lw_at lw_m10 112 rfl) rfl
theorem q2392 : (Jvm.Cond.code ({ cls := "SpokenMarks$Catalogue", name := "family", desc := "(LSpokenMarks$Mark;)I" } : Jvm.MethodName) prog_5_method_31_code (4 : Nat) (Option.some Jvm.ClassFile.FieldType.int)) ∈ lw_all := lw_g (lw_at lw_m10 113 rfl) rfl
theorem q2393 : (Jvm.Cond.methodLink "SpokenMarks$Catalogue" (231 : Nat) ({ cls := "SpokenMarks$Part", name := "compare", desc := "(LSpokenMarks$Part;LSpokenMarks$Part;Z)I" } : Jvm.MethodName)) ∈ lw_all := lw_g (lw_at lw_m10 114 rfl) rfl
theorem q2466 : (Jvm.Cond.instanceMethod ({ cls := "SpokenMarks$Catalogue", name := "movesFor", desc := "(I)I" } : Jvm.MethodName)) ∈ lw_all := lw_g (lw_at lw_m10 187 rfl) rfl
theorem q2467 : (Jvm.Cond.selects "SpokenMarks$Catalogue" ({ cls := "SpokenMarks$Catalogue", name := "movesFor", desc := "(I)I" } : Jvm.MethodName) ({ cls := "SpokenMarks$Catalogue", name := "movesFor", desc := "(I)I" } : Jvm.MethodName)) ∈ lw_all := lw_g (lw_at lw_m10 188 rfl) rfl
theorem q2468 : (Jvm.Cond.code ({ cls := "SpokenMarks$Catalogue", name := "movesFor", desc := "(I)I" } : Jvm.MethodName) prog_5_method_13_code (4 : Nat) (Option.some Jvm.ClassFile.FieldType.int)) ∈ lw_all := lw_g (lw_at lw_m10 189 rfl) rfl
theorem q2481 : (Jvm.Cond.instanceMethod ({ cls := "SpokenMarks$Catalogue", name := "firstLike", desc := "(LSpokenMarks$Mark;)I" } : Jvm.MethodName)) ∈ lw_all := lw_g (lw_at lw_m10 202 rfl) rfl
theorem q2482 : (Jvm.Cond.selects "SpokenMarks$Catalogue" ({ cls := "SpokenMarks$Catalogue", name := "firstLike", desc := "(LSpokenMarks$Mark;)I" } : Jvm.MethodName) ({ cls := "SpokenMarks$Catalogue", name := "firstLike", desc := "(LSpokenMarks$Mark;)I" } : Jvm.MethodName)) ∈ lw_all := lw_g (lw_at lw_m10 203 rfl) rfl
theorem q2483 : (Jvm.Cond.code ({ cls := "SpokenMarks$Catalogue", name := "firstLike", desc := "(LSpokenMarks$Mark;)I" } : Jvm.MethodName) prog_5_method_32_code (3 : Nat) (Option.some Jvm.ClassFile.FieldType.int)) ∈ lw_all := lw_g (lw_at lw_m10 204 rfl) rfl
theorem q3435 : (Jvm.Cond.castable "SpokenMarks$Catalogue" "java/lang/Object") ∈ lw_tbl := lw_at lw_m14 196 rfl
theorem in_X2 : ∀ w ∈ wsX20, w ∈ lw_all := lw_in wsX20 [615, 617, 619, 621, 623, 625, 627, 629, 631] (by decide +kernel) (by decide +kernel)
