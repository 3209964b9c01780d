/-! SpokenMarksModel -/
set_option maxRecDepth 100000
def RX10 : String := "SpokenMarksModel"
def TX10 : u_T := fun k => match k with
  | 0 => ("SpokenMarksModel", "thrown", "I", false)
  | 1 => ("SpokenMarksModel", "spelt", "[I", true)
  | 2 => ("SpokenMarksModel", "speltMany", "I", false)
  | 3 => ("SpokenMarksModel", "now", "[J", true)
  | 4 => ("SpokenMarksModel", "aside", "[J", true)
  | 5 => ("SpokenMarksModel", "told", "[J", true)
  | 6 => ("SpokenMarksModel", "loading", "[J", true)
  | 7 => ("SpokenMarksModel", "saved", "[J", true)
  | 8 => ("SpokenMarksModel", "before", "[J", true)
  | 9 => ("SpokenMarksModel", "done", "I", false)
  | 10 => ("SpokenMarksModel", "refused", "I", false)
  | 11 => ("SpokenMarksModel", "undone", "I", false)
  | 12 => ("SpokenMarksModel", "undoable", "I", false)
  | 13 => ("SpokenMarksModel", "isSaved", "Z", false)
  | 14 => ("SpokenMarksModel", "buffer", "[I", true)
  | 15 => ("SpokenMarksModel", "buffered", "I", false)
  | 16 => ("SpokenMarksModel", "textEnd", "I", false)
  | 17 => ("SpokenMarksModel", "at", "I", false)
  | 18 => ("SpokenMarksModel", "begin", "I", false)
  | 19 => ("SpokenMarksModel", "kind", "I", false)
  | 20 => ("SpokenMarksModel", "value0", "I", false)
  | 21 => ("SpokenMarksModel", "wrong", "I", false)
  | 22 => ("SpokenMarksModel", "wrongAt", "I", false)
  | 23 => ("SpokenMarksModel", "parts", "[J", true)
  | 24 => ("SpokenMarksModel", "partMany", "I", false)
  | 25 => ("SpokenMarksModel", "reasonCause", "I", false)
  | 26 => ("SpokenMarksModel", "sayWord", "J", false)
  | 27 => ("SpokenMarksModel", "saySpoken", "J", false)
  | 28 => ("SpokenMarksModel", "orderRow", "[J", true)
  | 29 => ("SpokenMarksModel", "orders", "I", false)
  | 30 => ("SpokenMarksModel", "line", "[I", true)
  | 31 => ("SpokenMarksModel", "figures", "[I", true)
  | _ => ("SpokenMarksModel", "lineSize", "I", false)
def tyX10 : Nat → FieldType := fun k => match k with
  | 0 => .int
  | 1 => .array .int
  | 2 => .int
  | 3 => .array .long
  | 4 => .array .long
  | 5 => .array .long
  | 6 => .array .long
  | 7 => .array .long
  | 8 => .array .long
  | 9 => .int
  | 10 => .int
  | 11 => .int
  | 12 => .int
  | 13 => .boolean
  | 14 => .array .int
  | 15 => .int
  | 16 => .int
  | 17 => .int
  | 18 => .int
  | 19 => .int
  | 20 => .int
  | 21 => .int
  | 22 => .int
  | 23 => .array .long
  | 24 => .int
  | 25 => .int
  | 26 => .long
  | 27 => .long
  | 28 => .array .long
  | 29 => .int
  | 30 => .array .int
  | 31 => .array .int
  | _ => .int
abbrev wsX100 : List Cond := u_ws RX10 TX10 33
set_option maxRecDepth 100000 in
theorem nmX10 : ∀ a, a < 33 → ∀ b, b < 33 → a ≠ b → (TX10 a).2.1 ≠ (TX10 b).2.1 := by decide +kernel
set_option maxRecDepth 100000 in
theorem tyX10_ok : ∀ k, k < 33 → parseFieldDescriptor (TX10 k).2.2.1 = some (tyX10 k) := by decide +kernel
abbrev cX10_thrown : ByteArray := prog_28_method_1_code
def yX10_thrown : MethodName := ⟨RX10, "thrown", "()I"⟩
theorem dX10_thrown_0 : decode cX10_thrown 0 = .ok (.aload_n 0, 1) := by decide +kernel
theorem dX10_thrown_1 : decode cX10_thrown 1 = .ok (.getfield 1, 3) := by decide +kernel
theorem dX10_thrown_4 : decode cX10_thrown 4 = .ok (.ireturn, 1) := by decide +kernel
abbrev cX10_init : ByteArray := prog_28_method_13_code
def yX10_init : MethodName := ⟨RX10, "<init>", "()V"⟩
def dkwX10_init_7 : List UInt8 := [182, 0, 115, 61, 177]
abbrev dktX10_init_7 : List UInt8 := dkwX10_init_7 ++ []
def dkwX10_init_6 : List UInt8 := [28, 182, 0, 108, 79, 132, 2, 1, 167, 255, 234, 42, 43, 182, 0, 102, 181, 0, 112, 42, 42, 180, 0, 112]
abbrev dktX10_init_6 : List UInt8 := dkwX10_init_6 ++ dktX10_init_7
def dkwX10_init_5 : List UInt8 := [188, 10, 181, 0, 97, 18, 100, 76, 3, 61, 28, 43, 182, 0, 102, 162, 0, 20, 42, 180, 0, 79, 28, 43]
abbrev dktX10_init_5 : List UInt8 := dkwX10_init_5 ++ dktX10_init_6
def dkwX10_init_4 : List UInt8 := [181, 0, 88, 42, 17, 0, 180, 188, 11, 181, 0, 91, 42, 16, 120, 188, 10, 181, 0, 94, 42, 16, 6]
abbrev dktX10_init_4 : List UInt8 := dkwX10_init_4 ++ dktX10_init_5
def dkwX10_init_3 : List UInt8 := [17, 3, 32, 188, 10, 181, 0, 79, 42, 2, 181, 0, 82, 42, 8, 188, 11, 181, 0, 85, 42, 2]
abbrev dktX10_init_3 : List UInt8 := dkwX10_init_3 ++ dktX10_init_4
def dkwX10_init_2 : List UInt8 := [181, 0, 70, 42, 17, 2, 94, 188, 11, 181, 0, 73, 42, 17, 18, 240, 188, 11, 181, 0, 76, 42]
abbrev dktX10_init_2 : List UInt8 := dkwX10_init_2 ++ dktX10_init_3
def dkwX10_init_1 : List UInt8 := [17, 2, 94, 188, 11, 181, 0, 64, 42, 17, 2, 94, 188, 11, 181, 0, 67, 42, 17, 2, 94, 188, 11]
abbrev dktX10_init_1 : List UInt8 := dkwX10_init_1 ++ dktX10_init_2
def dkwX10_init_0 : List UInt8 := [42, 183, 0, 54, 42, 16, 8, 188, 10, 181, 0, 9, 42, 17, 2, 94, 188, 11, 181, 0, 60, 42]
abbrev dktX10_init_0 : List UInt8 := dkwX10_init_0 ++ dktX10_init_1
theorem dksX10_init_0 : cX10_init.data.toList.drop 0 = dktX10_init_0 := by decide +kernel
theorem dksX10_init_1 : cX10_init.data.toList.drop 22 = dktX10_init_1 := dk_seg dksX10_init_0 22 rfl rfl
theorem dksX10_init_2 : cX10_init.data.toList.drop 45 = dktX10_init_2 := dk_seg dksX10_init_1 23 rfl rfl
theorem dksX10_init_3 : cX10_init.data.toList.drop 67 = dktX10_init_3 := dk_seg dksX10_init_2 22 rfl rfl
theorem dksX10_init_4 : cX10_init.data.toList.drop 89 = dktX10_init_4 := dk_seg dksX10_init_3 22 rfl rfl
theorem dksX10_init_5 : cX10_init.data.toList.drop 112 = dktX10_init_5 := dk_seg dksX10_init_4 23 rfl rfl
theorem dksX10_init_6 : cX10_init.data.toList.drop 136 = dktX10_init_6 := dk_seg dksX10_init_5 24 rfl rfl
theorem dksX10_init_7 : cX10_init.data.toList.drop 160 = dktX10_init_7 := dk_seg dksX10_init_6 24 rfl rfl
theorem dX10_init_0 : decode cX10_init 0 = .ok (.aload_n 0, 1) := dk_42 (dk_at dksX10_init_0 0 rfl rfl)
theorem dX10_init_1 : decode cX10_init 1 = .ok (.invokespecial 54, 3) := dk_183 0 54 (dk_at dksX10_init_0 1 rfl rfl)
theorem dX10_init_4 : decode cX10_init 4 = .ok (.aload_n 0, 1) := dk_42 (dk_at dksX10_init_0 4 rfl rfl)
theorem dX10_init_5 : decode cX10_init 5 = .ok (.bipush 8, 2) := dk_16 8 (dk_at dksX10_init_0 5 rfl rfl)
theorem dX10_init_7 : decode cX10_init 7 = .ok (.newarray .int, 2) := dk_188_10 (dk_at dksX10_init_0 7 rfl rfl)
theorem dX10_init_9 : decode cX10_init 9 = .ok (.putfield 9, 3) := dk_181 0 9 (dk_at dksX10_init_0 9 rfl rfl)
theorem dX10_init_12 : decode cX10_init 12 = .ok (.aload_n 0, 1) := dk_42 (dk_at dksX10_init_0 12 rfl rfl)
theorem dX10_init_13 : decode cX10_init 13 = .ok (.sipush 606, 3) := dk_17 2 94 (dk_at dksX10_init_0 13 rfl rfl)
theorem dX10_init_16 : decode cX10_init 16 = .ok (.newarray .long, 2) := dk_188_11 (dk_at dksX10_init_0 16 rfl rfl)
theorem dX10_init_18 : decode cX10_init 18 = .ok (.putfield 60, 3) := dk_181 0 60 (dk_at dksX10_init_0 18 rfl rfl)
theorem dX10_init_21 : decode cX10_init 21 = .ok (.aload_n 0, 1) := dk_42 (dk_at dksX10_init_0 21 rfl rfl)
theorem dX10_init_22 : decode cX10_init 22 = .ok (.sipush 606, 3) := dk_17 2 94 (dk_at dksX10_init_1 0 rfl rfl)
theorem dX10_init_25 : decode cX10_init 25 = .ok (.newarray .long, 2) := dk_188_11 (dk_at dksX10_init_1 3 rfl rfl)
theorem dX10_init_27 : decode cX10_init 27 = .ok (.putfield 64, 3) := dk_181 0 64 (dk_at dksX10_init_1 5 rfl rfl)
theorem dX10_init_30 : decode cX10_init 30 = .ok (.aload_n 0, 1) := dk_42 (dk_at dksX10_init_1 8 rfl rfl)
theorem dX10_init_31 : decode cX10_init 31 = .ok (.sipush 606, 3) := dk_17 2 94 (dk_at dksX10_init_1 9 rfl rfl)
theorem dX10_init_34 : decode cX10_init 34 = .ok (.newarray .long, 2) := dk_188_11 (dk_at dksX10_init_1 12 rfl rfl)
theorem dX10_init_36 : decode cX10_init 36 = .ok (.putfield 67, 3) := dk_181 0 67 (dk_at dksX10_init_1 14 rfl rfl)
theorem dX10_init_39 : decode cX10_init 39 = .ok (.aload_n 0, 1) := dk_42 (dk_at dksX10_init_1 17 rfl rfl)
theorem dX10_init_40 : decode cX10_init 40 = .ok (.sipush 606, 3) := dk_17 2 94 (dk_at dksX10_init_1 18 rfl rfl)
theorem dX10_init_43 : decode cX10_init 43 = .ok (.newarray .long, 2) := dk_188_11 (dk_at dksX10_init_1 21 rfl rfl)
theorem dX10_init_45 : decode cX10_init 45 = .ok (.putfield 70, 3) := dk_181 0 70 (dk_at dksX10_init_2 0 rfl rfl)
theorem dX10_init_48 : decode cX10_init 48 = .ok (.aload_n 0, 1) := dk_42 (dk_at dksX10_init_2 3 rfl rfl)
theorem dX10_init_49 : decode cX10_init 49 = .ok (.sipush 606, 3) := dk_17 2 94 (dk_at dksX10_init_2 4 rfl rfl)
theorem dX10_init_52 : decode cX10_init 52 = .ok (.newarray .long, 2) := dk_188_11 (dk_at dksX10_init_2 7 rfl rfl)
theorem dX10_init_54 : decode cX10_init 54 = .ok (.putfield 73, 3) := dk_181 0 73 (dk_at dksX10_init_2 9 rfl rfl)
theorem dX10_init_57 : decode cX10_init 57 = .ok (.aload_n 0, 1) := dk_42 (dk_at dksX10_init_2 12 rfl rfl)
theorem dX10_init_58 : decode cX10_init 58 = .ok (.sipush 4848, 3) := dk_17 18 240 (dk_at dksX10_init_2 13 rfl rfl)
theorem dX10_init_61 : decode cX10_init 61 = .ok (.newarray .long, 2) := dk_188_11 (dk_at dksX10_init_2 16 rfl rfl)
theorem dX10_init_63 : decode cX10_init 63 = .ok (.putfield 76, 3) := dk_181 0 76 (dk_at dksX10_init_2 18 rfl rfl)
theorem dX10_init_66 : decode cX10_init 66 = .ok (.aload_n 0, 1) := dk_42 (dk_at dksX10_init_2 21 rfl rfl)
theorem dX10_init_67 : decode cX10_init 67 = .ok (.sipush 800, 3) := dk_17 3 32 (dk_at dksX10_init_3 0 rfl rfl)
theorem dX10_init_70 : decode cX10_init 70 = .ok (.newarray .int, 2) := dk_188_10 (dk_at dksX10_init_3 3 rfl rfl)
theorem dX10_init_72 : decode cX10_init 72 = .ok (.putfield 79, 3) := dk_181 0 79 (dk_at dksX10_init_3 5 rfl rfl)
theorem dX10_init_75 : decode cX10_init 75 = .ok (.aload_n 0, 1) := dk_42 (dk_at dksX10_init_3 8 rfl rfl)
theorem dX10_init_76 : decode cX10_init 76 = .ok (.iconst (-1), 1) := dk_2 (dk_at dksX10_init_3 9 rfl rfl)
theorem dX10_init_77 : decode cX10_init 77 = .ok (.putfield 82, 3) := dk_181 0 82 (dk_at dksX10_init_3 10 rfl rfl)
theorem dX10_init_80 : decode cX10_init 80 = .ok (.aload_n 0, 1) := dk_42 (dk_at dksX10_init_3 13 rfl rfl)
theorem dX10_init_81 : decode cX10_init 81 = .ok (.iconst 5, 1) := dk_8 (dk_at dksX10_init_3 14 rfl rfl)
theorem dX10_init_82 : decode cX10_init 82 = .ok (.newarray .long, 2) := dk_188_11 (dk_at dksX10_init_3 15 rfl rfl)
theorem dX10_init_84 : decode cX10_init 84 = .ok (.putfield 85, 3) := dk_181 0 85 (dk_at dksX10_init_3 17 rfl rfl)
theorem dX10_init_87 : decode cX10_init 87 = .ok (.aload_n 0, 1) := dk_42 (dk_at dksX10_init_3 20 rfl rfl)
theorem dX10_init_88 : decode cX10_init 88 = .ok (.iconst (-1), 1) := dk_2 (dk_at dksX10_init_3 21 rfl rfl)
theorem dX10_init_89 : decode cX10_init 89 = .ok (.putfield 88, 3) := dk_181 0 88 (dk_at dksX10_init_4 0 rfl rfl)
theorem dX10_init_92 : decode cX10_init 92 = .ok (.aload_n 0, 1) := dk_42 (dk_at dksX10_init_4 3 rfl rfl)
theorem dX10_init_93 : decode cX10_init 93 = .ok (.sipush 180, 3) := dk_17 0 180 (dk_at dksX10_init_4 4 rfl rfl)
theorem dX10_init_96 : decode cX10_init 96 = .ok (.newarray .long, 2) := dk_188_11 (dk_at dksX10_init_4 7 rfl rfl)
theorem dX10_init_98 : decode cX10_init 98 = .ok (.putfield 91, 3) := dk_181 0 91 (dk_at dksX10_init_4 9 rfl rfl)
theorem dX10_init_101 : decode cX10_init 101 = .ok (.aload_n 0, 1) := dk_42 (dk_at dksX10_init_4 12 rfl rfl)
theorem dX10_init_102 : decode cX10_init 102 = .ok (.bipush 120, 2) := dk_16 120 (dk_at dksX10_init_4 13 rfl rfl)
theorem dX10_init_104 : decode cX10_init 104 = .ok (.newarray .int, 2) := dk_188_10 (dk_at dksX10_init_4 15 rfl rfl)
theorem dX10_init_106 : decode cX10_init 106 = .ok (.putfield 94, 3) := dk_181 0 94 (dk_at dksX10_init_4 17 rfl rfl)
theorem dX10_init_109 : decode cX10_init 109 = .ok (.aload_n 0, 1) := dk_42 (dk_at dksX10_init_4 20 rfl rfl)
theorem dX10_init_110 : decode cX10_init 110 = .ok (.bipush 6, 2) := dk_16 6 (dk_at dksX10_init_4 21 rfl rfl)
theorem dX10_init_112 : decode cX10_init 112 = .ok (.newarray .int, 2) := dk_188_10 (dk_at dksX10_init_5 0 rfl rfl)
theorem dX10_init_114 : decode cX10_init 114 = .ok (.putfield 97, 3) := dk_181 0 97 (dk_at dksX10_init_5 2 rfl rfl)
theorem dX10_init_117 : decode cX10_init 117 = .ok (.ldc 100, 2) := dk_18 100 (dk_at dksX10_init_5 5 rfl rfl)
theorem dX10_init_119 : decode cX10_init 119 = .ok (.astore_n 1, 1) := dk_76 (dk_at dksX10_init_5 7 rfl rfl)
theorem dX10_init_120 : decode cX10_init 120 = .ok (.iconst 0, 1) := dk_3 (dk_at dksX10_init_5 8 rfl rfl)
theorem dX10_init_121 : decode cX10_init 121 = .ok (.istore_n 2, 1) := dk_61 (dk_at dksX10_init_5 9 rfl rfl)
theorem dX10_init_122 : decode cX10_init 122 = .ok (.iload_n 2, 1) := dk_28 (dk_at dksX10_init_5 10 rfl rfl)
theorem dX10_init_123 : decode cX10_init 123 = .ok (.aload_n 1, 1) := dk_43 (dk_at dksX10_init_5 11 rfl rfl)
theorem dX10_init_124 : decode cX10_init 124 = .ok (.invokevirtual 102, 3) := dk_182 0 102 (dk_at dksX10_init_5 12 rfl rfl)
theorem dX10_init_127 : decode cX10_init 127 = .ok (.if_icmp .ge 20, 3) := dk_162 0 20 (dk_at dksX10_init_5 15 rfl rfl)
theorem dX10_init_130 : decode cX10_init 130 = .ok (.aload_n 0, 1) := dk_42 (dk_at dksX10_init_5 18 rfl rfl)
theorem dX10_init_131 : decode cX10_init 131 = .ok (.getfield 79, 3) := dk_180 0 79 (dk_at dksX10_init_5 19 rfl rfl)
theorem dX10_init_134 : decode cX10_init 134 = .ok (.iload_n 2, 1) := dk_28 (dk_at dksX10_init_5 22 rfl rfl)
theorem dX10_init_135 : decode cX10_init 135 = .ok (.aload_n 1, 1) := dk_43 (dk_at dksX10_init_5 23 rfl rfl)
theorem dX10_init_136 : decode cX10_init 136 = .ok (.iload_n 2, 1) := dk_28 (dk_at dksX10_init_6 0 rfl rfl)
theorem dX10_init_137 : decode cX10_init 137 = .ok (.invokevirtual 108, 3) := dk_182 0 108 (dk_at dksX10_init_6 1 rfl rfl)
theorem dX10_init_140 : decode cX10_init 140 = .ok (.iastore, 1) := dk_79 (dk_at dksX10_init_6 4 rfl rfl)
theorem dX10_init_141 : decode cX10_init 141 = .ok (.iinc 2 1, 3) := dk_132 2 1 (dk_at dksX10_init_6 5 rfl rfl)
theorem dX10_init_144 : decode cX10_init 144 = .ok (.goto (-22), 3) := dk_167 255 234 (dk_at dksX10_init_6 8 rfl rfl)
theorem dX10_init_147 : decode cX10_init 147 = .ok (.aload_n 0, 1) := dk_42 (dk_at dksX10_init_6 11 rfl rfl)
theorem dX10_init_148 : decode cX10_init 148 = .ok (.aload_n 1, 1) := dk_43 (dk_at dksX10_init_6 12 rfl rfl)
theorem dX10_init_149 : decode cX10_init 149 = .ok (.invokevirtual 102, 3) := dk_182 0 102 (dk_at dksX10_init_6 13 rfl rfl)
theorem dX10_init_152 : decode cX10_init 152 = .ok (.putfield 112, 3) := dk_181 0 112 (dk_at dksX10_init_6 16 rfl rfl)
theorem dX10_init_155 : decode cX10_init 155 = .ok (.aload_n 0, 1) := dk_42 (dk_at dksX10_init_6 19 rfl rfl)
theorem dX10_init_156 : decode cX10_init 156 = .ok (.aload_n 0, 1) := dk_42 (dk_at dksX10_init_6 20 rfl rfl)
theorem dX10_init_157 : decode cX10_init 157 = .ok (.getfield 112, 3) := dk_180 0 112 (dk_at dksX10_init_6 21 rfl rfl)
theorem dX10_init_160 : decode cX10_init 160 = .ok (.invokevirtual 115, 3) := dk_182 0 115 (dk_at dksX10_init_7 0 rfl rfl)
theorem dX10_init_163 : decode cX10_init 163 = .ok (.istore_n 2, 1) := dk_61 (dk_at dksX10_init_7 3 rfl rfl)
theorem dX10_init_164 : decode cX10_init 164 = .ok (.return_, 1) := dk_177 (dk_at dksX10_init_7 4 rfl rfl)
abbrev cX10_load : ByteArray := prog_28_method_73_code
def yX10_load : MethodName := ⟨RX10, "load", "(I)I"⟩
def dkwX10_load_4 : List UInt8 := [182, 0, 118, 172]
abbrev dktX10_load_4 : List UInt8 := dkwX10_load_4 ++ []
def dkwX10_load_3 : List UInt8 := [184, 0, 176, 16, 246, 42, 180, 0, 244, 100, 172, 42, 3, 181, 1, 53, 42, 3, 181, 1, 56, 42, 5]
abbrev dktX10_load_3 : List UInt8 := dkwX10_load_3 ++ dktX10_load_4
def dkwX10_load_2 : List UInt8 := [182, 1, 50, 42, 180, 0, 244, 153, 0, 27, 42, 180, 0, 70, 3, 42, 180, 0, 60, 3, 17, 2, 94]
abbrev dktX10_load_2 : List UInt8 := dkwX10_load_2 ++ dktX10_load_3
def dkwX10_load_1 : List UInt8 := [3, 172, 42, 180, 0, 60, 3, 42, 180, 0, 70, 3, 17, 2, 94, 184, 0, 176, 42, 27, 182, 1, 47, 42]
abbrev dktX10_load_1 : List UInt8 := dkwX10_load_1 ++ dktX10_load_2
def dkwX10_load_0 : List UInt8 := [42, 3, 181, 0, 1, 42, 27, 133, 9, 42, 180, 0, 112, 133, 184, 0, 50, 4, 182, 1, 43, 153, 0, 5]
abbrev dktX10_load_0 : List UInt8 := dkwX10_load_0 ++ dktX10_load_1
theorem dksX10_load_0 : cX10_load.data.toList.drop 0 = dktX10_load_0 := by decide +kernel
theorem dksX10_load_1 : cX10_load.data.toList.drop 24 = dktX10_load_1 := dk_seg dksX10_load_0 24 rfl rfl
theorem dksX10_load_2 : cX10_load.data.toList.drop 48 = dktX10_load_2 := dk_seg dksX10_load_1 24 rfl rfl
theorem dksX10_load_3 : cX10_load.data.toList.drop 71 = dktX10_load_3 := dk_seg dksX10_load_2 23 rfl rfl
theorem dksX10_load_4 : cX10_load.data.toList.drop 94 = dktX10_load_4 := dk_seg dksX10_load_3 23 rfl rfl
theorem dX10_load_0 : decode cX10_load 0 = .ok (.aload_n 0, 1) := dk_42 (dk_at dksX10_load_0 0 rfl rfl)
theorem dX10_load_1 : decode cX10_load 1 = .ok (.iconst 0, 1) := dk_3 (dk_at dksX10_load_0 1 rfl rfl)
theorem dX10_load_2 : decode cX10_load 2 = .ok (.putfield 1, 3) := dk_181 0 1 (dk_at dksX10_load_0 2 rfl rfl)
theorem dX10_load_5 : decode cX10_load 5 = .ok (.aload_n 0, 1) := dk_42 (dk_at dksX10_load_0 5 rfl rfl)
theorem dX10_load_6 : decode cX10_load 6 = .ok (.iload_n 1, 1) := dk_27 (dk_at dksX10_load_0 6 rfl rfl)
theorem dX10_load_7 : decode cX10_load 7 = .ok (.i2l, 1) := dk_133 (dk_at dksX10_load_0 7 rfl rfl)
theorem dX10_load_8 : decode cX10_load 8 = .ok (.lconst 0, 1) := dk_9 (dk_at dksX10_load_0 8 rfl rfl)
theorem dX10_load_9 : decode cX10_load 9 = .ok (.aload_n 0, 1) := dk_42 (dk_at dksX10_load_0 9 rfl rfl)
theorem dX10_load_10 : decode cX10_load 10 = .ok (.getfield 112, 3) := dk_180 0 112 (dk_at dksX10_load_0 10 rfl rfl)
theorem dX10_load_13 : decode cX10_load 13 = .ok (.i2l, 1) := dk_133 (dk_at dksX10_load_0 13 rfl rfl)
theorem dX10_load_14 : decode cX10_load 14 = .ok (.invokestatic 50, 3) := dk_184 0 50 (dk_at dksX10_load_0 14 rfl rfl)
theorem dX10_load_17 : decode cX10_load 17 = .ok (.iconst 1, 1) := dk_4 (dk_at dksX10_load_0 17 rfl rfl)
theorem dX10_load_18 : decode cX10_load 18 = .ok (.invokevirtual 299, 3) := dk_182 1 43 (dk_at dksX10_load_0 18 rfl rfl)
theorem dX10_load_21 : decode cX10_load 21 = .ok (.ifCond .eq 5, 3) := dk_153 0 5 (dk_at dksX10_load_0 21 rfl rfl)
theorem dX10_load_24 : decode cX10_load 24 = .ok (.iconst 0, 1) := dk_3 (dk_at dksX10_load_1 0 rfl rfl)
theorem dX10_load_25 : decode cX10_load 25 = .ok (.ireturn, 1) := dk_172 (dk_at dksX10_load_1 1 rfl rfl)
theorem dX10_load_26 : decode cX10_load 26 = .ok (.aload_n 0, 1) := dk_42 (dk_at dksX10_load_1 2 rfl rfl)
theorem dX10_load_27 : decode cX10_load 27 = .ok (.getfield 60, 3) := dk_180 0 60 (dk_at dksX10_load_1 3 rfl rfl)
theorem dX10_load_30 : decode cX10_load 30 = .ok (.iconst 0, 1) := dk_3 (dk_at dksX10_load_1 6 rfl rfl)
theorem dX10_load_31 : decode cX10_load 31 = .ok (.aload_n 0, 1) := dk_42 (dk_at dksX10_load_1 7 rfl rfl)
theorem dX10_load_32 : decode cX10_load 32 = .ok (.getfield 70, 3) := dk_180 0 70 (dk_at dksX10_load_1 8 rfl rfl)
theorem dX10_load_35 : decode cX10_load 35 = .ok (.iconst 0, 1) := dk_3 (dk_at dksX10_load_1 11 rfl rfl)
theorem dX10_load_36 : decode cX10_load 36 = .ok (.sipush 606, 3) := dk_17 2 94 (dk_at dksX10_load_1 12 rfl rfl)
theorem dX10_load_39 : decode cX10_load 39 = .ok (.invokestatic 176, 3) := dk_184 0 176 (dk_at dksX10_load_1 15 rfl rfl)
theorem dX10_load_42 : decode cX10_load 42 = .ok (.aload_n 0, 1) := dk_42 (dk_at dksX10_load_1 18 rfl rfl)
theorem dX10_load_43 : decode cX10_load 43 = .ok (.iload_n 1, 1) := dk_27 (dk_at dksX10_load_1 19 rfl rfl)
theorem dX10_load_44 : decode cX10_load 44 = .ok (.invokevirtual 303, 3) := dk_182 1 47 (dk_at dksX10_load_1 20 rfl rfl)
theorem dX10_load_47 : decode cX10_load 47 = .ok (.aload_n 0, 1) := dk_42 (dk_at dksX10_load_1 23 rfl rfl)
theorem dX10_load_48 : decode cX10_load 48 = .ok (.invokevirtual 306, 3) := dk_182 1 50 (dk_at dksX10_load_2 0 rfl rfl)
theorem dX10_load_51 : decode cX10_load 51 = .ok (.aload_n 0, 1) := dk_42 (dk_at dksX10_load_2 3 rfl rfl)
theorem dX10_load_52 : decode cX10_load 52 = .ok (.getfield 244, 3) := dk_180 0 244 (dk_at dksX10_load_2 4 rfl rfl)
theorem dX10_load_55 : decode cX10_load 55 = .ok (.ifCond .eq 27, 3) := dk_153 0 27 (dk_at dksX10_load_2 7 rfl rfl)
theorem dX10_load_58 : decode cX10_load 58 = .ok (.aload_n 0, 1) := dk_42 (dk_at dksX10_load_2 10 rfl rfl)
theorem dX10_load_59 : decode cX10_load 59 = .ok (.getfield 70, 3) := dk_180 0 70 (dk_at dksX10_load_2 11 rfl rfl)
theorem dX10_load_62 : decode cX10_load 62 = .ok (.iconst 0, 1) := dk_3 (dk_at dksX10_load_2 14 rfl rfl)
theorem dX10_load_63 : decode cX10_load 63 = .ok (.aload_n 0, 1) := dk_42 (dk_at dksX10_load_2 15 rfl rfl)
theorem dX10_load_64 : decode cX10_load 64 = .ok (.getfield 60, 3) := dk_180 0 60 (dk_at dksX10_load_2 16 rfl rfl)
theorem dX10_load_67 : decode cX10_load 67 = .ok (.iconst 0, 1) := dk_3 (dk_at dksX10_load_2 19 rfl rfl)
theorem dX10_load_68 : decode cX10_load 68 = .ok (.sipush 606, 3) := dk_17 2 94 (dk_at dksX10_load_2 20 rfl rfl)
theorem dX10_load_71 : decode cX10_load 71 = .ok (.invokestatic 176, 3) := dk_184 0 176 (dk_at dksX10_load_3 0 rfl rfl)
theorem dX10_load_74 : decode cX10_load 74 = .ok (.bipush (-10), 2) := dk_16 246 (dk_at dksX10_load_3 3 rfl rfl)
theorem dX10_load_76 : decode cX10_load 76 = .ok (.aload_n 0, 1) := dk_42 (dk_at dksX10_load_3 5 rfl rfl)
theorem dX10_load_77 : decode cX10_load 77 = .ok (.getfield 244, 3) := dk_180 0 244 (dk_at dksX10_load_3 6 rfl rfl)
theorem dX10_load_80 : decode cX10_load 80 = .ok (.isub, 1) := dk_100 (dk_at dksX10_load_3 9 rfl rfl)
theorem dX10_load_81 : decode cX10_load 81 = .ok (.ireturn, 1) := dk_172 (dk_at dksX10_load_3 10 rfl rfl)
theorem dX10_load_82 : decode cX10_load 82 = .ok (.aload_n 0, 1) := dk_42 (dk_at dksX10_load_3 11 rfl rfl)
theorem dX10_load_83 : decode cX10_load 83 = .ok (.iconst 0, 1) := dk_3 (dk_at dksX10_load_3 12 rfl rfl)
theorem dX10_load_84 : decode cX10_load 84 = .ok (.putfield 309, 3) := dk_181 1 53 (dk_at dksX10_load_3 13 rfl rfl)
theorem dX10_load_87 : decode cX10_load 87 = .ok (.aload_n 0, 1) := dk_42 (dk_at dksX10_load_3 16 rfl rfl)
theorem dX10_load_88 : decode cX10_load 88 = .ok (.iconst 0, 1) := dk_3 (dk_at dksX10_load_3 17 rfl rfl)
theorem dX10_load_89 : decode cX10_load 89 = .ok (.putfield 312, 3) := dk_181 1 56 (dk_at dksX10_load_3 18 rfl rfl)
theorem dX10_load_92 : decode cX10_load 92 = .ok (.aload_n 0, 1) := dk_42 (dk_at dksX10_load_3 21 rfl rfl)
theorem dX10_load_93 : decode cX10_load 93 = .ok (.iconst 2, 1) := dk_5 (dk_at dksX10_load_3 22 rfl rfl)
theorem dX10_load_94 : decode cX10_load 94 = .ok (.invokevirtual 118, 3) := dk_182 0 118 (dk_at dksX10_load_4 0 rfl rfl)
theorem dX10_load_97 : decode cX10_load 97 = .ok (.ireturn, 1) := dk_172 (dk_at dksX10_load_4 3 rfl rfl)
abbrev cX10_in : ByteArray := prog_28_method_2_code
def yX10_in : MethodName := ⟨RX10, "in", "(JJJ)Z"⟩
def dkwX10_in_0 : List UInt8 := [30, 32, 148, 155, 0, 14, 30, 22, 4, 148, 157, 0, 7, 4, 167, 0, 4, 3, 172]
abbrev dktX10_in_0 : List UInt8 := dkwX10_in_0 ++ []
theorem dksX10_in_0 : cX10_in.data.toList.drop 0 = dktX10_in_0 := by decide +kernel
theorem dX10_in_0 : decode cX10_in 0 = .ok (.lload_n 0, 1) := dk_30 (dk_at dksX10_in_0 0 rfl rfl)
theorem dX10_in_1 : decode cX10_in 1 = .ok (.lload_n 2, 1) := dk_32 (dk_at dksX10_in_0 1 rfl rfl)
theorem dX10_in_2 : decode cX10_in 2 = .ok (.lcmp, 1) := dk_148 (dk_at dksX10_in_0 2 rfl rfl)
theorem dX10_in_3 : decode cX10_in 3 = .ok (.ifCond .lt 14, 3) := dk_155 0 14 (dk_at dksX10_in_0 3 rfl rfl)
theorem dX10_in_6 : decode cX10_in 6 = .ok (.lload_n 0, 1) := dk_30 (dk_at dksX10_in_0 6 rfl rfl)
theorem dX10_in_7 : decode cX10_in 7 = .ok (.lload 4, 2) := dk_22 4 (dk_at dksX10_in_0 7 rfl rfl)
theorem dX10_in_9 : decode cX10_in 9 = .ok (.lcmp, 1) := dk_148 (dk_at dksX10_in_0 9 rfl rfl)
theorem dX10_in_10 : decode cX10_in 10 = .ok (.ifCond .gt 7, 3) := dk_157 0 7 (dk_at dksX10_in_0 10 rfl rfl)
theorem dX10_in_13 : decode cX10_in 13 = .ok (.iconst 1, 1) := dk_4 (dk_at dksX10_in_0 13 rfl rfl)
theorem dX10_in_14 : decode cX10_in 14 = .ok (.goto 4, 3) := dk_167 0 4 (dk_at dksX10_in_0 14 rfl rfl)
theorem dX10_in_17 : decode cX10_in 17 = .ok (.iconst 0, 1) := dk_3 (dk_at dksX10_in_0 17 rfl rfl)
theorem dX10_in_18 : decode cX10_in 18 = .ok (.ireturn, 1) := dk_172 (dk_at dksX10_in_0 18 rfl rfl)
abbrev cX10_fails : ByteArray := prog_28_method_3_code
def yX10_fails : MethodName := ⟨RX10, "fails", "(ZI)Z"⟩
def dkwX10_fails_1 : List UInt8 := [167, 0, 4, 3, 172]
abbrev dktX10_fails_1 : List UInt8 := dkwX10_fails_1 ++ []
def dkwX10_fails_0 : List UInt8 := [27, 154, 0, 15, 42, 180, 0, 1, 154, 0, 8, 42, 28, 181, 0, 1, 42, 180, 0, 1, 153, 0, 7, 4]
abbrev dktX10_fails_0 : List UInt8 := dkwX10_fails_0 ++ dktX10_fails_1
theorem dksX10_fails_0 : cX10_fails.data.toList.drop 0 = dktX10_fails_0 := by decide +kernel
theorem dksX10_fails_1 : cX10_fails.data.toList.drop 24 = dktX10_fails_1 := dk_seg dksX10_fails_0 24 rfl rfl
theorem dX10_fails_0 : decode cX10_fails 0 = .ok (.iload_n 1, 1) := dk_27 (dk_at dksX10_fails_0 0 rfl rfl)
theorem dX10_fails_1 : decode cX10_fails 1 = .ok (.ifCond .ne 15, 3) := dk_154 0 15 (dk_at dksX10_fails_0 1 rfl rfl)
theorem dX10_fails_4 : decode cX10_fails 4 = .ok (.aload_n 0, 1) := dk_42 (dk_at dksX10_fails_0 4 rfl rfl)
theorem dX10_fails_5 : decode cX10_fails 5 = .ok (.getfield 1, 3) := dk_180 0 1 (dk_at dksX10_fails_0 5 rfl rfl)
theorem dX10_fails_8 : decode cX10_fails 8 = .ok (.ifCond .ne 8, 3) := dk_154 0 8 (dk_at dksX10_fails_0 8 rfl rfl)
theorem dX10_fails_11 : decode cX10_fails 11 = .ok (.aload_n 0, 1) := dk_42 (dk_at dksX10_fails_0 11 rfl rfl)
theorem dX10_fails_12 : decode cX10_fails 12 = .ok (.iload_n 2, 1) := dk_28 (dk_at dksX10_fails_0 12 rfl rfl)
theorem dX10_fails_13 : decode cX10_fails 13 = .ok (.putfield 1, 3) := dk_181 0 1 (dk_at dksX10_fails_0 13 rfl rfl)
theorem dX10_fails_16 : decode cX10_fails 16 = .ok (.aload_n 0, 1) := dk_42 (dk_at dksX10_fails_0 16 rfl rfl)
theorem dX10_fails_17 : decode cX10_fails 17 = .ok (.getfield 1, 3) := dk_180 0 1 (dk_at dksX10_fails_0 17 rfl rfl)
theorem dX10_fails_20 : decode cX10_fails 20 = .ok (.ifCond .eq 7, 3) := dk_153 0 7 (dk_at dksX10_fails_0 20 rfl rfl)
theorem dX10_fails_23 : decode cX10_fails 23 = .ok (.iconst 1, 1) := dk_4 (dk_at dksX10_fails_0 23 rfl rfl)
theorem dX10_fails_24 : decode cX10_fails 24 = .ok (.goto 4, 3) := dk_167 0 4 (dk_at dksX10_fails_1 0 rfl rfl)
theorem dX10_fails_27 : decode cX10_fails 27 = .ok (.iconst 0, 1) := dk_3 (dk_at dksX10_fails_1 3 rfl rfl)
theorem dX10_fails_28 : decode cX10_fails 28 = .ok (.ireturn, 1) := dk_172 (dk_at dksX10_fails_1 4 rfl rfl)
abbrev cX10_copies : ByteArray := prog_28_method_14_code
def yX10_copies : MethodName := ⟨RX10, "copies", "([JI[JII)V"⟩
def dkwX10_copies_1 : List UInt8 := [132, 5, 1, 167, 255, 234, 177]
abbrev dktX10_copies_1 : List UInt8 := dkwX10_copies_1 ++ []
def dkwX10_copies_0 : List UInt8 := [3, 54, 5, 21, 5, 21, 4, 162, 0, 21, 44, 29, 21, 5, 96, 42, 27, 21, 5, 96, 47, 80]
abbrev dktX10_copies_0 : List UInt8 := dkwX10_copies_0 ++ dktX10_copies_1
theorem dksX10_copies_0 : cX10_copies.data.toList.drop 0 = dktX10_copies_0 := by decide +kernel
theorem dksX10_copies_1 : cX10_copies.data.toList.drop 22 = dktX10_copies_1 := dk_seg dksX10_copies_0 22 rfl rfl
theorem dX10_copies_0 : decode cX10_copies 0 = .ok (.iconst 0, 1) := dk_3 (dk_at dksX10_copies_0 0 rfl rfl)
theorem dX10_copies_1 : decode cX10_copies 1 = .ok (.istore 5, 2) := dk_54 5 (dk_at dksX10_copies_0 1 rfl rfl)
theorem dX10_copies_3 : decode cX10_copies 3 = .ok (.iload 5, 2) := dk_21 5 (dk_at dksX10_copies_0 3 rfl rfl)
theorem dX10_copies_5 : decode cX10_copies 5 = .ok (.iload 4, 2) := dk_21 4 (dk_at dksX10_copies_0 5 rfl rfl)
theorem dX10_copies_7 : decode cX10_copies 7 = .ok (.if_icmp .ge 21, 3) := dk_162 0 21 (dk_at dksX10_copies_0 7 rfl rfl)
theorem dX10_copies_10 : decode cX10_copies 10 = .ok (.aload_n 2, 1) := dk_44 (dk_at dksX10_copies_0 10 rfl rfl)
theorem dX10_copies_11 : decode cX10_copies 11 = .ok (.iload_n 3, 1) := dk_29 (dk_at dksX10_copies_0 11 rfl rfl)
theorem dX10_copies_12 : decode cX10_copies 12 = .ok (.iload 5, 2) := dk_21 5 (dk_at dksX10_copies_0 12 rfl rfl)
theorem dX10_copies_14 : decode cX10_copies 14 = .ok (.iadd, 1) := dk_96 (dk_at dksX10_copies_0 14 rfl rfl)
theorem dX10_copies_15 : decode cX10_copies 15 = .ok (.aload_n 0, 1) := dk_42 (dk_at dksX10_copies_0 15 rfl rfl)
theorem dX10_copies_16 : decode cX10_copies 16 = .ok (.iload_n 1, 1) := dk_27 (dk_at dksX10_copies_0 16 rfl rfl)
theorem dX10_copies_17 : decode cX10_copies 17 = .ok (.iload 5, 2) := dk_21 5 (dk_at dksX10_copies_0 17 rfl rfl)
theorem dX10_copies_19 : decode cX10_copies 19 = .ok (.iadd, 1) := dk_96 (dk_at dksX10_copies_0 19 rfl rfl)
theorem dX10_copies_20 : decode cX10_copies 20 = .ok (.laload, 1) := dk_47 (dk_at dksX10_copies_0 20 rfl rfl)
theorem dX10_copies_21 : decode cX10_copies 21 = .ok (.lastore, 1) := dk_80 (dk_at dksX10_copies_0 21 rfl rfl)
theorem dX10_copies_22 : decode cX10_copies 22 = .ok (.iinc 5 1, 3) := dk_132 5 1 (dk_at dksX10_copies_1 0 rfl rfl)
theorem dX10_copies_25 : decode cX10_copies 25 = .ok (.goto (-22), 3) := dk_167 255 234 (dk_at dksX10_copies_1 3 rfl rfl)
theorem dX10_copies_28 : decode cX10_copies 28 = .ok (.return_, 1) := dk_177 (dk_at dksX10_copies_1 6 rfl rfl)
abbrev cX10_starts : ByteArray := prog_28_method_60_code
def yX10_starts : MethodName := ⟨RX10, "starts", "(I)V"⟩
def dkwX10_starts_1 : List UInt8 := [181, 0, 82, 42, 182, 0, 247, 177]
abbrev dktX10_starts_1 : List UInt8 := dkwX10_starts_1 ++ []
def dkwX10_starts_0 : List UInt8 := [42, 27, 181, 0, 216, 42, 3, 181, 0, 112, 42, 3, 181, 0, 222, 42, 3, 181, 0, 244, 42, 2]
abbrev dktX10_starts_0 : List UInt8 := dkwX10_starts_0 ++ dktX10_starts_1
theorem dksX10_starts_0 : cX10_starts.data.toList.drop 0 = dktX10_starts_0 := by decide +kernel
theorem dksX10_starts_1 : cX10_starts.data.toList.drop 22 = dktX10_starts_1 := dk_seg dksX10_starts_0 22 rfl rfl
theorem dX10_starts_0 : decode cX10_starts 0 = .ok (.aload_n 0, 1) := dk_42 (dk_at dksX10_starts_0 0 rfl rfl)
theorem dX10_starts_1 : decode cX10_starts 1 = .ok (.iload_n 1, 1) := dk_27 (dk_at dksX10_starts_0 1 rfl rfl)
theorem dX10_starts_2 : decode cX10_starts 2 = .ok (.putfield 216, 3) := dk_181 0 216 (dk_at dksX10_starts_0 2 rfl rfl)
theorem dX10_starts_5 : decode cX10_starts 5 = .ok (.aload_n 0, 1) := dk_42 (dk_at dksX10_starts_0 5 rfl rfl)
theorem dX10_starts_6 : decode cX10_starts 6 = .ok (.iconst 0, 1) := dk_3 (dk_at dksX10_starts_0 6 rfl rfl)
theorem dX10_starts_7 : decode cX10_starts 7 = .ok (.putfield 112, 3) := dk_181 0 112 (dk_at dksX10_starts_0 7 rfl rfl)
theorem dX10_starts_10 : decode cX10_starts 10 = .ok (.aload_n 0, 1) := dk_42 (dk_at dksX10_starts_0 10 rfl rfl)
theorem dX10_starts_11 : decode cX10_starts 11 = .ok (.iconst 0, 1) := dk_3 (dk_at dksX10_starts_0 11 rfl rfl)
theorem dX10_starts_12 : decode cX10_starts 12 = .ok (.putfield 222, 3) := dk_181 0 222 (dk_at dksX10_starts_0 12 rfl rfl)
theorem dX10_starts_15 : decode cX10_starts 15 = .ok (.aload_n 0, 1) := dk_42 (dk_at dksX10_starts_0 15 rfl rfl)
theorem dX10_starts_16 : decode cX10_starts 16 = .ok (.iconst 0, 1) := dk_3 (dk_at dksX10_starts_0 16 rfl rfl)
theorem dX10_starts_17 : decode cX10_starts 17 = .ok (.putfield 244, 3) := dk_181 0 244 (dk_at dksX10_starts_0 17 rfl rfl)
theorem dX10_starts_20 : decode cX10_starts 20 = .ok (.aload_n 0, 1) := dk_42 (dk_at dksX10_starts_0 20 rfl rfl)
theorem dX10_starts_21 : decode cX10_starts 21 = .ok (.iconst (-1), 1) := dk_2 (dk_at dksX10_starts_0 21 rfl rfl)
theorem dX10_starts_22 : decode cX10_starts 22 = .ok (.putfield 82, 3) := dk_181 0 82 (dk_at dksX10_starts_1 0 rfl rfl)
theorem dX10_starts_25 : decode cX10_starts 25 = .ok (.aload_n 0, 1) := dk_42 (dk_at dksX10_starts_1 3 rfl rfl)
theorem dX10_starts_26 : decode cX10_starts 26 = .ok (.invokevirtual 247, 3) := dk_182 0 247 (dk_at dksX10_starts_1 4 rfl rfl)
theorem dX10_starts_29 : decode cX10_starts 29 = .ok (.return_, 1) := dk_177 (dk_at dksX10_starts_1 7 rfl rfl)
abbrev cX10_next : ByteArray := prog_28_method_59_code
def yX10_next : MethodName := ⟨RX10, "next", "()V"⟩
def dkwX10_next_8 : List UInt8 := [181, 0, 222, 177]
abbrev dktX10_next_8 : List UInt8 := dkwX10_next_8 ++ []
def dkwX10_next_7 : List UInt8 := [180, 0, 222, 46, 16, 61, 160, 0, 7, 7, 167, 0, 4, 8, 181, 0, 232, 42, 89, 180, 0, 222, 4, 96]
abbrev dktX10_next_7 : List UInt8 := dkwX10_next_7 ++ dktX10_next_8
def dkwX10_next_6 : List UInt8 := [180, 0, 79, 42, 180, 0, 222, 46, 16, 59, 160, 0, 7, 6, 167, 0, 22, 42, 180, 0, 79, 42]
abbrev dktX10_next_6 : List UInt8 := dkwX10_next_6 ++ dktX10_next_7
def dkwX10_next_5 : List UInt8 := [180, 0, 79, 42, 180, 0, 222, 46, 184, 0, 228, 153, 0, 10, 42, 182, 0, 241, 167, 0, 54, 42, 42]
abbrev dktX10_next_5 : List UInt8 := dkwX10_next_5 ++ dktX10_next_6
def dkwX10_next_4 : List UInt8 := [42, 89, 180, 0, 222, 4, 96, 181, 0, 222, 167, 255, 232, 42, 4, 181, 0, 232, 167, 0, 76, 42]
abbrev dktX10_next_4 : List UInt8 := dkwX10_next_4 ++ dktX10_next_5
def dkwX10_next_3 : List UInt8 := [180, 0, 222, 46, 184, 0, 238, 153, 0, 38, 42, 42, 180, 0, 222, 182, 0, 225, 184, 0, 238, 153, 0, 16]
abbrev dktX10_next_3 : List UInt8 := dkwX10_next_3 ++ dktX10_next_4
def dkwX10_next_2 : List UInt8 := [42, 180, 0, 222, 42, 180, 0, 216, 161, 0, 11, 42, 3, 181, 0, 232, 167, 0, 126, 42, 180, 0, 79, 42]
abbrev dktX10_next_2 : List UInt8 := dkwX10_next_2 ++ dktX10_next_3
def dkwX10_next_1 : List UInt8 := [160, 0, 16, 42, 89, 180, 0, 222, 4, 96, 181, 0, 222, 167, 255, 220, 42, 42, 180, 0, 222, 181, 0, 235]
abbrev dktX10_next_1 : List UInt8 := dkwX10_next_1 ++ dktX10_next_2
def dkwX10_next_0 : List UInt8 := [42, 42, 180, 0, 222, 182, 0, 225, 16, 32, 159, 0, 16, 42, 42, 180, 0, 222, 182, 0, 225, 16, 10]
abbrev dktX10_next_0 : List UInt8 := dkwX10_next_0 ++ dktX10_next_1
theorem dksX10_next_0 : cX10_next.data.toList.drop 0 = dktX10_next_0 := by decide +kernel
theorem dksX10_next_1 : cX10_next.data.toList.drop 23 = dktX10_next_1 := dk_seg dksX10_next_0 23 rfl rfl
theorem dksX10_next_2 : cX10_next.data.toList.drop 47 = dktX10_next_2 := dk_seg dksX10_next_1 24 rfl rfl
theorem dksX10_next_3 : cX10_next.data.toList.drop 71 = dktX10_next_3 := dk_seg dksX10_next_2 24 rfl rfl
theorem dksX10_next_4 : cX10_next.data.toList.drop 95 = dktX10_next_4 := dk_seg dksX10_next_3 24 rfl rfl
theorem dksX10_next_5 : cX10_next.data.toList.drop 117 = dktX10_next_5 := dk_seg dksX10_next_4 22 rfl rfl
theorem dksX10_next_6 : cX10_next.data.toList.drop 140 = dktX10_next_6 := dk_seg dksX10_next_5 23 rfl rfl
theorem dksX10_next_7 : cX10_next.data.toList.drop 162 = dktX10_next_7 := dk_seg dksX10_next_6 22 rfl rfl
theorem dksX10_next_8 : cX10_next.data.toList.drop 186 = dktX10_next_8 := dk_seg dksX10_next_7 24 rfl rfl
theorem dX10_next_0 : decode cX10_next 0 = .ok (.aload_n 0, 1) := dk_42 (dk_at dksX10_next_0 0 rfl rfl)
theorem dX10_next_1 : decode cX10_next 1 = .ok (.aload_n 0, 1) := dk_42 (dk_at dksX10_next_0 1 rfl rfl)
theorem dX10_next_2 : decode cX10_next 2 = .ok (.getfield 222, 3) := dk_180 0 222 (dk_at dksX10_next_0 2 rfl rfl)
theorem dX10_next_5 : decode cX10_next 5 = .ok (.invokevirtual 225, 3) := dk_182 0 225 (dk_at dksX10_next_0 5 rfl rfl)
theorem dX10_next_8 : decode cX10_next 8 = .ok (.bipush 32, 2) := dk_16 32 (dk_at dksX10_next_0 8 rfl rfl)
theorem dX10_next_10 : decode cX10_next 10 = .ok (.if_icmp .eq 16, 3) := dk_159 0 16 (dk_at dksX10_next_0 10 rfl rfl)
theorem dX10_next_13 : decode cX10_next 13 = .ok (.aload_n 0, 1) := dk_42 (dk_at dksX10_next_0 13 rfl rfl)
theorem dX10_next_14 : decode cX10_next 14 = .ok (.aload_n 0, 1) := dk_42 (dk_at dksX10_next_0 14 rfl rfl)
theorem dX10_next_15 : decode cX10_next 15 = .ok (.getfield 222, 3) := dk_180 0 222 (dk_at dksX10_next_0 15 rfl rfl)
theorem dX10_next_18 : decode cX10_next 18 = .ok (.invokevirtual 225, 3) := dk_182 0 225 (dk_at dksX10_next_0 18 rfl rfl)
theorem dX10_next_21 : decode cX10_next 21 = .ok (.bipush 10, 2) := dk_16 10 (dk_at dksX10_next_0 21 rfl rfl)
theorem dX10_next_23 : decode cX10_next 23 = .ok (.if_icmp .ne 16, 3) := dk_160 0 16 (dk_at dksX10_next_1 0 rfl rfl)
theorem dX10_next_26 : decode cX10_next 26 = .ok (.aload_n 0, 1) := dk_42 (dk_at dksX10_next_1 3 rfl rfl)
theorem dX10_next_27 : decode cX10_next 27 = .ok (.dup, 1) := dk_89 (dk_at dksX10_next_1 4 rfl rfl)
theorem dX10_next_28 : decode cX10_next 28 = .ok (.getfield 222, 3) := dk_180 0 222 (dk_at dksX10_next_1 5 rfl rfl)
theorem dX10_next_31 : decode cX10_next 31 = .ok (.iconst 1, 1) := dk_4 (dk_at dksX10_next_1 8 rfl rfl)
theorem dX10_next_32 : decode cX10_next 32 = .ok (.iadd, 1) := dk_96 (dk_at dksX10_next_1 9 rfl rfl)
theorem dX10_next_33 : decode cX10_next 33 = .ok (.putfield 222, 3) := dk_181 0 222 (dk_at dksX10_next_1 10 rfl rfl)
theorem dX10_next_36 : decode cX10_next 36 = .ok (.goto (-36), 3) := dk_167 255 220 (dk_at dksX10_next_1 13 rfl rfl)
theorem dX10_next_39 : decode cX10_next 39 = .ok (.aload_n 0, 1) := dk_42 (dk_at dksX10_next_1 16 rfl rfl)
theorem dX10_next_40 : decode cX10_next 40 = .ok (.aload_n 0, 1) := dk_42 (dk_at dksX10_next_1 17 rfl rfl)
theorem dX10_next_41 : decode cX10_next 41 = .ok (.getfield 222, 3) := dk_180 0 222 (dk_at dksX10_next_1 18 rfl rfl)
theorem dX10_next_44 : decode cX10_next 44 = .ok (.putfield 235, 3) := dk_181 0 235 (dk_at dksX10_next_1 21 rfl rfl)
theorem dX10_next_47 : decode cX10_next 47 = .ok (.aload_n 0, 1) := dk_42 (dk_at dksX10_next_2 0 rfl rfl)
theorem dX10_next_48 : decode cX10_next 48 = .ok (.getfield 222, 3) := dk_180 0 222 (dk_at dksX10_next_2 1 rfl rfl)
theorem dX10_next_51 : decode cX10_next 51 = .ok (.aload_n 0, 1) := dk_42 (dk_at dksX10_next_2 4 rfl rfl)
theorem dX10_next_52 : decode cX10_next 52 = .ok (.getfield 216, 3) := dk_180 0 216 (dk_at dksX10_next_2 5 rfl rfl)
theorem dX10_next_55 : decode cX10_next 55 = .ok (.if_icmp .lt 11, 3) := dk_161 0 11 (dk_at dksX10_next_2 8 rfl rfl)
theorem dX10_next_58 : decode cX10_next 58 = .ok (.aload_n 0, 1) := dk_42 (dk_at dksX10_next_2 11 rfl rfl)
theorem dX10_next_59 : decode cX10_next 59 = .ok (.iconst 0, 1) := dk_3 (dk_at dksX10_next_2 12 rfl rfl)
theorem dX10_next_60 : decode cX10_next 60 = .ok (.putfield 232, 3) := dk_181 0 232 (dk_at dksX10_next_2 13 rfl rfl)
theorem dX10_next_63 : decode cX10_next 63 = .ok (.goto 126, 3) := dk_167 0 126 (dk_at dksX10_next_2 16 rfl rfl)
theorem dX10_next_66 : decode cX10_next 66 = .ok (.aload_n 0, 1) := dk_42 (dk_at dksX10_next_2 19 rfl rfl)
theorem dX10_next_67 : decode cX10_next 67 = .ok (.getfield 79, 3) := dk_180 0 79 (dk_at dksX10_next_2 20 rfl rfl)
theorem dX10_next_70 : decode cX10_next 70 = .ok (.aload_n 0, 1) := dk_42 (dk_at dksX10_next_2 23 rfl rfl)
theorem dX10_next_71 : decode cX10_next 71 = .ok (.getfield 222, 3) := dk_180 0 222 (dk_at dksX10_next_3 0 rfl rfl)
theorem dX10_next_74 : decode cX10_next 74 = .ok (.iaload, 1) := dk_46 (dk_at dksX10_next_3 3 rfl rfl)
theorem dX10_next_75 : decode cX10_next 75 = .ok (.invokestatic 238, 3) := dk_184 0 238 (dk_at dksX10_next_3 4 rfl rfl)
theorem dX10_next_78 : decode cX10_next 78 = .ok (.ifCond .eq 38, 3) := dk_153 0 38 (dk_at dksX10_next_3 7 rfl rfl)
theorem dX10_next_81 : decode cX10_next 81 = .ok (.aload_n 0, 1) := dk_42 (dk_at dksX10_next_3 10 rfl rfl)
theorem dX10_next_82 : decode cX10_next 82 = .ok (.aload_n 0, 1) := dk_42 (dk_at dksX10_next_3 11 rfl rfl)
theorem dX10_next_83 : decode cX10_next 83 = .ok (.getfield 222, 3) := dk_180 0 222 (dk_at dksX10_next_3 12 rfl rfl)
theorem dX10_next_86 : decode cX10_next 86 = .ok (.invokevirtual 225, 3) := dk_182 0 225 (dk_at dksX10_next_3 15 rfl rfl)
theorem dX10_next_89 : decode cX10_next 89 = .ok (.invokestatic 238, 3) := dk_184 0 238 (dk_at dksX10_next_3 18 rfl rfl)
theorem dX10_next_92 : decode cX10_next 92 = .ok (.ifCond .eq 16, 3) := dk_153 0 16 (dk_at dksX10_next_3 21 rfl rfl)
theorem dX10_next_95 : decode cX10_next 95 = .ok (.aload_n 0, 1) := dk_42 (dk_at dksX10_next_4 0 rfl rfl)
theorem dX10_next_96 : decode cX10_next 96 = .ok (.dup, 1) := dk_89 (dk_at dksX10_next_4 1 rfl rfl)
theorem dX10_next_97 : decode cX10_next 97 = .ok (.getfield 222, 3) := dk_180 0 222 (dk_at dksX10_next_4 2 rfl rfl)
theorem dX10_next_100 : decode cX10_next 100 = .ok (.iconst 1, 1) := dk_4 (dk_at dksX10_next_4 5 rfl rfl)
theorem dX10_next_101 : decode cX10_next 101 = .ok (.iadd, 1) := dk_96 (dk_at dksX10_next_4 6 rfl rfl)
theorem dX10_next_102 : decode cX10_next 102 = .ok (.putfield 222, 3) := dk_181 0 222 (dk_at dksX10_next_4 7 rfl rfl)
theorem dX10_next_105 : decode cX10_next 105 = .ok (.goto (-24), 3) := dk_167 255 232 (dk_at dksX10_next_4 10 rfl rfl)
theorem dX10_next_108 : decode cX10_next 108 = .ok (.aload_n 0, 1) := dk_42 (dk_at dksX10_next_4 13 rfl rfl)
theorem dX10_next_109 : decode cX10_next 109 = .ok (.iconst 1, 1) := dk_4 (dk_at dksX10_next_4 14 rfl rfl)
theorem dX10_next_110 : decode cX10_next 110 = .ok (.putfield 232, 3) := dk_181 0 232 (dk_at dksX10_next_4 15 rfl rfl)
theorem dX10_next_113 : decode cX10_next 113 = .ok (.goto 76, 3) := dk_167 0 76 (dk_at dksX10_next_4 18 rfl rfl)
theorem dX10_next_116 : decode cX10_next 116 = .ok (.aload_n 0, 1) := dk_42 (dk_at dksX10_next_4 21 rfl rfl)
theorem dX10_next_117 : decode cX10_next 117 = .ok (.getfield 79, 3) := dk_180 0 79 (dk_at dksX10_next_5 0 rfl rfl)
theorem dX10_next_120 : decode cX10_next 120 = .ok (.aload_n 0, 1) := dk_42 (dk_at dksX10_next_5 3 rfl rfl)
theorem dX10_next_121 : decode cX10_next 121 = .ok (.getfield 222, 3) := dk_180 0 222 (dk_at dksX10_next_5 4 rfl rfl)
theorem dX10_next_124 : decode cX10_next 124 = .ok (.iaload, 1) := dk_46 (dk_at dksX10_next_5 7 rfl rfl)
theorem dX10_next_125 : decode cX10_next 125 = .ok (.invokestatic 228, 3) := dk_184 0 228 (dk_at dksX10_next_5 8 rfl rfl)
theorem dX10_next_128 : decode cX10_next 128 = .ok (.ifCond .eq 10, 3) := dk_153 0 10 (dk_at dksX10_next_5 11 rfl rfl)
theorem dX10_next_131 : decode cX10_next 131 = .ok (.aload_n 0, 1) := dk_42 (dk_at dksX10_next_5 14 rfl rfl)
theorem dX10_next_132 : decode cX10_next 132 = .ok (.invokevirtual 241, 3) := dk_182 0 241 (dk_at dksX10_next_5 15 rfl rfl)
theorem dX10_next_135 : decode cX10_next 135 = .ok (.goto 54, 3) := dk_167 0 54 (dk_at dksX10_next_5 18 rfl rfl)
theorem dX10_next_138 : decode cX10_next 138 = .ok (.aload_n 0, 1) := dk_42 (dk_at dksX10_next_5 21 rfl rfl)
theorem dX10_next_139 : decode cX10_next 139 = .ok (.aload_n 0, 1) := dk_42 (dk_at dksX10_next_5 22 rfl rfl)
theorem dX10_next_140 : decode cX10_next 140 = .ok (.getfield 79, 3) := dk_180 0 79 (dk_at dksX10_next_6 0 rfl rfl)
theorem dX10_next_143 : decode cX10_next 143 = .ok (.aload_n 0, 1) := dk_42 (dk_at dksX10_next_6 3 rfl rfl)
theorem dX10_next_144 : decode cX10_next 144 = .ok (.getfield 222, 3) := dk_180 0 222 (dk_at dksX10_next_6 4 rfl rfl)
theorem dX10_next_147 : decode cX10_next 147 = .ok (.iaload, 1) := dk_46 (dk_at dksX10_next_6 7 rfl rfl)
theorem dX10_next_148 : decode cX10_next 148 = .ok (.bipush 59, 2) := dk_16 59 (dk_at dksX10_next_6 8 rfl rfl)
theorem dX10_next_150 : decode cX10_next 150 = .ok (.if_icmp .ne 7, 3) := dk_160 0 7 (dk_at dksX10_next_6 10 rfl rfl)
theorem dX10_next_153 : decode cX10_next 153 = .ok (.iconst 3, 1) := dk_6 (dk_at dksX10_next_6 13 rfl rfl)
theorem dX10_next_154 : decode cX10_next 154 = .ok (.goto 22, 3) := dk_167 0 22 (dk_at dksX10_next_6 14 rfl rfl)
theorem dX10_next_157 : decode cX10_next 157 = .ok (.aload_n 0, 1) := dk_42 (dk_at dksX10_next_6 17 rfl rfl)
theorem dX10_next_158 : decode cX10_next 158 = .ok (.getfield 79, 3) := dk_180 0 79 (dk_at dksX10_next_6 18 rfl rfl)
theorem dX10_next_161 : decode cX10_next 161 = .ok (.aload_n 0, 1) := dk_42 (dk_at dksX10_next_6 21 rfl rfl)
theorem dX10_next_162 : decode cX10_next 162 = .ok (.getfield 222, 3) := dk_180 0 222 (dk_at dksX10_next_7 0 rfl rfl)
theorem dX10_next_165 : decode cX10_next 165 = .ok (.iaload, 1) := dk_46 (dk_at dksX10_next_7 3 rfl rfl)
theorem dX10_next_166 : decode cX10_next 166 = .ok (.bipush 61, 2) := dk_16 61 (dk_at dksX10_next_7 4 rfl rfl)
theorem dX10_next_168 : decode cX10_next 168 = .ok (.if_icmp .ne 7, 3) := dk_160 0 7 (dk_at dksX10_next_7 6 rfl rfl)
theorem dX10_next_171 : decode cX10_next 171 = .ok (.iconst 4, 1) := dk_7 (dk_at dksX10_next_7 9 rfl rfl)
theorem dX10_next_172 : decode cX10_next 172 = .ok (.goto 4, 3) := dk_167 0 4 (dk_at dksX10_next_7 10 rfl rfl)
theorem dX10_next_175 : decode cX10_next 175 = .ok (.iconst 5, 1) := dk_8 (dk_at dksX10_next_7 13 rfl rfl)
theorem dX10_next_176 : decode cX10_next 176 = .ok (.putfield 232, 3) := dk_181 0 232 (dk_at dksX10_next_7 14 rfl rfl)
theorem dX10_next_179 : decode cX10_next 179 = .ok (.aload_n 0, 1) := dk_42 (dk_at dksX10_next_7 17 rfl rfl)
theorem dX10_next_180 : decode cX10_next 180 = .ok (.dup, 1) := dk_89 (dk_at dksX10_next_7 18 rfl rfl)
theorem dX10_next_181 : decode cX10_next 181 = .ok (.getfield 222, 3) := dk_180 0 222 (dk_at dksX10_next_7 19 rfl rfl)
theorem dX10_next_184 : decode cX10_next 184 = .ok (.iconst 1, 1) := dk_4 (dk_at dksX10_next_7 22 rfl rfl)
theorem dX10_next_185 : decode cX10_next 185 = .ok (.iadd, 1) := dk_96 (dk_at dksX10_next_7 23 rfl rfl)
theorem dX10_next_186 : decode cX10_next 186 = .ok (.putfield 222, 3) := dk_181 0 222 (dk_at dksX10_next_8 0 rfl rfl)
theorem dX10_next_189 : decode cX10_next 189 = .ok (.return_, 1) := dk_177 (dk_at dksX10_next_8 3 rfl rfl)
abbrev cX10_byteAt : ByteArray := prog_28_method_55_code
def yX10_byteAt : MethodName := ⟨RX10, "byteAt", "(I)I"⟩
def dkwX10_byteAt_0 : List UInt8 := [27, 42, 180, 0, 216, 162, 0, 12, 42, 180, 0, 79, 27, 46, 167, 0, 4, 2, 172]
abbrev dktX10_byteAt_0 : List UInt8 := dkwX10_byteAt_0 ++ []
theorem dksX10_byteAt_0 : cX10_byteAt.data.toList.drop 0 = dktX10_byteAt_0 := by decide +kernel
theorem dX10_byteAt_0 : decode cX10_byteAt 0 = .ok (.iload_n 1, 1) := dk_27 (dk_at dksX10_byteAt_0 0 rfl rfl)
theorem dX10_byteAt_1 : decode cX10_byteAt 1 = .ok (.aload_n 0, 1) := dk_42 (dk_at dksX10_byteAt_0 1 rfl rfl)
theorem dX10_byteAt_2 : decode cX10_byteAt 2 = .ok (.getfield 216, 3) := dk_180 0 216 (dk_at dksX10_byteAt_0 2 rfl rfl)
theorem dX10_byteAt_5 : decode cX10_byteAt 5 = .ok (.if_icmp .ge 12, 3) := dk_162 0 12 (dk_at dksX10_byteAt_0 5 rfl rfl)
theorem dX10_byteAt_8 : decode cX10_byteAt 8 = .ok (.aload_n 0, 1) := dk_42 (dk_at dksX10_byteAt_0 8 rfl rfl)
theorem dX10_byteAt_9 : decode cX10_byteAt 9 = .ok (.getfield 79, 3) := dk_180 0 79 (dk_at dksX10_byteAt_0 9 rfl rfl)
theorem dX10_byteAt_12 : decode cX10_byteAt 12 = .ok (.iload_n 1, 1) := dk_27 (dk_at dksX10_byteAt_0 12 rfl rfl)
theorem dX10_byteAt_13 : decode cX10_byteAt 13 = .ok (.iaload, 1) := dk_46 (dk_at dksX10_byteAt_0 13 rfl rfl)
theorem dX10_byteAt_14 : decode cX10_byteAt 14 = .ok (.goto 4, 3) := dk_167 0 4 (dk_at dksX10_byteAt_0 14 rfl rfl)
theorem dX10_byteAt_17 : decode cX10_byteAt 17 = .ok (.iconst (-1), 1) := dk_2 (dk_at dksX10_byteAt_0 17 rfl rfl)
theorem dX10_byteAt_18 : decode cX10_byteAt 18 = .ok (.ireturn, 1) := dk_172 (dk_at dksX10_byteAt_0 18 rfl rfl)
abbrev cX10_isLetter : ByteArray := prog_28_method_56_code
def yX10_isLetter : MethodName := ⟨RX10, "isLetter", "(I)Z"⟩
def dkwX10_isLetter_0 : List UInt8 := [26, 16, 97, 161, 0, 13, 26, 16, 122, 163, 0, 7, 4, 167, 0, 4, 3, 172]
abbrev dktX10_isLetter_0 : List UInt8 := dkwX10_isLetter_0 ++ []
theorem dksX10_isLetter_0 : cX10_isLetter.data.toList.drop 0 = dktX10_isLetter_0 := by decide +kernel
theorem dX10_isLetter_0 : decode cX10_isLetter 0 = .ok (.iload_n 0, 1) := dk_26 (dk_at dksX10_isLetter_0 0 rfl rfl)
theorem dX10_isLetter_1 : decode cX10_isLetter 1 = .ok (.bipush 97, 2) := dk_16 97 (dk_at dksX10_isLetter_0 1 rfl rfl)
theorem dX10_isLetter_3 : decode cX10_isLetter 3 = .ok (.if_icmp .lt 13, 3) := dk_161 0 13 (dk_at dksX10_isLetter_0 3 rfl rfl)
theorem dX10_isLetter_6 : decode cX10_isLetter 6 = .ok (.iload_n 0, 1) := dk_26 (dk_at dksX10_isLetter_0 6 rfl rfl)
theorem dX10_isLetter_7 : decode cX10_isLetter 7 = .ok (.bipush 122, 2) := dk_16 122 (dk_at dksX10_isLetter_0 7 rfl rfl)
theorem dX10_isLetter_9 : decode cX10_isLetter 9 = .ok (.if_icmp .gt 7, 3) := dk_163 0 7 (dk_at dksX10_isLetter_0 9 rfl rfl)
theorem dX10_isLetter_12 : decode cX10_isLetter 12 = .ok (.iconst 1, 1) := dk_4 (dk_at dksX10_isLetter_0 12 rfl rfl)
theorem dX10_isLetter_13 : decode cX10_isLetter 13 = .ok (.goto 4, 3) := dk_167 0 4 (dk_at dksX10_isLetter_0 13 rfl rfl)
theorem dX10_isLetter_16 : decode cX10_isLetter 16 = .ok (.iconst 0, 1) := dk_3 (dk_at dksX10_isLetter_0 16 rfl rfl)
theorem dX10_isLetter_17 : decode cX10_isLetter 17 = .ok (.ireturn, 1) := dk_172 (dk_at dksX10_isLetter_0 17 rfl rfl)
abbrev cX10_isFigure : ByteArray := prog_28_method_57_code
def yX10_isFigure : MethodName := ⟨RX10, "isFigure", "(I)Z"⟩
def dkwX10_isFigure_0 : List UInt8 := [26, 16, 48, 161, 0, 13, 26, 16, 57, 163, 0, 7, 4, 167, 0, 4, 3, 172]
abbrev dktX10_isFigure_0 : List UInt8 := dkwX10_isFigure_0 ++ []
theorem dksX10_isFigure_0 : cX10_isFigure.data.toList.drop 0 = dktX10_isFigure_0 := by decide +kernel
theorem dX10_isFigure_0 : decode cX10_isFigure 0 = .ok (.iload_n 0, 1) := dk_26 (dk_at dksX10_isFigure_0 0 rfl rfl)
theorem dX10_isFigure_1 : decode cX10_isFigure 1 = .ok (.bipush 48, 2) := dk_16 48 (dk_at dksX10_isFigure_0 1 rfl rfl)
theorem dX10_isFigure_3 : decode cX10_isFigure 3 = .ok (.if_icmp .lt 13, 3) := dk_161 0 13 (dk_at dksX10_isFigure_0 3 rfl rfl)
theorem dX10_isFigure_6 : decode cX10_isFigure 6 = .ok (.iload_n 0, 1) := dk_26 (dk_at dksX10_isFigure_0 6 rfl rfl)
theorem dX10_isFigure_7 : decode cX10_isFigure 7 = .ok (.bipush 57, 2) := dk_16 57 (dk_at dksX10_isFigure_0 7 rfl rfl)
theorem dX10_isFigure_9 : decode cX10_isFigure 9 = .ok (.if_icmp .gt 7, 3) := dk_163 0 7 (dk_at dksX10_isFigure_0 9 rfl rfl)
theorem dX10_isFigure_12 : decode cX10_isFigure 12 = .ok (.iconst 1, 1) := dk_4 (dk_at dksX10_isFigure_0 12 rfl rfl)
theorem dX10_isFigure_13 : decode cX10_isFigure 13 = .ok (.goto 4, 3) := dk_167 0 4 (dk_at dksX10_isFigure_0 13 rfl rfl)
theorem dX10_isFigure_16 : decode cX10_isFigure 16 = .ok (.iconst 0, 1) := dk_3 (dk_at dksX10_isFigure_0 16 rfl rfl)
theorem dX10_isFigure_17 : decode cX10_isFigure 17 = .ok (.ireturn, 1) := dk_172 (dk_at dksX10_isFigure_0 17 rfl rfl)
abbrev cX10_readsNumber : ByteArray := prog_28_method_58_code
def yX10_readsNumber : MethodName := ⟨RX10, "readsNumber", "()V"⟩
def dkwX10_readsNumber_3 : List UInt8 := [42, 5, 181, 0, 232, 177]
abbrev dktX10_readsNumber_3 : List UInt8 := dkwX10_readsNumber_3 ++ []
def dkwX10_readsNumber_2 : List UInt8 := [180, 0, 222, 46, 96, 16, 48, 100, 181, 0, 219, 42, 89, 180, 0, 222, 4, 96, 181, 0, 222, 167, 255, 192]
abbrev dktX10_readsNumber_2 : List UInt8 := dkwX10_readsNumber_2 ++ dktX10_readsNumber_3
def dkwX10_readsNumber_1 : List UInt8 := [18, 231, 164, 0, 10, 42, 180, 0, 219, 167, 0, 23, 16, 10, 42, 180, 0, 219, 104, 42, 180, 0, 79, 42]
abbrev dktX10_readsNumber_1 : List UInt8 := dkwX10_readsNumber_1 ++ dktX10_readsNumber_2
def dkwX10_readsNumber_0 : List UInt8 := [42, 3, 181, 0, 219, 42, 42, 180, 0, 222, 182, 0, 225, 184, 0, 228, 153, 0, 56, 42, 42, 180, 0, 219]
abbrev dktX10_readsNumber_0 : List UInt8 := dkwX10_readsNumber_0 ++ dktX10_readsNumber_1
theorem dksX10_readsNumber_0 : cX10_readsNumber.data.toList.drop 0 = dktX10_readsNumber_0 := by decide +kernel
theorem dksX10_readsNumber_1 : cX10_readsNumber.data.toList.drop 24 = dktX10_readsNumber_1 := dk_seg dksX10_readsNumber_0 24 rfl rfl
theorem dksX10_readsNumber_2 : cX10_readsNumber.data.toList.drop 48 = dktX10_readsNumber_2 := dk_seg dksX10_readsNumber_1 24 rfl rfl
theorem dksX10_readsNumber_3 : cX10_readsNumber.data.toList.drop 72 = dktX10_readsNumber_3 := dk_seg dksX10_readsNumber_2 24 rfl rfl
theorem dX10_readsNumber_0 : decode cX10_readsNumber 0 = .ok (.aload_n 0, 1) := dk_42 (dk_at dksX10_readsNumber_0 0 rfl rfl)
theorem dX10_readsNumber_1 : decode cX10_readsNumber 1 = .ok (.iconst 0, 1) := dk_3 (dk_at dksX10_readsNumber_0 1 rfl rfl)
theorem dX10_readsNumber_2 : decode cX10_readsNumber 2 = .ok (.putfield 219, 3) := dk_181 0 219 (dk_at dksX10_readsNumber_0 2 rfl rfl)
theorem dX10_readsNumber_5 : decode cX10_readsNumber 5 = .ok (.aload_n 0, 1) := dk_42 (dk_at dksX10_readsNumber_0 5 rfl rfl)
theorem dX10_readsNumber_6 : decode cX10_readsNumber 6 = .ok (.aload_n 0, 1) := dk_42 (dk_at dksX10_readsNumber_0 6 rfl rfl)
theorem dX10_readsNumber_7 : decode cX10_readsNumber 7 = .ok (.getfield 222, 3) := dk_180 0 222 (dk_at dksX10_readsNumber_0 7 rfl rfl)
theorem dX10_readsNumber_10 : decode cX10_readsNumber 10 = .ok (.invokevirtual 225, 3) := dk_182 0 225 (dk_at dksX10_readsNumber_0 10 rfl rfl)
theorem dX10_readsNumber_13 : decode cX10_readsNumber 13 = .ok (.invokestatic 228, 3) := dk_184 0 228 (dk_at dksX10_readsNumber_0 13 rfl rfl)
theorem dX10_readsNumber_16 : decode cX10_readsNumber 16 = .ok (.ifCond .eq 56, 3) := dk_153 0 56 (dk_at dksX10_readsNumber_0 16 rfl rfl)
theorem dX10_readsNumber_19 : decode cX10_readsNumber 19 = .ok (.aload_n 0, 1) := dk_42 (dk_at dksX10_readsNumber_0 19 rfl rfl)
theorem dX10_readsNumber_20 : decode cX10_readsNumber 20 = .ok (.aload_n 0, 1) := dk_42 (dk_at dksX10_readsNumber_0 20 rfl rfl)
theorem dX10_readsNumber_21 : decode cX10_readsNumber 21 = .ok (.getfield 219, 3) := dk_180 0 219 (dk_at dksX10_readsNumber_0 21 rfl rfl)
theorem dX10_readsNumber_24 : decode cX10_readsNumber 24 = .ok (.ldc 231, 2) := dk_18 231 (dk_at dksX10_readsNumber_1 0 rfl rfl)
theorem dX10_readsNumber_26 : decode cX10_readsNumber 26 = .ok (.if_icmp .le 10, 3) := dk_164 0 10 (dk_at dksX10_readsNumber_1 2 rfl rfl)
theorem dX10_readsNumber_29 : decode cX10_readsNumber 29 = .ok (.aload_n 0, 1) := dk_42 (dk_at dksX10_readsNumber_1 5 rfl rfl)
theorem dX10_readsNumber_30 : decode cX10_readsNumber 30 = .ok (.getfield 219, 3) := dk_180 0 219 (dk_at dksX10_readsNumber_1 6 rfl rfl)
theorem dX10_readsNumber_33 : decode cX10_readsNumber 33 = .ok (.goto 23, 3) := dk_167 0 23 (dk_at dksX10_readsNumber_1 9 rfl rfl)
theorem dX10_readsNumber_36 : decode cX10_readsNumber 36 = .ok (.bipush 10, 2) := dk_16 10 (dk_at dksX10_readsNumber_1 12 rfl rfl)
theorem dX10_readsNumber_38 : decode cX10_readsNumber 38 = .ok (.aload_n 0, 1) := dk_42 (dk_at dksX10_readsNumber_1 14 rfl rfl)
theorem dX10_readsNumber_39 : decode cX10_readsNumber 39 = .ok (.getfield 219, 3) := dk_180 0 219 (dk_at dksX10_readsNumber_1 15 rfl rfl)
theorem dX10_readsNumber_42 : decode cX10_readsNumber 42 = .ok (.imul, 1) := dk_104 (dk_at dksX10_readsNumber_1 18 rfl rfl)
theorem dX10_readsNumber_43 : decode cX10_readsNumber 43 = .ok (.aload_n 0, 1) := dk_42 (dk_at dksX10_readsNumber_1 19 rfl rfl)
theorem dX10_readsNumber_44 : decode cX10_readsNumber 44 = .ok (.getfield 79, 3) := dk_180 0 79 (dk_at dksX10_readsNumber_1 20 rfl rfl)
theorem dX10_readsNumber_47 : decode cX10_readsNumber 47 = .ok (.aload_n 0, 1) := dk_42 (dk_at dksX10_readsNumber_1 23 rfl rfl)
theorem dX10_readsNumber_48 : decode cX10_readsNumber 48 = .ok (.getfield 222, 3) := dk_180 0 222 (dk_at dksX10_readsNumber_2 0 rfl rfl)
theorem dX10_readsNumber_51 : decode cX10_readsNumber 51 = .ok (.iaload, 1) := dk_46 (dk_at dksX10_readsNumber_2 3 rfl rfl)
theorem dX10_readsNumber_52 : decode cX10_readsNumber 52 = .ok (.iadd, 1) := dk_96 (dk_at dksX10_readsNumber_2 4 rfl rfl)
theorem dX10_readsNumber_53 : decode cX10_readsNumber 53 = .ok (.bipush 48, 2) := dk_16 48 (dk_at dksX10_readsNumber_2 5 rfl rfl)
theorem dX10_readsNumber_55 : decode cX10_readsNumber 55 = .ok (.isub, 1) := dk_100 (dk_at dksX10_readsNumber_2 7 rfl rfl)
theorem dX10_readsNumber_56 : decode cX10_readsNumber 56 = .ok (.putfield 219, 3) := dk_181 0 219 (dk_at dksX10_readsNumber_2 8 rfl rfl)
theorem dX10_readsNumber_59 : decode cX10_readsNumber 59 = .ok (.aload_n 0, 1) := dk_42 (dk_at dksX10_readsNumber_2 11 rfl rfl)
theorem dX10_readsNumber_60 : decode cX10_readsNumber 60 = .ok (.dup, 1) := dk_89 (dk_at dksX10_readsNumber_2 12 rfl rfl)
theorem dX10_readsNumber_61 : decode cX10_readsNumber 61 = .ok (.getfield 222, 3) := dk_180 0 222 (dk_at dksX10_readsNumber_2 13 rfl rfl)
theorem dX10_readsNumber_64 : decode cX10_readsNumber 64 = .ok (.iconst 1, 1) := dk_4 (dk_at dksX10_readsNumber_2 16 rfl rfl)
theorem dX10_readsNumber_65 : decode cX10_readsNumber 65 = .ok (.iadd, 1) := dk_96 (dk_at dksX10_readsNumber_2 17 rfl rfl)
theorem dX10_readsNumber_66 : decode cX10_readsNumber 66 = .ok (.putfield 222, 3) := dk_181 0 222 (dk_at dksX10_readsNumber_2 18 rfl rfl)
theorem dX10_readsNumber_69 : decode cX10_readsNumber 69 = .ok (.goto (-64), 3) := dk_167 255 192 (dk_at dksX10_readsNumber_2 21 rfl rfl)
theorem dX10_readsNumber_72 : decode cX10_readsNumber 72 = .ok (.aload_n 0, 1) := dk_42 (dk_at dksX10_readsNumber_3 0 rfl rfl)
theorem dX10_readsNumber_73 : decode cX10_readsNumber 73 = .ok (.iconst 2, 1) := dk_5 (dk_at dksX10_readsNumber_3 1 rfl rfl)
theorem dX10_readsNumber_74 : decode cX10_readsNumber 74 = .ok (.putfield 232, 3) := dk_181 0 232 (dk_at dksX10_readsNumber_3 2 rfl rfl)
theorem dX10_readsNumber_77 : decode cX10_readsNumber 77 = .ok (.return_, 1) := dk_177 (dk_at dksX10_readsNumber_3 5 rfl rfl)
abbrev cX10_readsText : ByteArray := prog_28_method_70_code
def yX10_readsText : MethodName := ⟨RX10, "readsText", "()V"⟩
def dkwX10_readsText_7 : List UInt8 := [42, 180, 0, 232, 153, 0, 8, 42, 4, 182, 0, 250, 177]
abbrev dktX10_readsText_7 : List UInt8 := dkwX10_readsText_7 ++ []
def dkwX10_readsText_6 : List UInt8 := [42, 182, 1, 21, 167, 255, 242, 42, 19, 1, 24, 182, 1, 9, 153, 0, 10, 42, 182, 1, 26, 167, 255, 242]
abbrev dktX10_readsText_6 : List UInt8 := dkwX10_readsText_6 ++ dktX10_readsText_7
def dkwX10_readsText_5 : List UInt8 := [17, 39, 16, 104, 27, 108, 133, 80, 132, 3, 1, 167, 255, 231, 42, 19, 1, 19, 182, 1, 9, 153, 0, 10]
abbrev dktX10_readsText_5 : List UInt8 := dkwX10_readsText_5 ++ dktX10_readsText_6
def dkwX10_readsText_4 : List UInt8 := [80, 42, 180, 0, 60, 7, 10, 80, 3, 62, 29, 27, 162, 0, 26, 42, 180, 0, 60, 16, 8, 29, 96, 29]
abbrev dktX10_readsText_4 : List UInt8 := dkwX10_readsText_4 ++ dktX10_readsText_5
def dkwX10_readsText_3 : List UInt8 := [29, 9, 80, 132, 3, 1, 167, 255, 239, 42, 180, 0, 60, 3, 27, 133, 80, 42, 180, 0, 60, 4, 28, 133]
abbrev dktX10_readsText_3 : List UInt8 := dkwX10_readsText_3 ++ dktX10_readsText_4
def dkwX10_readsText_2 : List UInt8 := [182, 1, 16, 42, 180, 0, 244, 153, 0, 4, 177, 3, 62, 29, 17, 2, 94, 162, 0, 16, 42, 180, 0, 60]
abbrev dktX10_readsText_2 : List UInt8 := dkwX10_readsText_2 ++ dktX10_readsText_3
def dkwX10_readsText_1 : List UInt8 := [182, 0, 247, 42, 4, 16, 8, 182, 1, 13, 60, 42, 16, 10, 17, 3, 231, 182, 1, 13, 61, 42, 6]
abbrev dktX10_readsText_1 : List UInt8 := dkwX10_readsText_1 ++ dktX10_readsText_2
def dkwX10_readsText_0 : List UInt8 := [42, 19, 1, 7, 182, 1, 9, 154, 0, 8, 42, 4, 182, 0, 250, 42, 180, 0, 244, 154, 0, 7, 42]
abbrev dktX10_readsText_0 : List UInt8 := dkwX10_readsText_0 ++ dktX10_readsText_1
theorem dksX10_readsText_0 : cX10_readsText.data.toList.drop 0 = dktX10_readsText_0 := by decide +kernel
theorem dksX10_readsText_1 : cX10_readsText.data.toList.drop 23 = dktX10_readsText_1 := dk_seg dksX10_readsText_0 23 rfl rfl
theorem dksX10_readsText_2 : cX10_readsText.data.toList.drop 46 = dktX10_readsText_2 := dk_seg dksX10_readsText_1 23 rfl rfl
theorem dksX10_readsText_3 : cX10_readsText.data.toList.drop 70 = dktX10_readsText_3 := dk_seg dksX10_readsText_2 24 rfl rfl
theorem dksX10_readsText_4 : cX10_readsText.data.toList.drop 94 = dktX10_readsText_4 := dk_seg dksX10_readsText_3 24 rfl rfl
theorem dksX10_readsText_5 : cX10_readsText.data.toList.drop 118 = dktX10_readsText_5 := dk_seg dksX10_readsText_4 24 rfl rfl
theorem dksX10_readsText_6 : cX10_readsText.data.toList.drop 142 = dktX10_readsText_6 := dk_seg dksX10_readsText_5 24 rfl rfl
theorem dksX10_readsText_7 : cX10_readsText.data.toList.drop 166 = dktX10_readsText_7 := dk_seg dksX10_readsText_6 24 rfl rfl
theorem dX10_readsText_0 : decode cX10_readsText 0 = .ok (.aload_n 0, 1) := dk_42 (dk_at dksX10_readsText_0 0 rfl rfl)
theorem dX10_readsText_1 : decode cX10_readsText 1 = .ok (.ldc_w 263, 3) := dk_19 1 7 (dk_at dksX10_readsText_0 1 rfl rfl)
theorem dX10_readsText_4 : decode cX10_readsText 4 = .ok (.invokevirtual 265, 3) := dk_182 1 9 (dk_at dksX10_readsText_0 4 rfl rfl)
theorem dX10_readsText_7 : decode cX10_readsText 7 = .ok (.ifCond .ne 8, 3) := dk_154 0 8 (dk_at dksX10_readsText_0 7 rfl rfl)
theorem dX10_readsText_10 : decode cX10_readsText 10 = .ok (.aload_n 0, 1) := dk_42 (dk_at dksX10_readsText_0 10 rfl rfl)
theorem dX10_readsText_11 : decode cX10_readsText 11 = .ok (.iconst 1, 1) := dk_4 (dk_at dksX10_readsText_0 11 rfl rfl)
theorem dX10_readsText_12 : decode cX10_readsText 12 = .ok (.invokevirtual 250, 3) := dk_182 0 250 (dk_at dksX10_readsText_0 12 rfl rfl)
theorem dX10_readsText_15 : decode cX10_readsText 15 = .ok (.aload_n 0, 1) := dk_42 (dk_at dksX10_readsText_0 15 rfl rfl)
theorem dX10_readsText_16 : decode cX10_readsText 16 = .ok (.getfield 244, 3) := dk_180 0 244 (dk_at dksX10_readsText_0 16 rfl rfl)
theorem dX10_readsText_19 : decode cX10_readsText 19 = .ok (.ifCond .ne 7, 3) := dk_154 0 7 (dk_at dksX10_readsText_0 19 rfl rfl)
theorem dX10_readsText_22 : decode cX10_readsText 22 = .ok (.aload_n 0, 1) := dk_42 (dk_at dksX10_readsText_0 22 rfl rfl)
theorem dX10_readsText_23 : decode cX10_readsText 23 = .ok (.invokevirtual 247, 3) := dk_182 0 247 (dk_at dksX10_readsText_1 0 rfl rfl)
theorem dX10_readsText_26 : decode cX10_readsText 26 = .ok (.aload_n 0, 1) := dk_42 (dk_at dksX10_readsText_1 3 rfl rfl)
theorem dX10_readsText_27 : decode cX10_readsText 27 = .ok (.iconst 1, 1) := dk_4 (dk_at dksX10_readsText_1 4 rfl rfl)
theorem dX10_readsText_28 : decode cX10_readsText 28 = .ok (.bipush 8, 2) := dk_16 8 (dk_at dksX10_readsText_1 5 rfl rfl)
theorem dX10_readsText_30 : decode cX10_readsText 30 = .ok (.invokevirtual 269, 3) := dk_182 1 13 (dk_at dksX10_readsText_1 7 rfl rfl)
theorem dX10_readsText_33 : decode cX10_readsText 33 = .ok (.istore_n 1, 1) := dk_60 (dk_at dksX10_readsText_1 10 rfl rfl)
theorem dX10_readsText_34 : decode cX10_readsText 34 = .ok (.aload_n 0, 1) := dk_42 (dk_at dksX10_readsText_1 11 rfl rfl)
theorem dX10_readsText_35 : decode cX10_readsText 35 = .ok (.bipush 10, 2) := dk_16 10 (dk_at dksX10_readsText_1 12 rfl rfl)
theorem dX10_readsText_37 : decode cX10_readsText 37 = .ok (.sipush 999, 3) := dk_17 3 231 (dk_at dksX10_readsText_1 14 rfl rfl)
theorem dX10_readsText_40 : decode cX10_readsText 40 = .ok (.invokevirtual 269, 3) := dk_182 1 13 (dk_at dksX10_readsText_1 17 rfl rfl)
theorem dX10_readsText_43 : decode cX10_readsText 43 = .ok (.istore_n 2, 1) := dk_61 (dk_at dksX10_readsText_1 20 rfl rfl)
theorem dX10_readsText_44 : decode cX10_readsText 44 = .ok (.aload_n 0, 1) := dk_42 (dk_at dksX10_readsText_1 21 rfl rfl)
theorem dX10_readsText_45 : decode cX10_readsText 45 = .ok (.iconst 3, 1) := dk_6 (dk_at dksX10_readsText_1 22 rfl rfl)
theorem dX10_readsText_46 : decode cX10_readsText 46 = .ok (.invokevirtual 272, 3) := dk_182 1 16 (dk_at dksX10_readsText_2 0 rfl rfl)
theorem dX10_readsText_49 : decode cX10_readsText 49 = .ok (.aload_n 0, 1) := dk_42 (dk_at dksX10_readsText_2 3 rfl rfl)
theorem dX10_readsText_50 : decode cX10_readsText 50 = .ok (.getfield 244, 3) := dk_180 0 244 (dk_at dksX10_readsText_2 4 rfl rfl)
theorem dX10_readsText_53 : decode cX10_readsText 53 = .ok (.ifCond .eq 4, 3) := dk_153 0 4 (dk_at dksX10_readsText_2 7 rfl rfl)
theorem dX10_readsText_56 : decode cX10_readsText 56 = .ok (.return_, 1) := dk_177 (dk_at dksX10_readsText_2 10 rfl rfl)
theorem dX10_readsText_57 : decode cX10_readsText 57 = .ok (.iconst 0, 1) := dk_3 (dk_at dksX10_readsText_2 11 rfl rfl)
theorem dX10_readsText_58 : decode cX10_readsText 58 = .ok (.istore_n 3, 1) := dk_62 (dk_at dksX10_readsText_2 12 rfl rfl)
theorem dX10_readsText_59 : decode cX10_readsText 59 = .ok (.iload_n 3, 1) := dk_29 (dk_at dksX10_readsText_2 13 rfl rfl)
theorem dX10_readsText_60 : decode cX10_readsText 60 = .ok (.sipush 606, 3) := dk_17 2 94 (dk_at dksX10_readsText_2 14 rfl rfl)
theorem dX10_readsText_63 : decode cX10_readsText 63 = .ok (.if_icmp .ge 16, 3) := dk_162 0 16 (dk_at dksX10_readsText_2 17 rfl rfl)
theorem dX10_readsText_66 : decode cX10_readsText 66 = .ok (.aload_n 0, 1) := dk_42 (dk_at dksX10_readsText_2 20 rfl rfl)
theorem dX10_readsText_67 : decode cX10_readsText 67 = .ok (.getfield 60, 3) := dk_180 0 60 (dk_at dksX10_readsText_2 21 rfl rfl)
theorem dX10_readsText_70 : decode cX10_readsText 70 = .ok (.iload_n 3, 1) := dk_29 (dk_at dksX10_readsText_3 0 rfl rfl)
theorem dX10_readsText_71 : decode cX10_readsText 71 = .ok (.lconst 0, 1) := dk_9 (dk_at dksX10_readsText_3 1 rfl rfl)
theorem dX10_readsText_72 : decode cX10_readsText 72 = .ok (.lastore, 1) := dk_80 (dk_at dksX10_readsText_3 2 rfl rfl)
theorem dX10_readsText_73 : decode cX10_readsText 73 = .ok (.iinc 3 1, 3) := dk_132 3 1 (dk_at dksX10_readsText_3 3 rfl rfl)
theorem dX10_readsText_76 : decode cX10_readsText 76 = .ok (.goto (-17), 3) := dk_167 255 239 (dk_at dksX10_readsText_3 6 rfl rfl)
theorem dX10_readsText_79 : decode cX10_readsText 79 = .ok (.aload_n 0, 1) := dk_42 (dk_at dksX10_readsText_3 9 rfl rfl)
theorem dX10_readsText_80 : decode cX10_readsText 80 = .ok (.getfield 60, 3) := dk_180 0 60 (dk_at dksX10_readsText_3 10 rfl rfl)
theorem dX10_readsText_83 : decode cX10_readsText 83 = .ok (.iconst 0, 1) := dk_3 (dk_at dksX10_readsText_3 13 rfl rfl)
theorem dX10_readsText_84 : decode cX10_readsText 84 = .ok (.iload_n 1, 1) := dk_27 (dk_at dksX10_readsText_3 14 rfl rfl)
theorem dX10_readsText_85 : decode cX10_readsText 85 = .ok (.i2l, 1) := dk_133 (dk_at dksX10_readsText_3 15 rfl rfl)
theorem dX10_readsText_86 : decode cX10_readsText 86 = .ok (.lastore, 1) := dk_80 (dk_at dksX10_readsText_3 16 rfl rfl)
theorem dX10_readsText_87 : decode cX10_readsText 87 = .ok (.aload_n 0, 1) := dk_42 (dk_at dksX10_readsText_3 17 rfl rfl)
theorem dX10_readsText_88 : decode cX10_readsText 88 = .ok (.getfield 60, 3) := dk_180 0 60 (dk_at dksX10_readsText_3 18 rfl rfl)
theorem dX10_readsText_91 : decode cX10_readsText 91 = .ok (.iconst 1, 1) := dk_4 (dk_at dksX10_readsText_3 21 rfl rfl)
theorem dX10_readsText_92 : decode cX10_readsText 92 = .ok (.iload_n 2, 1) := dk_28 (dk_at dksX10_readsText_3 22 rfl rfl)
theorem dX10_readsText_93 : decode cX10_readsText 93 = .ok (.i2l, 1) := dk_133 (dk_at dksX10_readsText_3 23 rfl rfl)
theorem dX10_readsText_94 : decode cX10_readsText 94 = .ok (.lastore, 1) := dk_80 (dk_at dksX10_readsText_4 0 rfl rfl)
theorem dX10_readsText_95 : decode cX10_readsText 95 = .ok (.aload_n 0, 1) := dk_42 (dk_at dksX10_readsText_4 1 rfl rfl)
theorem dX10_readsText_96 : decode cX10_readsText 96 = .ok (.getfield 60, 3) := dk_180 0 60 (dk_at dksX10_readsText_4 2 rfl rfl)
theorem dX10_readsText_99 : decode cX10_readsText 99 = .ok (.iconst 4, 1) := dk_7 (dk_at dksX10_readsText_4 5 rfl rfl)
theorem dX10_readsText_100 : decode cX10_readsText 100 = .ok (.lconst 1, 1) := dk_10 (dk_at dksX10_readsText_4 6 rfl rfl)
theorem dX10_readsText_101 : decode cX10_readsText 101 = .ok (.lastore, 1) := dk_80 (dk_at dksX10_readsText_4 7 rfl rfl)
theorem dX10_readsText_102 : decode cX10_readsText 102 = .ok (.iconst 0, 1) := dk_3 (dk_at dksX10_readsText_4 8 rfl rfl)
theorem dX10_readsText_103 : decode cX10_readsText 103 = .ok (.istore_n 3, 1) := dk_62 (dk_at dksX10_readsText_4 9 rfl rfl)
theorem dX10_readsText_104 : decode cX10_readsText 104 = .ok (.iload_n 3, 1) := dk_29 (dk_at dksX10_readsText_4 10 rfl rfl)
theorem dX10_readsText_105 : decode cX10_readsText 105 = .ok (.iload_n 1, 1) := dk_27 (dk_at dksX10_readsText_4 11 rfl rfl)
theorem dX10_readsText_106 : decode cX10_readsText 106 = .ok (.if_icmp .ge 26, 3) := dk_162 0 26 (dk_at dksX10_readsText_4 12 rfl rfl)
theorem dX10_readsText_109 : decode cX10_readsText 109 = .ok (.aload_n 0, 1) := dk_42 (dk_at dksX10_readsText_4 15 rfl rfl)
theorem dX10_readsText_110 : decode cX10_readsText 110 = .ok (.getfield 60, 3) := dk_180 0 60 (dk_at dksX10_readsText_4 16 rfl rfl)
theorem dX10_readsText_113 : decode cX10_readsText 113 = .ok (.bipush 8, 2) := dk_16 8 (dk_at dksX10_readsText_4 19 rfl rfl)
theorem dX10_readsText_115 : decode cX10_readsText 115 = .ok (.iload_n 3, 1) := dk_29 (dk_at dksX10_readsText_4 21 rfl rfl)
theorem dX10_readsText_116 : decode cX10_readsText 116 = .ok (.iadd, 1) := dk_96 (dk_at dksX10_readsText_4 22 rfl rfl)
theorem dX10_readsText_117 : decode cX10_readsText 117 = .ok (.iload_n 3, 1) := dk_29 (dk_at dksX10_readsText_4 23 rfl rfl)
theorem dX10_readsText_118 : decode cX10_readsText 118 = .ok (.sipush 10000, 3) := dk_17 39 16 (dk_at dksX10_readsText_5 0 rfl rfl)
theorem dX10_readsText_121 : decode cX10_readsText 121 = .ok (.imul, 1) := dk_104 (dk_at dksX10_readsText_5 3 rfl rfl)
theorem dX10_readsText_122 : decode cX10_readsText 122 = .ok (.iload_n 1, 1) := dk_27 (dk_at dksX10_readsText_5 4 rfl rfl)
theorem dX10_readsText_123 : decode cX10_readsText 123 = .ok (.idiv, 1) := dk_108 (dk_at dksX10_readsText_5 5 rfl rfl)
theorem dX10_readsText_124 : decode cX10_readsText 124 = .ok (.i2l, 1) := dk_133 (dk_at dksX10_readsText_5 6 rfl rfl)
theorem dX10_readsText_125 : decode cX10_readsText 125 = .ok (.lastore, 1) := dk_80 (dk_at dksX10_readsText_5 7 rfl rfl)
theorem dX10_readsText_126 : decode cX10_readsText 126 = .ok (.iinc 3 1, 3) := dk_132 3 1 (dk_at dksX10_readsText_5 8 rfl rfl)
theorem dX10_readsText_129 : decode cX10_readsText 129 = .ok (.goto (-25), 3) := dk_167 255 231 (dk_at dksX10_readsText_5 11 rfl rfl)
theorem dX10_readsText_132 : decode cX10_readsText 132 = .ok (.aload_n 0, 1) := dk_42 (dk_at dksX10_readsText_5 14 rfl rfl)
theorem dX10_readsText_133 : decode cX10_readsText 133 = .ok (.ldc_w 275, 3) := dk_19 1 19 (dk_at dksX10_readsText_5 15 rfl rfl)
theorem dX10_readsText_136 : decode cX10_readsText 136 = .ok (.invokevirtual 265, 3) := dk_182 1 9 (dk_at dksX10_readsText_5 18 rfl rfl)
theorem dX10_readsText_139 : decode cX10_readsText 139 = .ok (.ifCond .eq 10, 3) := dk_153 0 10 (dk_at dksX10_readsText_5 21 rfl rfl)
theorem dX10_readsText_142 : decode cX10_readsText 142 = .ok (.aload_n 0, 1) := dk_42 (dk_at dksX10_readsText_6 0 rfl rfl)
theorem dX10_readsText_143 : decode cX10_readsText 143 = .ok (.invokevirtual 277, 3) := dk_182 1 21 (dk_at dksX10_readsText_6 1 rfl rfl)
theorem dX10_readsText_146 : decode cX10_readsText 146 = .ok (.goto (-14), 3) := dk_167 255 242 (dk_at dksX10_readsText_6 4 rfl rfl)
theorem dX10_readsText_149 : decode cX10_readsText 149 = .ok (.aload_n 0, 1) := dk_42 (dk_at dksX10_readsText_6 7 rfl rfl)
theorem dX10_readsText_150 : decode cX10_readsText 150 = .ok (.ldc_w 280, 3) := dk_19 1 24 (dk_at dksX10_readsText_6 8 rfl rfl)
theorem dX10_readsText_153 : decode cX10_readsText 153 = .ok (.invokevirtual 265, 3) := dk_182 1 9 (dk_at dksX10_readsText_6 11 rfl rfl)
theorem dX10_readsText_156 : decode cX10_readsText 156 = .ok (.ifCond .eq 10, 3) := dk_153 0 10 (dk_at dksX10_readsText_6 14 rfl rfl)
theorem dX10_readsText_159 : decode cX10_readsText 159 = .ok (.aload_n 0, 1) := dk_42 (dk_at dksX10_readsText_6 17 rfl rfl)
theorem dX10_readsText_160 : decode cX10_readsText 160 = .ok (.invokevirtual 282, 3) := dk_182 1 26 (dk_at dksX10_readsText_6 18 rfl rfl)
theorem dX10_readsText_163 : decode cX10_readsText 163 = .ok (.goto (-14), 3) := dk_167 255 242 (dk_at dksX10_readsText_6 21 rfl rfl)
theorem dX10_readsText_166 : decode cX10_readsText 166 = .ok (.aload_n 0, 1) := dk_42 (dk_at dksX10_readsText_7 0 rfl rfl)
theorem dX10_readsText_167 : decode cX10_readsText 167 = .ok (.getfield 232, 3) := dk_180 0 232 (dk_at dksX10_readsText_7 1 rfl rfl)
theorem dX10_readsText_170 : decode cX10_readsText 170 = .ok (.ifCond .eq 8, 3) := dk_153 0 8 (dk_at dksX10_readsText_7 4 rfl rfl)
theorem dX10_readsText_173 : decode cX10_readsText 173 = .ok (.aload_n 0, 1) := dk_42 (dk_at dksX10_readsText_7 7 rfl rfl)
theorem dX10_readsText_174 : decode cX10_readsText 174 = .ok (.iconst 1, 1) := dk_4 (dk_at dksX10_readsText_7 8 rfl rfl)
theorem dX10_readsText_175 : decode cX10_readsText 175 = .ok (.invokevirtual 250, 3) := dk_182 0 250 (dk_at dksX10_readsText_7 9 rfl rfl)
theorem dX10_readsText_178 : decode cX10_readsText 178 = .ok (.return_, 1) := dk_177 (dk_at dksX10_readsText_7 12 rfl rfl)
abbrev cX10_isKey : ByteArray := prog_28_method_62_code
def yX10_isKey : MethodName := ⟨RX10, "isKey", "(Ljava/lang/String;)Z"⟩
def dkwX10_isKey_2 : List UInt8 := [180, 0, 235, 28, 96, 46, 43, 28, 182, 0, 108, 159, 0, 5, 3, 172, 132, 2, 1, 167, 255, 224, 4, 172]
abbrev dktX10_isKey_2 : List UInt8 := dkwX10_isKey_2 ++ []
def dkwX10_isKey_1 : List UInt8 := [43, 182, 0, 102, 159, 0, 5, 3, 172, 3, 61, 28, 43, 182, 0, 102, 162, 0, 30, 42, 180, 0, 79, 42]
abbrev dktX10_isKey_1 : List UInt8 := dkwX10_isKey_1 ++ dktX10_isKey_2
def dkwX10_isKey_0 : List UInt8 := [42, 180, 0, 244, 154, 0, 27, 42, 180, 0, 232, 4, 160, 0, 19, 42, 180, 0, 222, 42, 180, 0, 235, 100]
abbrev dktX10_isKey_0 : List UInt8 := dkwX10_isKey_0 ++ dktX10_isKey_1
theorem dksX10_isKey_0 : cX10_isKey.data.toList.drop 0 = dktX10_isKey_0 := by decide +kernel
theorem dksX10_isKey_1 : cX10_isKey.data.toList.drop 24 = dktX10_isKey_1 := dk_seg dksX10_isKey_0 24 rfl rfl
theorem dksX10_isKey_2 : cX10_isKey.data.toList.drop 48 = dktX10_isKey_2 := dk_seg dksX10_isKey_1 24 rfl rfl
theorem dX10_isKey_0 : decode cX10_isKey 0 = .ok (.aload_n 0, 1) := dk_42 (dk_at dksX10_isKey_0 0 rfl rfl)
theorem dX10_isKey_1 : decode cX10_isKey 1 = .ok (.getfield 244, 3) := dk_180 0 244 (dk_at dksX10_isKey_0 1 rfl rfl)
theorem dX10_isKey_4 : decode cX10_isKey 4 = .ok (.ifCond .ne 27, 3) := dk_154 0 27 (dk_at dksX10_isKey_0 4 rfl rfl)
theorem dX10_isKey_7 : decode cX10_isKey 7 = .ok (.aload_n 0, 1) := dk_42 (dk_at dksX10_isKey_0 7 rfl rfl)
theorem dX10_isKey_8 : decode cX10_isKey 8 = .ok (.getfield 232, 3) := dk_180 0 232 (dk_at dksX10_isKey_0 8 rfl rfl)
theorem dX10_isKey_11 : decode cX10_isKey 11 = .ok (.iconst 1, 1) := dk_4 (dk_at dksX10_isKey_0 11 rfl rfl)
theorem dX10_isKey_12 : decode cX10_isKey 12 = .ok (.if_icmp .ne 19, 3) := dk_160 0 19 (dk_at dksX10_isKey_0 12 rfl rfl)
theorem dX10_isKey_15 : decode cX10_isKey 15 = .ok (.aload_n 0, 1) := dk_42 (dk_at dksX10_isKey_0 15 rfl rfl)
theorem dX10_isKey_16 : decode cX10_isKey 16 = .ok (.getfield 222, 3) := dk_180 0 222 (dk_at dksX10_isKey_0 16 rfl rfl)
theorem dX10_isKey_19 : decode cX10_isKey 19 = .ok (.aload_n 0, 1) := dk_42 (dk_at dksX10_isKey_0 19 rfl rfl)
theorem dX10_isKey_20 : decode cX10_isKey 20 = .ok (.getfield 235, 3) := dk_180 0 235 (dk_at dksX10_isKey_0 20 rfl rfl)
theorem dX10_isKey_23 : decode cX10_isKey 23 = .ok (.isub, 1) := dk_100 (dk_at dksX10_isKey_0 23 rfl rfl)
theorem dX10_isKey_24 : decode cX10_isKey 24 = .ok (.aload_n 1, 1) := dk_43 (dk_at dksX10_isKey_1 0 rfl rfl)
theorem dX10_isKey_25 : decode cX10_isKey 25 = .ok (.invokevirtual 102, 3) := dk_182 0 102 (dk_at dksX10_isKey_1 1 rfl rfl)
theorem dX10_isKey_28 : decode cX10_isKey 28 = .ok (.if_icmp .eq 5, 3) := dk_159 0 5 (dk_at dksX10_isKey_1 4 rfl rfl)
theorem dX10_isKey_31 : decode cX10_isKey 31 = .ok (.iconst 0, 1) := dk_3 (dk_at dksX10_isKey_1 7 rfl rfl)
theorem dX10_isKey_32 : decode cX10_isKey 32 = .ok (.ireturn, 1) := dk_172 (dk_at dksX10_isKey_1 8 rfl rfl)
theorem dX10_isKey_33 : decode cX10_isKey 33 = .ok (.iconst 0, 1) := dk_3 (dk_at dksX10_isKey_1 9 rfl rfl)
theorem dX10_isKey_34 : decode cX10_isKey 34 = .ok (.istore_n 2, 1) := dk_61 (dk_at dksX10_isKey_1 10 rfl rfl)
theorem dX10_isKey_35 : decode cX10_isKey 35 = .ok (.iload_n 2, 1) := dk_28 (dk_at dksX10_isKey_1 11 rfl rfl)
theorem dX10_isKey_36 : decode cX10_isKey 36 = .ok (.aload_n 1, 1) := dk_43 (dk_at dksX10_isKey_1 12 rfl rfl)
theorem dX10_isKey_37 : decode cX10_isKey 37 = .ok (.invokevirtual 102, 3) := dk_182 0 102 (dk_at dksX10_isKey_1 13 rfl rfl)
theorem dX10_isKey_40 : decode cX10_isKey 40 = .ok (.if_icmp .ge 30, 3) := dk_162 0 30 (dk_at dksX10_isKey_1 16 rfl rfl)
theorem dX10_isKey_43 : decode cX10_isKey 43 = .ok (.aload_n 0, 1) := dk_42 (dk_at dksX10_isKey_1 19 rfl rfl)
theorem dX10_isKey_44 : decode cX10_isKey 44 = .ok (.getfield 79, 3) := dk_180 0 79 (dk_at dksX10_isKey_1 20 rfl rfl)
theorem dX10_isKey_47 : decode cX10_isKey 47 = .ok (.aload_n 0, 1) := dk_42 (dk_at dksX10_isKey_1 23 rfl rfl)
theorem dX10_isKey_48 : decode cX10_isKey 48 = .ok (.getfield 235, 3) := dk_180 0 235 (dk_at dksX10_isKey_2 0 rfl rfl)
theorem dX10_isKey_51 : decode cX10_isKey 51 = .ok (.iload_n 2, 1) := dk_28 (dk_at dksX10_isKey_2 3 rfl rfl)
theorem dX10_isKey_52 : decode cX10_isKey 52 = .ok (.iadd, 1) := dk_96 (dk_at dksX10_isKey_2 4 rfl rfl)
theorem dX10_isKey_53 : decode cX10_isKey 53 = .ok (.iaload, 1) := dk_46 (dk_at dksX10_isKey_2 5 rfl rfl)
theorem dX10_isKey_54 : decode cX10_isKey 54 = .ok (.aload_n 1, 1) := dk_43 (dk_at dksX10_isKey_2 6 rfl rfl)
theorem dX10_isKey_55 : decode cX10_isKey 55 = .ok (.iload_n 2, 1) := dk_28 (dk_at dksX10_isKey_2 7 rfl rfl)
theorem dX10_isKey_56 : decode cX10_isKey 56 = .ok (.invokevirtual 108, 3) := dk_182 0 108 (dk_at dksX10_isKey_2 8 rfl rfl)
theorem dX10_isKey_59 : decode cX10_isKey 59 = .ok (.if_icmp .eq 5, 3) := dk_159 0 5 (dk_at dksX10_isKey_2 11 rfl rfl)
theorem dX10_isKey_62 : decode cX10_isKey 62 = .ok (.iconst 0, 1) := dk_3 (dk_at dksX10_isKey_2 14 rfl rfl)
theorem dX10_isKey_63 : decode cX10_isKey 63 = .ok (.ireturn, 1) := dk_172 (dk_at dksX10_isKey_2 15 rfl rfl)
theorem dX10_isKey_64 : decode cX10_isKey 64 = .ok (.iinc 2 1, 3) := dk_132 2 1 (dk_at dksX10_isKey_2 16 rfl rfl)
theorem dX10_isKey_67 : decode cX10_isKey 67 = .ok (.goto (-32), 3) := dk_167 255 224 (dk_at dksX10_isKey_2 19 rfl rfl)
theorem dX10_isKey_70 : decode cX10_isKey 70 = .ok (.iconst 1, 1) := dk_4 (dk_at dksX10_isKey_2 22 rfl rfl)
theorem dX10_isKey_71 : decode cX10_isKey 71 = .ok (.ireturn, 1) := dk_172 (dk_at dksX10_isKey_2 23 rfl rfl)
abbrev cX10_errs : ByteArray := prog_28_method_61_code
def yX10_errs : MethodName := ⟨RX10, "errs", "(I)V"⟩
def dkwX10_errs_0 : List UInt8 := [42, 180, 0, 244, 153, 0, 4, 177, 42, 27, 181, 0, 244, 42, 42, 180, 0, 235, 181, 0, 82, 177]
abbrev dktX10_errs_0 : List UInt8 := dkwX10_errs_0 ++ []
theorem dksX10_errs_0 : cX10_errs.data.toList.drop 0 = dktX10_errs_0 := by decide +kernel
theorem dX10_errs_0 : decode cX10_errs 0 = .ok (.aload_n 0, 1) := dk_42 (dk_at dksX10_errs_0 0 rfl rfl)
theorem dX10_errs_1 : decode cX10_errs 1 = .ok (.getfield 244, 3) := dk_180 0 244 (dk_at dksX10_errs_0 1 rfl rfl)
theorem dX10_errs_4 : decode cX10_errs 4 = .ok (.ifCond .eq 4, 3) := dk_153 0 4 (dk_at dksX10_errs_0 4 rfl rfl)
theorem dX10_errs_7 : decode cX10_errs 7 = .ok (.return_, 1) := dk_177 (dk_at dksX10_errs_0 7 rfl rfl)
theorem dX10_errs_8 : decode cX10_errs 8 = .ok (.aload_n 0, 1) := dk_42 (dk_at dksX10_errs_0 8 rfl rfl)
theorem dX10_errs_9 : decode cX10_errs 9 = .ok (.iload_n 1, 1) := dk_27 (dk_at dksX10_errs_0 9 rfl rfl)
theorem dX10_errs_10 : decode cX10_errs 10 = .ok (.putfield 244, 3) := dk_181 0 244 (dk_at dksX10_errs_0 10 rfl rfl)
theorem dX10_errs_13 : decode cX10_errs 13 = .ok (.aload_n 0, 1) := dk_42 (dk_at dksX10_errs_0 13 rfl rfl)
theorem dX10_errs_14 : decode cX10_errs 14 = .ok (.aload_n 0, 1) := dk_42 (dk_at dksX10_errs_0 14 rfl rfl)
theorem dX10_errs_15 : decode cX10_errs 15 = .ok (.getfield 235, 3) := dk_180 0 235 (dk_at dksX10_errs_0 15 rfl rfl)
theorem dX10_errs_18 : decode cX10_errs 18 = .ok (.putfield 82, 3) := dk_181 0 82 (dk_at dksX10_errs_0 18 rfl rfl)
theorem dX10_errs_21 : decode cX10_errs 21 = .ok (.return_, 1) := dk_177 (dk_at dksX10_errs_0 21 rfl rfl)
abbrev cX10_number0 : ByteArray := prog_28_method_64_code
def yX10_number0 : MethodName := ⟨RX10, "number0", "(II)I"⟩
def dkwX10_number0_2 : List UInt8 := [180, 0, 219, 62, 42, 182, 0, 247, 29, 172]
abbrev dktX10_number0_2 : List UInt8 := dkwX10_number0_2 ++ []
def dkwX10_number0_1 : List UInt8 := [133, 184, 0, 50, 154, 0, 8, 42, 5, 182, 0, 250, 42, 180, 0, 244, 153, 0, 5, 27, 172, 42]
abbrev dktX10_number0_1 : List UInt8 := dkwX10_number0_1 ++ dktX10_number0_2
def dkwX10_number0_0 : List UInt8 := [42, 180, 0, 232, 5, 159, 0, 11, 42, 4, 182, 0, 250, 167, 0, 23, 42, 180, 0, 219, 133, 27, 133, 28]
abbrev dktX10_number0_0 : List UInt8 := dkwX10_number0_0 ++ dktX10_number0_1
theorem dksX10_number0_0 : cX10_number0.data.toList.drop 0 = dktX10_number0_0 := by decide +kernel
theorem dksX10_number0_1 : cX10_number0.data.toList.drop 24 = dktX10_number0_1 := dk_seg dksX10_number0_0 24 rfl rfl
theorem dksX10_number0_2 : cX10_number0.data.toList.drop 46 = dktX10_number0_2 := dk_seg dksX10_number0_1 22 rfl rfl
theorem dX10_number0_0 : decode cX10_number0 0 = .ok (.aload_n 0, 1) := dk_42 (dk_at dksX10_number0_0 0 rfl rfl)
theorem dX10_number0_1 : decode cX10_number0 1 = .ok (.getfield 232, 3) := dk_180 0 232 (dk_at dksX10_number0_0 1 rfl rfl)
theorem dX10_number0_4 : decode cX10_number0 4 = .ok (.iconst 2, 1) := dk_5 (dk_at dksX10_number0_0 4 rfl rfl)
theorem dX10_number0_5 : decode cX10_number0 5 = .ok (.if_icmp .eq 11, 3) := dk_159 0 11 (dk_at dksX10_number0_0 5 rfl rfl)
theorem dX10_number0_8 : decode cX10_number0 8 = .ok (.aload_n 0, 1) := dk_42 (dk_at dksX10_number0_0 8 rfl rfl)
theorem dX10_number0_9 : decode cX10_number0 9 = .ok (.iconst 1, 1) := dk_4 (dk_at dksX10_number0_0 9 rfl rfl)
theorem dX10_number0_10 : decode cX10_number0 10 = .ok (.invokevirtual 250, 3) := dk_182 0 250 (dk_at dksX10_number0_0 10 rfl rfl)
theorem dX10_number0_13 : decode cX10_number0 13 = .ok (.goto 23, 3) := dk_167 0 23 (dk_at dksX10_number0_0 13 rfl rfl)
theorem dX10_number0_16 : decode cX10_number0 16 = .ok (.aload_n 0, 1) := dk_42 (dk_at dksX10_number0_0 16 rfl rfl)
theorem dX10_number0_17 : decode cX10_number0 17 = .ok (.getfield 219, 3) := dk_180 0 219 (dk_at dksX10_number0_0 17 rfl rfl)
theorem dX10_number0_20 : decode cX10_number0 20 = .ok (.i2l, 1) := dk_133 (dk_at dksX10_number0_0 20 rfl rfl)
theorem dX10_number0_21 : decode cX10_number0 21 = .ok (.iload_n 1, 1) := dk_27 (dk_at dksX10_number0_0 21 rfl rfl)
theorem dX10_number0_22 : decode cX10_number0 22 = .ok (.i2l, 1) := dk_133 (dk_at dksX10_number0_0 22 rfl rfl)
theorem dX10_number0_23 : decode cX10_number0 23 = .ok (.iload_n 2, 1) := dk_28 (dk_at dksX10_number0_0 23 rfl rfl)
theorem dX10_number0_24 : decode cX10_number0 24 = .ok (.i2l, 1) := dk_133 (dk_at dksX10_number0_1 0 rfl rfl)
theorem dX10_number0_25 : decode cX10_number0 25 = .ok (.invokestatic 50, 3) := dk_184 0 50 (dk_at dksX10_number0_1 1 rfl rfl)
theorem dX10_number0_28 : decode cX10_number0 28 = .ok (.ifCond .ne 8, 3) := dk_154 0 8 (dk_at dksX10_number0_1 4 rfl rfl)
theorem dX10_number0_31 : decode cX10_number0 31 = .ok (.aload_n 0, 1) := dk_42 (dk_at dksX10_number0_1 7 rfl rfl)
theorem dX10_number0_32 : decode cX10_number0 32 = .ok (.iconst 2, 1) := dk_5 (dk_at dksX10_number0_1 8 rfl rfl)
theorem dX10_number0_33 : decode cX10_number0 33 = .ok (.invokevirtual 250, 3) := dk_182 0 250 (dk_at dksX10_number0_1 9 rfl rfl)
theorem dX10_number0_36 : decode cX10_number0 36 = .ok (.aload_n 0, 1) := dk_42 (dk_at dksX10_number0_1 12 rfl rfl)
theorem dX10_number0_37 : decode cX10_number0 37 = .ok (.getfield 244, 3) := dk_180 0 244 (dk_at dksX10_number0_1 13 rfl rfl)
theorem dX10_number0_40 : decode cX10_number0 40 = .ok (.ifCond .eq 5, 3) := dk_153 0 5 (dk_at dksX10_number0_1 16 rfl rfl)
theorem dX10_number0_43 : decode cX10_number0 43 = .ok (.iload_n 1, 1) := dk_27 (dk_at dksX10_number0_1 19 rfl rfl)
theorem dX10_number0_44 : decode cX10_number0 44 = .ok (.ireturn, 1) := dk_172 (dk_at dksX10_number0_1 20 rfl rfl)
theorem dX10_number0_45 : decode cX10_number0 45 = .ok (.aload_n 0, 1) := dk_42 (dk_at dksX10_number0_1 21 rfl rfl)
theorem dX10_number0_46 : decode cX10_number0 46 = .ok (.getfield 219, 3) := dk_180 0 219 (dk_at dksX10_number0_2 0 rfl rfl)
theorem dX10_number0_49 : decode cX10_number0 49 = .ok (.istore_n 3, 1) := dk_62 (dk_at dksX10_number0_2 3 rfl rfl)
theorem dX10_number0_50 : decode cX10_number0 50 = .ok (.aload_n 0, 1) := dk_42 (dk_at dksX10_number0_2 4 rfl rfl)
theorem dX10_number0_51 : decode cX10_number0 51 = .ok (.invokevirtual 247, 3) := dk_182 0 247 (dk_at dksX10_number0_2 5 rfl rfl)
theorem dX10_number0_54 : decode cX10_number0 54 = .ok (.iload_n 3, 1) := dk_29 (dk_at dksX10_number0_2 8 rfl rfl)
theorem dX10_number0_55 : decode cX10_number0 55 = .ok (.ireturn, 1) := dk_172 (dk_at dksX10_number0_2 9 rfl rfl)
abbrev cX10_must : ByteArray := prog_28_method_63_code
def yX10_must : MethodName := ⟨RX10, "must", "(I)V"⟩
def dkwX10_must_1 : List UInt8 := [177]
abbrev dktX10_must_1 : List UInt8 := dkwX10_must_1 ++ []
def dkwX10_must_0 : List UInt8 := [42, 180, 0, 232, 27, 159, 0, 8, 42, 4, 182, 0, 250, 42, 180, 0, 244, 154, 0, 7, 42, 182, 0, 247]
abbrev dktX10_must_0 : List UInt8 := dkwX10_must_0 ++ dktX10_must_1
theorem dksX10_must_0 : cX10_must.data.toList.drop 0 = dktX10_must_0 := by decide +kernel
theorem dksX10_must_1 : cX10_must.data.toList.drop 24 = dktX10_must_1 := dk_seg dksX10_must_0 24 rfl rfl
theorem dX10_must_0 : decode cX10_must 0 = .ok (.aload_n 0, 1) := dk_42 (dk_at dksX10_must_0 0 rfl rfl)
theorem dX10_must_1 : decode cX10_must 1 = .ok (.getfield 232, 3) := dk_180 0 232 (dk_at dksX10_must_0 1 rfl rfl)
theorem dX10_must_4 : decode cX10_must 4 = .ok (.iload_n 1, 1) := dk_27 (dk_at dksX10_must_0 4 rfl rfl)
theorem dX10_must_5 : decode cX10_must 5 = .ok (.if_icmp .eq 8, 3) := dk_159 0 8 (dk_at dksX10_must_0 5 rfl rfl)
theorem dX10_must_8 : decode cX10_must 8 = .ok (.aload_n 0, 1) := dk_42 (dk_at dksX10_must_0 8 rfl rfl)
theorem dX10_must_9 : decode cX10_must 9 = .ok (.iconst 1, 1) := dk_4 (dk_at dksX10_must_0 9 rfl rfl)
theorem dX10_must_10 : decode cX10_must 10 = .ok (.invokevirtual 250, 3) := dk_182 0 250 (dk_at dksX10_must_0 10 rfl rfl)
theorem dX10_must_13 : decode cX10_must 13 = .ok (.aload_n 0, 1) := dk_42 (dk_at dksX10_must_0 13 rfl rfl)
theorem dX10_must_14 : decode cX10_must 14 = .ok (.getfield 244, 3) := dk_180 0 244 (dk_at dksX10_must_0 14 rfl rfl)
theorem dX10_must_17 : decode cX10_must 17 = .ok (.ifCond .ne 7, 3) := dk_154 0 7 (dk_at dksX10_must_0 17 rfl rfl)
theorem dX10_must_20 : decode cX10_must 20 = .ok (.aload_n 0, 1) := dk_42 (dk_at dksX10_must_0 20 rfl rfl)
theorem dX10_must_21 : decode cX10_must 21 = .ok (.invokevirtual 247, 3) := dk_182 0 247 (dk_at dksX10_must_0 21 rfl rfl)
theorem dX10_must_24 : decode cX10_must 24 = .ok (.return_, 1) := dk_177 (dk_at dksX10_must_1 0 rfl rfl)
abbrev cX10_readsRule : ByteArray := prog_28_method_71_code
def yX10_readsRule : MethodName := ⟨RX10, "readsRule", "()V"⟩
def dkwX10_readsRule_4 : List UInt8 := [54, 5, 177]
abbrev dktX10_readsRule_4 : List UInt8 := dkwX10_readsRule_4 ++ []
def dkwX10_readsRule_3 : List UInt8 := [182, 1, 29, 66, 42, 6, 182, 1, 16, 42, 180, 0, 244, 153, 0, 4, 177, 42, 31, 33, 182, 1, 32]
abbrev dktX10_readsRule_3 : List UInt8 := dkwX10_readsRule_3 ++ dktX10_readsRule_4
def dkwX10_readsRule_2 : List UInt8 := [42, 7, 182, 0, 250, 42, 180, 0, 244, 154, 0, 7, 42, 182, 0, 247, 42, 7, 182, 1, 16, 42]
abbrev dktX10_readsRule_2 : List UInt8 := dkwX10_readsRule_2 ++ dktX10_readsRule_3
def dkwX10_readsRule_1 : List UInt8 := [182, 0, 247, 42, 182, 0, 253, 64, 42, 180, 0, 244, 154, 0, 17, 42, 31, 182, 0, 125, 2, 159, 0, 8]
abbrev dktX10_readsRule_1 : List UInt8 := dkwX10_readsRule_1 ++ dktX10_readsRule_2
def dkwX10_readsRule_0 : List UInt8 := [42, 6, 182, 0, 118, 16, 8, 160, 0, 8, 42, 8, 182, 0, 250, 42, 180, 0, 244, 153, 0, 4, 177, 42]
abbrev dktX10_readsRule_0 : List UInt8 := dkwX10_readsRule_0 ++ dktX10_readsRule_1
theorem dksX10_readsRule_0 : cX10_readsRule.data.toList.drop 0 = dktX10_readsRule_0 := by decide +kernel
theorem dksX10_readsRule_1 : cX10_readsRule.data.toList.drop 24 = dktX10_readsRule_1 := dk_seg dksX10_readsRule_0 24 rfl rfl
theorem dksX10_readsRule_2 : cX10_readsRule.data.toList.drop 48 = dktX10_readsRule_2 := dk_seg dksX10_readsRule_1 24 rfl rfl
theorem dksX10_readsRule_3 : cX10_readsRule.data.toList.drop 70 = dktX10_readsRule_3 := dk_seg dksX10_readsRule_2 22 rfl rfl
theorem dksX10_readsRule_4 : cX10_readsRule.data.toList.drop 93 = dktX10_readsRule_4 := dk_seg dksX10_readsRule_3 23 rfl rfl
theorem dX10_readsRule_0 : decode cX10_readsRule 0 = .ok (.aload_n 0, 1) := dk_42 (dk_at dksX10_readsRule_0 0 rfl rfl)
theorem dX10_readsRule_1 : decode cX10_readsRule 1 = .ok (.iconst 3, 1) := dk_6 (dk_at dksX10_readsRule_0 1 rfl rfl)
theorem dX10_readsRule_2 : decode cX10_readsRule 2 = .ok (.invokevirtual 118, 3) := dk_182 0 118 (dk_at dksX10_readsRule_0 2 rfl rfl)
theorem dX10_readsRule_5 : decode cX10_readsRule 5 = .ok (.bipush 8, 2) := dk_16 8 (dk_at dksX10_readsRule_0 5 rfl rfl)
theorem dX10_readsRule_7 : decode cX10_readsRule 7 = .ok (.if_icmp .ne 8, 3) := dk_160 0 8 (dk_at dksX10_readsRule_0 7 rfl rfl)
theorem dX10_readsRule_10 : decode cX10_readsRule 10 = .ok (.aload_n 0, 1) := dk_42 (dk_at dksX10_readsRule_0 10 rfl rfl)
theorem dX10_readsRule_11 : decode cX10_readsRule 11 = .ok (.iconst 5, 1) := dk_8 (dk_at dksX10_readsRule_0 11 rfl rfl)
theorem dX10_readsRule_12 : decode cX10_readsRule 12 = .ok (.invokevirtual 250, 3) := dk_182 0 250 (dk_at dksX10_readsRule_0 12 rfl rfl)
theorem dX10_readsRule_15 : decode cX10_readsRule 15 = .ok (.aload_n 0, 1) := dk_42 (dk_at dksX10_readsRule_0 15 rfl rfl)
theorem dX10_readsRule_16 : decode cX10_readsRule 16 = .ok (.getfield 244, 3) := dk_180 0 244 (dk_at dksX10_readsRule_0 16 rfl rfl)
theorem dX10_readsRule_19 : decode cX10_readsRule 19 = .ok (.ifCond .eq 4, 3) := dk_153 0 4 (dk_at dksX10_readsRule_0 19 rfl rfl)
theorem dX10_readsRule_22 : decode cX10_readsRule 22 = .ok (.return_, 1) := dk_177 (dk_at dksX10_readsRule_0 22 rfl rfl)
theorem dX10_readsRule_23 : decode cX10_readsRule 23 = .ok (.aload_n 0, 1) := dk_42 (dk_at dksX10_readsRule_0 23 rfl rfl)
theorem dX10_readsRule_24 : decode cX10_readsRule 24 = .ok (.invokevirtual 247, 3) := dk_182 0 247 (dk_at dksX10_readsRule_1 0 rfl rfl)
theorem dX10_readsRule_27 : decode cX10_readsRule 27 = .ok (.aload_n 0, 1) := dk_42 (dk_at dksX10_readsRule_1 3 rfl rfl)
theorem dX10_readsRule_28 : decode cX10_readsRule 28 = .ok (.invokevirtual 253, 3) := dk_182 0 253 (dk_at dksX10_readsRule_1 4 rfl rfl)
theorem dX10_readsRule_31 : decode cX10_readsRule 31 = .ok (.lstore_n 1, 1) := dk_64 (dk_at dksX10_readsRule_1 7 rfl rfl)
theorem dX10_readsRule_32 : decode cX10_readsRule 32 = .ok (.aload_n 0, 1) := dk_42 (dk_at dksX10_readsRule_1 8 rfl rfl)
theorem dX10_readsRule_33 : decode cX10_readsRule 33 = .ok (.getfield 244, 3) := dk_180 0 244 (dk_at dksX10_readsRule_1 9 rfl rfl)
theorem dX10_readsRule_36 : decode cX10_readsRule 36 = .ok (.ifCond .ne 17, 3) := dk_154 0 17 (dk_at dksX10_readsRule_1 12 rfl rfl)
theorem dX10_readsRule_39 : decode cX10_readsRule 39 = .ok (.aload_n 0, 1) := dk_42 (dk_at dksX10_readsRule_1 15 rfl rfl)
theorem dX10_readsRule_40 : decode cX10_readsRule 40 = .ok (.lload_n 1, 1) := dk_31 (dk_at dksX10_readsRule_1 16 rfl rfl)
theorem dX10_readsRule_41 : decode cX10_readsRule 41 = .ok (.invokevirtual 125, 3) := dk_182 0 125 (dk_at dksX10_readsRule_1 17 rfl rfl)
theorem dX10_readsRule_44 : decode cX10_readsRule 44 = .ok (.iconst (-1), 1) := dk_2 (dk_at dksX10_readsRule_1 20 rfl rfl)
theorem dX10_readsRule_45 : decode cX10_readsRule 45 = .ok (.if_icmp .eq 8, 3) := dk_159 0 8 (dk_at dksX10_readsRule_1 21 rfl rfl)
theorem dX10_readsRule_48 : decode cX10_readsRule 48 = .ok (.aload_n 0, 1) := dk_42 (dk_at dksX10_readsRule_2 0 rfl rfl)
theorem dX10_readsRule_49 : decode cX10_readsRule 49 = .ok (.iconst 4, 1) := dk_7 (dk_at dksX10_readsRule_2 1 rfl rfl)
theorem dX10_readsRule_50 : decode cX10_readsRule 50 = .ok (.invokevirtual 250, 3) := dk_182 0 250 (dk_at dksX10_readsRule_2 2 rfl rfl)
theorem dX10_readsRule_53 : decode cX10_readsRule 53 = .ok (.aload_n 0, 1) := dk_42 (dk_at dksX10_readsRule_2 5 rfl rfl)
theorem dX10_readsRule_54 : decode cX10_readsRule 54 = .ok (.getfield 244, 3) := dk_180 0 244 (dk_at dksX10_readsRule_2 6 rfl rfl)
theorem dX10_readsRule_57 : decode cX10_readsRule 57 = .ok (.ifCond .ne 7, 3) := dk_154 0 7 (dk_at dksX10_readsRule_2 9 rfl rfl)
theorem dX10_readsRule_60 : decode cX10_readsRule 60 = .ok (.aload_n 0, 1) := dk_42 (dk_at dksX10_readsRule_2 12 rfl rfl)
theorem dX10_readsRule_61 : decode cX10_readsRule 61 = .ok (.invokevirtual 247, 3) := dk_182 0 247 (dk_at dksX10_readsRule_2 13 rfl rfl)
theorem dX10_readsRule_64 : decode cX10_readsRule 64 = .ok (.aload_n 0, 1) := dk_42 (dk_at dksX10_readsRule_2 16 rfl rfl)
theorem dX10_readsRule_65 : decode cX10_readsRule 65 = .ok (.iconst 4, 1) := dk_7 (dk_at dksX10_readsRule_2 17 rfl rfl)
theorem dX10_readsRule_66 : decode cX10_readsRule 66 = .ok (.invokevirtual 272, 3) := dk_182 1 16 (dk_at dksX10_readsRule_2 18 rfl rfl)
theorem dX10_readsRule_69 : decode cX10_readsRule 69 = .ok (.aload_n 0, 1) := dk_42 (dk_at dksX10_readsRule_2 21 rfl rfl)
theorem dX10_readsRule_70 : decode cX10_readsRule 70 = .ok (.invokevirtual 285, 3) := dk_182 1 29 (dk_at dksX10_readsRule_3 0 rfl rfl)
theorem dX10_readsRule_73 : decode cX10_readsRule 73 = .ok (.lstore_n 3, 1) := dk_66 (dk_at dksX10_readsRule_3 3 rfl rfl)
theorem dX10_readsRule_74 : decode cX10_readsRule 74 = .ok (.aload_n 0, 1) := dk_42 (dk_at dksX10_readsRule_3 4 rfl rfl)
theorem dX10_readsRule_75 : decode cX10_readsRule 75 = .ok (.iconst 3, 1) := dk_6 (dk_at dksX10_readsRule_3 5 rfl rfl)
theorem dX10_readsRule_76 : decode cX10_readsRule 76 = .ok (.invokevirtual 272, 3) := dk_182 1 16 (dk_at dksX10_readsRule_3 6 rfl rfl)
theorem dX10_readsRule_79 : decode cX10_readsRule 79 = .ok (.aload_n 0, 1) := dk_42 (dk_at dksX10_readsRule_3 9 rfl rfl)
theorem dX10_readsRule_80 : decode cX10_readsRule 80 = .ok (.getfield 244, 3) := dk_180 0 244 (dk_at dksX10_readsRule_3 10 rfl rfl)
theorem dX10_readsRule_83 : decode cX10_readsRule 83 = .ok (.ifCond .eq 4, 3) := dk_153 0 4 (dk_at dksX10_readsRule_3 13 rfl rfl)
theorem dX10_readsRule_86 : decode cX10_readsRule 86 = .ok (.return_, 1) := dk_177 (dk_at dksX10_readsRule_3 16 rfl rfl)
theorem dX10_readsRule_87 : decode cX10_readsRule 87 = .ok (.aload_n 0, 1) := dk_42 (dk_at dksX10_readsRule_3 17 rfl rfl)
theorem dX10_readsRule_88 : decode cX10_readsRule 88 = .ok (.lload_n 1, 1) := dk_31 (dk_at dksX10_readsRule_3 18 rfl rfl)
theorem dX10_readsRule_89 : decode cX10_readsRule 89 = .ok (.lload_n 3, 1) := dk_33 (dk_at dksX10_readsRule_3 19 rfl rfl)
theorem dX10_readsRule_90 : decode cX10_readsRule 90 = .ok (.invokevirtual 288, 3) := dk_182 1 32 (dk_at dksX10_readsRule_3 20 rfl rfl)
theorem dX10_readsRule_93 : decode cX10_readsRule 93 = .ok (.istore 5, 2) := dk_54 5 (dk_at dksX10_readsRule_4 0 rfl rfl)
theorem dX10_readsRule_95 : decode cX10_readsRule 95 = .ok (.return_, 1) := dk_177 (dk_at dksX10_readsRule_4 2 rfl rfl)
abbrev cX10_head : ByteArray := prog_28_method_15_code
def yX10_head : MethodName := ⟨RX10, "head", "(I)I"⟩
def dkwX10_head_0 : List UInt8 := [42, 180, 0, 60, 27, 47, 136, 172]
abbrev dktX10_head_0 : List UInt8 := dkwX10_head_0 ++ []
theorem dksX10_head_0 : cX10_head.data.toList.drop 0 = dktX10_head_0 := by decide +kernel
theorem dX10_head_0 : decode cX10_head 0 = .ok (.aload_n 0, 1) := dk_42 (dk_at dksX10_head_0 0 rfl rfl)
theorem dX10_head_1 : decode cX10_head 1 = .ok (.getfield 60, 3) := dk_180 0 60 (dk_at dksX10_head_0 1 rfl rfl)
theorem dX10_head_4 : decode cX10_head 4 = .ok (.iload_n 1, 1) := dk_27 (dk_at dksX10_head_0 4 rfl rfl)
theorem dX10_head_5 : decode cX10_head 5 = .ok (.laload, 1) := dk_47 (dk_at dksX10_head_0 5 rfl rfl)
theorem dX10_head_6 : decode cX10_head 6 = .ok (.l2i, 1) := dk_136 (dk_at dksX10_head_0 6 rfl rfl)
theorem dX10_head_7 : decode cX10_head 7 = .ok (.ireturn, 1) := dk_172 (dk_at dksX10_head_0 7 rfl rfl)
abbrev cX10_wordHere : ByteArray := prog_28_method_65_code
def yX10_wordHere : MethodName := ⟨RX10, "wordHere", "()J"⟩
def dkwX10_wordHere_4 : List UInt8 := [167, 255, 223, 42, 182, 0, 46, 173]
abbrev dktX10_wordHere_4 : List UInt8 := dkwX10_wordHere_4 ++ []
def dkwX10_wordHere_3 : List UInt8 := [180, 0, 9, 27, 42, 180, 0, 79, 42, 180, 0, 235, 27, 96, 46, 16, 97, 100, 4, 96, 79, 132, 1, 1]
abbrev dktX10_wordHere_3 : List UInt8 := dkwX10_wordHere_3 ++ dktX10_wordHere_4
def dkwX10_wordHere_2 : List UInt8 := [180, 0, 222, 42, 180, 0, 235, 100, 181, 0, 15, 3, 60, 27, 42, 180, 0, 15, 162, 0, 31, 42]
abbrev dktX10_wordHere_2 : List UInt8 := dkwX10_wordHere_2 ++ dktX10_wordHere_3
def dkwX10_wordHere_1 : List UInt8 := [100, 16, 8, 164, 0, 8, 42, 6, 182, 0, 250, 42, 180, 0, 244, 153, 0, 5, 9, 173, 42, 42]
abbrev dktX10_wordHere_1 : List UInt8 := dkwX10_wordHere_1 ++ dktX10_wordHere_2
def dkwX10_wordHere_0 : List UInt8 := [42, 180, 0, 232, 4, 159, 0, 11, 42, 4, 182, 0, 250, 167, 0, 22, 42, 180, 0, 222, 42, 180, 0, 235]
abbrev dktX10_wordHere_0 : List UInt8 := dkwX10_wordHere_0 ++ dktX10_wordHere_1
theorem dksX10_wordHere_0 : cX10_wordHere.data.toList.drop 0 = dktX10_wordHere_0 := by decide +kernel
theorem dksX10_wordHere_1 : cX10_wordHere.data.toList.drop 24 = dktX10_wordHere_1 := dk_seg dksX10_wordHere_0 24 rfl rfl
theorem dksX10_wordHere_2 : cX10_wordHere.data.toList.drop 46 = dktX10_wordHere_2 := dk_seg dksX10_wordHere_1 22 rfl rfl
theorem dksX10_wordHere_3 : cX10_wordHere.data.toList.drop 68 = dktX10_wordHere_3 := dk_seg dksX10_wordHere_2 22 rfl rfl
theorem dksX10_wordHere_4 : cX10_wordHere.data.toList.drop 92 = dktX10_wordHere_4 := dk_seg dksX10_wordHere_3 24 rfl rfl
theorem dX10_wordHere_0 : decode cX10_wordHere 0 = .ok (.aload_n 0, 1) := dk_42 (dk_at dksX10_wordHere_0 0 rfl rfl)
theorem dX10_wordHere_1 : decode cX10_wordHere 1 = .ok (.getfield 232, 3) := dk_180 0 232 (dk_at dksX10_wordHere_0 1 rfl rfl)
theorem dX10_wordHere_4 : decode cX10_wordHere 4 = .ok (.iconst 1, 1) := dk_4 (dk_at dksX10_wordHere_0 4 rfl rfl)
theorem dX10_wordHere_5 : decode cX10_wordHere 5 = .ok (.if_icmp .eq 11, 3) := dk_159 0 11 (dk_at dksX10_wordHere_0 5 rfl rfl)
theorem dX10_wordHere_8 : decode cX10_wordHere 8 = .ok (.aload_n 0, 1) := dk_42 (dk_at dksX10_wordHere_0 8 rfl rfl)
theorem dX10_wordHere_9 : decode cX10_wordHere 9 = .ok (.iconst 1, 1) := dk_4 (dk_at dksX10_wordHere_0 9 rfl rfl)
theorem dX10_wordHere_10 : decode cX10_wordHere 10 = .ok (.invokevirtual 250, 3) := dk_182 0 250 (dk_at dksX10_wordHere_0 10 rfl rfl)
theorem dX10_wordHere_13 : decode cX10_wordHere 13 = .ok (.goto 22, 3) := dk_167 0 22 (dk_at dksX10_wordHere_0 13 rfl rfl)
theorem dX10_wordHere_16 : decode cX10_wordHere 16 = .ok (.aload_n 0, 1) := dk_42 (dk_at dksX10_wordHere_0 16 rfl rfl)
theorem dX10_wordHere_17 : decode cX10_wordHere 17 = .ok (.getfield 222, 3) := dk_180 0 222 (dk_at dksX10_wordHere_0 17 rfl rfl)
theorem dX10_wordHere_20 : decode cX10_wordHere 20 = .ok (.aload_n 0, 1) := dk_42 (dk_at dksX10_wordHere_0 20 rfl rfl)
theorem dX10_wordHere_21 : decode cX10_wordHere 21 = .ok (.getfield 235, 3) := dk_180 0 235 (dk_at dksX10_wordHere_0 21 rfl rfl)
theorem dX10_wordHere_24 : decode cX10_wordHere 24 = .ok (.isub, 1) := dk_100 (dk_at dksX10_wordHere_1 0 rfl rfl)
theorem dX10_wordHere_25 : decode cX10_wordHere 25 = .ok (.bipush 8, 2) := dk_16 8 (dk_at dksX10_wordHere_1 1 rfl rfl)
theorem dX10_wordHere_27 : decode cX10_wordHere 27 = .ok (.if_icmp .le 8, 3) := dk_164 0 8 (dk_at dksX10_wordHere_1 3 rfl rfl)
theorem dX10_wordHere_30 : decode cX10_wordHere 30 = .ok (.aload_n 0, 1) := dk_42 (dk_at dksX10_wordHere_1 6 rfl rfl)
theorem dX10_wordHere_31 : decode cX10_wordHere 31 = .ok (.iconst 3, 1) := dk_6 (dk_at dksX10_wordHere_1 7 rfl rfl)
theorem dX10_wordHere_32 : decode cX10_wordHere 32 = .ok (.invokevirtual 250, 3) := dk_182 0 250 (dk_at dksX10_wordHere_1 8 rfl rfl)
theorem dX10_wordHere_35 : decode cX10_wordHere 35 = .ok (.aload_n 0, 1) := dk_42 (dk_at dksX10_wordHere_1 11 rfl rfl)
theorem dX10_wordHere_36 : decode cX10_wordHere 36 = .ok (.getfield 244, 3) := dk_180 0 244 (dk_at dksX10_wordHere_1 12 rfl rfl)
theorem dX10_wordHere_39 : decode cX10_wordHere 39 = .ok (.ifCond .eq 5, 3) := dk_153 0 5 (dk_at dksX10_wordHere_1 15 rfl rfl)
theorem dX10_wordHere_42 : decode cX10_wordHere 42 = .ok (.lconst 0, 1) := dk_9 (dk_at dksX10_wordHere_1 18 rfl rfl)
theorem dX10_wordHere_43 : decode cX10_wordHere 43 = .ok (.lreturn, 1) := dk_173 (dk_at dksX10_wordHere_1 19 rfl rfl)
theorem dX10_wordHere_44 : decode cX10_wordHere 44 = .ok (.aload_n 0, 1) := dk_42 (dk_at dksX10_wordHere_1 20 rfl rfl)
theorem dX10_wordHere_45 : decode cX10_wordHere 45 = .ok (.aload_n 0, 1) := dk_42 (dk_at dksX10_wordHere_1 21 rfl rfl)
theorem dX10_wordHere_46 : decode cX10_wordHere 46 = .ok (.getfield 222, 3) := dk_180 0 222 (dk_at dksX10_wordHere_2 0 rfl rfl)
theorem dX10_wordHere_49 : decode cX10_wordHere 49 = .ok (.aload_n 0, 1) := dk_42 (dk_at dksX10_wordHere_2 3 rfl rfl)
theorem dX10_wordHere_50 : decode cX10_wordHere 50 = .ok (.getfield 235, 3) := dk_180 0 235 (dk_at dksX10_wordHere_2 4 rfl rfl)
theorem dX10_wordHere_53 : decode cX10_wordHere 53 = .ok (.isub, 1) := dk_100 (dk_at dksX10_wordHere_2 7 rfl rfl)
theorem dX10_wordHere_54 : decode cX10_wordHere 54 = .ok (.putfield 15, 3) := dk_181 0 15 (dk_at dksX10_wordHere_2 8 rfl rfl)
theorem dX10_wordHere_57 : decode cX10_wordHere 57 = .ok (.iconst 0, 1) := dk_3 (dk_at dksX10_wordHere_2 11 rfl rfl)
theorem dX10_wordHere_58 : decode cX10_wordHere 58 = .ok (.istore_n 1, 1) := dk_60 (dk_at dksX10_wordHere_2 12 rfl rfl)
theorem dX10_wordHere_59 : decode cX10_wordHere 59 = .ok (.iload_n 1, 1) := dk_27 (dk_at dksX10_wordHere_2 13 rfl rfl)
theorem dX10_wordHere_60 : decode cX10_wordHere 60 = .ok (.aload_n 0, 1) := dk_42 (dk_at dksX10_wordHere_2 14 rfl rfl)
theorem dX10_wordHere_61 : decode cX10_wordHere 61 = .ok (.getfield 15, 3) := dk_180 0 15 (dk_at dksX10_wordHere_2 15 rfl rfl)
theorem dX10_wordHere_64 : decode cX10_wordHere 64 = .ok (.if_icmp .ge 31, 3) := dk_162 0 31 (dk_at dksX10_wordHere_2 18 rfl rfl)
theorem dX10_wordHere_67 : decode cX10_wordHere 67 = .ok (.aload_n 0, 1) := dk_42 (dk_at dksX10_wordHere_2 21 rfl rfl)
theorem dX10_wordHere_68 : decode cX10_wordHere 68 = .ok (.getfield 9, 3) := dk_180 0 9 (dk_at dksX10_wordHere_3 0 rfl rfl)
theorem dX10_wordHere_71 : decode cX10_wordHere 71 = .ok (.iload_n 1, 1) := dk_27 (dk_at dksX10_wordHere_3 3 rfl rfl)
theorem dX10_wordHere_72 : decode cX10_wordHere 72 = .ok (.aload_n 0, 1) := dk_42 (dk_at dksX10_wordHere_3 4 rfl rfl)
theorem dX10_wordHere_73 : decode cX10_wordHere 73 = .ok (.getfield 79, 3) := dk_180 0 79 (dk_at dksX10_wordHere_3 5 rfl rfl)
theorem dX10_wordHere_76 : decode cX10_wordHere 76 = .ok (.aload_n 0, 1) := dk_42 (dk_at dksX10_wordHere_3 8 rfl rfl)
theorem dX10_wordHere_77 : decode cX10_wordHere 77 = .ok (.getfield 235, 3) := dk_180 0 235 (dk_at dksX10_wordHere_3 9 rfl rfl)
theorem dX10_wordHere_80 : decode cX10_wordHere 80 = .ok (.iload_n 1, 1) := dk_27 (dk_at dksX10_wordHere_3 12 rfl rfl)
theorem dX10_wordHere_81 : decode cX10_wordHere 81 = .ok (.iadd, 1) := dk_96 (dk_at dksX10_wordHere_3 13 rfl rfl)
theorem dX10_wordHere_82 : decode cX10_wordHere 82 = .ok (.iaload, 1) := dk_46 (dk_at dksX10_wordHere_3 14 rfl rfl)
theorem dX10_wordHere_83 : decode cX10_wordHere 83 = .ok (.bipush 97, 2) := dk_16 97 (dk_at dksX10_wordHere_3 15 rfl rfl)
theorem dX10_wordHere_85 : decode cX10_wordHere 85 = .ok (.isub, 1) := dk_100 (dk_at dksX10_wordHere_3 17 rfl rfl)
theorem dX10_wordHere_86 : decode cX10_wordHere 86 = .ok (.iconst 1, 1) := dk_4 (dk_at dksX10_wordHere_3 18 rfl rfl)
theorem dX10_wordHere_87 : decode cX10_wordHere 87 = .ok (.iadd, 1) := dk_96 (dk_at dksX10_wordHere_3 19 rfl rfl)
theorem dX10_wordHere_88 : decode cX10_wordHere 88 = .ok (.iastore, 1) := dk_79 (dk_at dksX10_wordHere_3 20 rfl rfl)
theorem dX10_wordHere_89 : decode cX10_wordHere 89 = .ok (.iinc 1 1, 3) := dk_132 1 1 (dk_at dksX10_wordHere_3 21 rfl rfl)
theorem dX10_wordHere_92 : decode cX10_wordHere 92 = .ok (.goto (-33), 3) := dk_167 255 223 (dk_at dksX10_wordHere_4 0 rfl rfl)
theorem dX10_wordHere_95 : decode cX10_wordHere 95 = .ok (.aload_n 0, 1) := dk_42 (dk_at dksX10_wordHere_4 3 rfl rfl)
theorem dX10_wordHere_96 : decode cX10_wordHere 96 = .ok (.invokevirtual 46, 3) := dk_182 0 46 (dk_at dksX10_wordHere_4 4 rfl rfl)
theorem dX10_wordHere_99 : decode cX10_wordHere 99 = .ok (.lreturn, 1) := dk_173 (dk_at dksX10_wordHere_4 7 rfl rfl)
abbrev cX10_spelled : ByteArray := prog_28_method_5_code
def yX10_spelled : MethodName := ⟨RX10, "spelled", "()J"⟩
def dkwX10_spelled_1 : List UInt8 := [180, 0, 9, 29, 46, 167, 0, 4, 3, 133, 97, 64, 132, 3, 1, 167, 255, 221, 20, 0, 7, 31, 97, 173]
abbrev dktX10_spelled_1 : List UInt8 := dkwX10_spelled_1 ++ []
def dkwX10_spelled_0 : List UInt8 := [9, 64, 3, 62, 29, 16, 8, 162, 0, 35, 20, 0, 13, 31, 105, 29, 42, 180, 0, 15, 162, 0, 12, 42]
abbrev dktX10_spelled_0 : List UInt8 := dkwX10_spelled_0 ++ dktX10_spelled_1
theorem dksX10_spelled_0 : cX10_spelled.data.toList.drop 0 = dktX10_spelled_0 := by decide +kernel
theorem dksX10_spelled_1 : cX10_spelled.data.toList.drop 24 = dktX10_spelled_1 := dk_seg dksX10_spelled_0 24 rfl rfl
theorem dX10_spelled_0 : decode cX10_spelled 0 = .ok (.lconst 0, 1) := dk_9 (dk_at dksX10_spelled_0 0 rfl rfl)
theorem dX10_spelled_1 : decode cX10_spelled 1 = .ok (.lstore_n 1, 1) := dk_64 (dk_at dksX10_spelled_0 1 rfl rfl)
theorem dX10_spelled_2 : decode cX10_spelled 2 = .ok (.iconst 0, 1) := dk_3 (dk_at dksX10_spelled_0 2 rfl rfl)
theorem dX10_spelled_3 : decode cX10_spelled 3 = .ok (.istore_n 3, 1) := dk_62 (dk_at dksX10_spelled_0 3 rfl rfl)
theorem dX10_spelled_4 : decode cX10_spelled 4 = .ok (.iload_n 3, 1) := dk_29 (dk_at dksX10_spelled_0 4 rfl rfl)
theorem dX10_spelled_5 : decode cX10_spelled 5 = .ok (.bipush 8, 2) := dk_16 8 (dk_at dksX10_spelled_0 5 rfl rfl)
theorem dX10_spelled_7 : decode cX10_spelled 7 = .ok (.if_icmp .ge 35, 3) := dk_162 0 35 (dk_at dksX10_spelled_0 7 rfl rfl)
theorem dX10_spelled_10 : decode cX10_spelled 10 = .ok (.ldc2_w 13, 3) := dk_20 0 13 (dk_at dksX10_spelled_0 10 rfl rfl)
theorem dX10_spelled_13 : decode cX10_spelled 13 = .ok (.lload_n 1, 1) := dk_31 (dk_at dksX10_spelled_0 13 rfl rfl)
theorem dX10_spelled_14 : decode cX10_spelled 14 = .ok (.lmul, 1) := dk_105 (dk_at dksX10_spelled_0 14 rfl rfl)
theorem dX10_spelled_15 : decode cX10_spelled 15 = .ok (.iload_n 3, 1) := dk_29 (dk_at dksX10_spelled_0 15 rfl rfl)
theorem dX10_spelled_16 : decode cX10_spelled 16 = .ok (.aload_n 0, 1) := dk_42 (dk_at dksX10_spelled_0 16 rfl rfl)
theorem dX10_spelled_17 : decode cX10_spelled 17 = .ok (.getfield 15, 3) := dk_180 0 15 (dk_at dksX10_spelled_0 17 rfl rfl)
theorem dX10_spelled_20 : decode cX10_spelled 20 = .ok (.if_icmp .ge 12, 3) := dk_162 0 12 (dk_at dksX10_spelled_0 20 rfl rfl)
theorem dX10_spelled_23 : decode cX10_spelled 23 = .ok (.aload_n 0, 1) := dk_42 (dk_at dksX10_spelled_0 23 rfl rfl)
theorem dX10_spelled_24 : decode cX10_spelled 24 = .ok (.getfield 9, 3) := dk_180 0 9 (dk_at dksX10_spelled_1 0 rfl rfl)
theorem dX10_spelled_27 : decode cX10_spelled 27 = .ok (.iload_n 3, 1) := dk_29 (dk_at dksX10_spelled_1 3 rfl rfl)
theorem dX10_spelled_28 : decode cX10_spelled 28 = .ok (.iaload, 1) := dk_46 (dk_at dksX10_spelled_1 4 rfl rfl)
theorem dX10_spelled_29 : decode cX10_spelled 29 = .ok (.goto 4, 3) := dk_167 0 4 (dk_at dksX10_spelled_1 5 rfl rfl)
theorem dX10_spelled_32 : decode cX10_spelled 32 = .ok (.iconst 0, 1) := dk_3 (dk_at dksX10_spelled_1 8 rfl rfl)
theorem dX10_spelled_33 : decode cX10_spelled 33 = .ok (.i2l, 1) := dk_133 (dk_at dksX10_spelled_1 9 rfl rfl)
theorem dX10_spelled_34 : decode cX10_spelled 34 = .ok (.ladd, 1) := dk_97 (dk_at dksX10_spelled_1 10 rfl rfl)
theorem dX10_spelled_35 : decode cX10_spelled 35 = .ok (.lstore_n 1, 1) := dk_64 (dk_at dksX10_spelled_1 11 rfl rfl)
theorem dX10_spelled_36 : decode cX10_spelled 36 = .ok (.iinc 3 1, 3) := dk_132 3 1 (dk_at dksX10_spelled_1 12 rfl rfl)
theorem dX10_spelled_39 : decode cX10_spelled 39 = .ok (.goto (-35), 3) := dk_167 255 221 (dk_at dksX10_spelled_1 15 rfl rfl)
theorem dX10_spelled_42 : decode cX10_spelled 42 = .ok (.ldc2_w 7, 3) := dk_20 0 7 (dk_at dksX10_spelled_1 18 rfl rfl)
theorem dX10_spelled_45 : decode cX10_spelled 45 = .ok (.lload_n 1, 1) := dk_31 (dk_at dksX10_spelled_1 21 rfl rfl)
theorem dX10_spelled_46 : decode cX10_spelled 46 = .ok (.ladd, 1) := dk_97 (dk_at dksX10_spelled_1 22 rfl rfl)
theorem dX10_spelled_47 : decode cX10_spelled 47 = .ok (.lreturn, 1) := dk_173 (dk_at dksX10_spelled_1 23 rfl rfl)
abbrev cX10_ruleFor : ByteArray := prog_28_method_22_code
def yX10_ruleFor : MethodName := ⟨RX10, "ruleFor", "(J)I"⟩
def dkwX10_ruleFor_1 : List UInt8 := [132, 3, 1, 167, 255, 231, 2, 172]
abbrev dktX10_ruleFor_1 : List UInt8 := dkwX10_ruleFor_1 ++ []
def dkwX10_ruleFor_0 : List UInt8 := [3, 62, 29, 42, 6, 182, 0, 118, 162, 0, 22, 42, 29, 3, 182, 0, 121, 31, 148, 154, 0, 5, 29, 172]
abbrev dktX10_ruleFor_0 : List UInt8 := dkwX10_ruleFor_0 ++ dktX10_ruleFor_1
theorem dksX10_ruleFor_0 : cX10_ruleFor.data.toList.drop 0 = dktX10_ruleFor_0 := by decide +kernel
theorem dksX10_ruleFor_1 : cX10_ruleFor.data.toList.drop 24 = dktX10_ruleFor_1 := dk_seg dksX10_ruleFor_0 24 rfl rfl
theorem dX10_ruleFor_0 : decode cX10_ruleFor 0 = .ok (.iconst 0, 1) := dk_3 (dk_at dksX10_ruleFor_0 0 rfl rfl)
theorem dX10_ruleFor_1 : decode cX10_ruleFor 1 = .ok (.istore_n 3, 1) := dk_62 (dk_at dksX10_ruleFor_0 1 rfl rfl)
theorem dX10_ruleFor_2 : decode cX10_ruleFor 2 = .ok (.iload_n 3, 1) := dk_29 (dk_at dksX10_ruleFor_0 2 rfl rfl)
theorem dX10_ruleFor_3 : decode cX10_ruleFor 3 = .ok (.aload_n 0, 1) := dk_42 (dk_at dksX10_ruleFor_0 3 rfl rfl)
theorem dX10_ruleFor_4 : decode cX10_ruleFor 4 = .ok (.iconst 3, 1) := dk_6 (dk_at dksX10_ruleFor_0 4 rfl rfl)
theorem dX10_ruleFor_5 : decode cX10_ruleFor 5 = .ok (.invokevirtual 118, 3) := dk_182 0 118 (dk_at dksX10_ruleFor_0 5 rfl rfl)
theorem dX10_ruleFor_8 : decode cX10_ruleFor 8 = .ok (.if_icmp .ge 22, 3) := dk_162 0 22 (dk_at dksX10_ruleFor_0 8 rfl rfl)
theorem dX10_ruleFor_11 : decode cX10_ruleFor 11 = .ok (.aload_n 0, 1) := dk_42 (dk_at dksX10_ruleFor_0 11 rfl rfl)
theorem dX10_ruleFor_12 : decode cX10_ruleFor 12 = .ok (.iload_n 3, 1) := dk_29 (dk_at dksX10_ruleFor_0 12 rfl rfl)
theorem dX10_ruleFor_13 : decode cX10_ruleFor 13 = .ok (.iconst 0, 1) := dk_3 (dk_at dksX10_ruleFor_0 13 rfl rfl)
theorem dX10_ruleFor_14 : decode cX10_ruleFor 14 = .ok (.invokevirtual 121, 3) := dk_182 0 121 (dk_at dksX10_ruleFor_0 14 rfl rfl)
theorem dX10_ruleFor_17 : decode cX10_ruleFor 17 = .ok (.lload_n 1, 1) := dk_31 (dk_at dksX10_ruleFor_0 17 rfl rfl)
theorem dX10_ruleFor_18 : decode cX10_ruleFor 18 = .ok (.lcmp, 1) := dk_148 (dk_at dksX10_ruleFor_0 18 rfl rfl)
theorem dX10_ruleFor_19 : decode cX10_ruleFor 19 = .ok (.ifCond .ne 5, 3) := dk_154 0 5 (dk_at dksX10_ruleFor_0 19 rfl rfl)
theorem dX10_ruleFor_22 : decode cX10_ruleFor 22 = .ok (.iload_n 3, 1) := dk_29 (dk_at dksX10_ruleFor_0 22 rfl rfl)
theorem dX10_ruleFor_23 : decode cX10_ruleFor 23 = .ok (.ireturn, 1) := dk_172 (dk_at dksX10_ruleFor_0 23 rfl rfl)
theorem dX10_ruleFor_24 : decode cX10_ruleFor 24 = .ok (.iinc 3 1, 3) := dk_132 3 1 (dk_at dksX10_ruleFor_1 0 rfl rfl)
theorem dX10_ruleFor_27 : decode cX10_ruleFor 27 = .ok (.goto (-25), 3) := dk_167 255 231 (dk_at dksX10_ruleFor_1 3 rfl rfl)
theorem dX10_ruleFor_30 : decode cX10_ruleFor 30 = .ok (.iconst (-1), 1) := dk_2 (dk_at dksX10_ruleFor_1 6 rfl rfl)
theorem dX10_ruleFor_31 : decode cX10_ruleFor 31 = .ok (.ireturn, 1) := dk_172 (dk_at dksX10_ruleFor_1 7 rfl rfl)
abbrev cX10_ruleWord : ByteArray := prog_28_method_21_code
def yX10_ruleWord : MethodName := ⟨RX10, "ruleWord", "(II)J"⟩
def dkwX10_ruleWord_0 : List UInt8 := [42, 180, 0, 60, 16, 16, 5, 27, 104, 96, 28, 96, 47, 173]
abbrev dktX10_ruleWord_0 : List UInt8 := dkwX10_ruleWord_0 ++ []
theorem dksX10_ruleWord_0 : cX10_ruleWord.data.toList.drop 0 = dktX10_ruleWord_0 := by decide +kernel
theorem dX10_ruleWord_0 : decode cX10_ruleWord 0 = .ok (.aload_n 0, 1) := dk_42 (dk_at dksX10_ruleWord_0 0 rfl rfl)
theorem dX10_ruleWord_1 : decode cX10_ruleWord 1 = .ok (.getfield 60, 3) := dk_180 0 60 (dk_at dksX10_ruleWord_0 1 rfl rfl)
theorem dX10_ruleWord_4 : decode cX10_ruleWord 4 = .ok (.bipush 16, 2) := dk_16 16 (dk_at dksX10_ruleWord_0 4 rfl rfl)
theorem dX10_ruleWord_6 : decode cX10_ruleWord 6 = .ok (.iconst 2, 1) := dk_5 (dk_at dksX10_ruleWord_0 6 rfl rfl)
theorem dX10_ruleWord_7 : decode cX10_ruleWord 7 = .ok (.iload_n 1, 1) := dk_27 (dk_at dksX10_ruleWord_0 7 rfl rfl)
theorem dX10_ruleWord_8 : decode cX10_ruleWord 8 = .ok (.imul, 1) := dk_104 (dk_at dksX10_ruleWord_0 8 rfl rfl)
theorem dX10_ruleWord_9 : decode cX10_ruleWord 9 = .ok (.iadd, 1) := dk_96 (dk_at dksX10_ruleWord_0 9 rfl rfl)
theorem dX10_ruleWord_10 : decode cX10_ruleWord 10 = .ok (.iload_n 2, 1) := dk_28 (dk_at dksX10_ruleWord_0 10 rfl rfl)
theorem dX10_ruleWord_11 : decode cX10_ruleWord 11 = .ok (.iadd, 1) := dk_96 (dk_at dksX10_ruleWord_0 11 rfl rfl)
theorem dX10_ruleWord_12 : decode cX10_ruleWord 12 = .ok (.laload, 1) := dk_47 (dk_at dksX10_ruleWord_0 12 rfl rfl)
theorem dX10_ruleWord_13 : decode cX10_ruleWord 13 = .ok (.lreturn, 1) := dk_173 (dk_at dksX10_ruleWord_0 13 rfl rfl)
abbrev cX10_takesWord : ByteArray := prog_28_method_66_code
def yX10_takesWord : MethodName := ⟨RX10, "takesWord", "()J"⟩
def dkwX10_takesWord_0 : List UInt8 := [42, 182, 0, 253, 64, 42, 180, 0, 244, 154, 0, 7, 42, 182, 0, 247, 31, 173]
abbrev dktX10_takesWord_0 : List UInt8 := dkwX10_takesWord_0 ++ []
theorem dksX10_takesWord_0 : cX10_takesWord.data.toList.drop 0 = dktX10_takesWord_0 := by decide +kernel
theorem dX10_takesWord_0 : decode cX10_takesWord 0 = .ok (.aload_n 0, 1) := dk_42 (dk_at dksX10_takesWord_0 0 rfl rfl)
theorem dX10_takesWord_1 : decode cX10_takesWord 1 = .ok (.invokevirtual 253, 3) := dk_182 0 253 (dk_at dksX10_takesWord_0 1 rfl rfl)
theorem dX10_takesWord_4 : decode cX10_takesWord 4 = .ok (.lstore_n 1, 1) := dk_64 (dk_at dksX10_takesWord_0 4 rfl rfl)
theorem dX10_takesWord_5 : decode cX10_takesWord 5 = .ok (.aload_n 0, 1) := dk_42 (dk_at dksX10_takesWord_0 5 rfl rfl)
theorem dX10_takesWord_6 : decode cX10_takesWord 6 = .ok (.getfield 244, 3) := dk_180 0 244 (dk_at dksX10_takesWord_0 6 rfl rfl)
theorem dX10_takesWord_9 : decode cX10_takesWord 9 = .ok (.ifCond .ne 7, 3) := dk_154 0 7 (dk_at dksX10_takesWord_0 9 rfl rfl)
theorem dX10_takesWord_12 : decode cX10_takesWord 12 = .ok (.aload_n 0, 1) := dk_42 (dk_at dksX10_takesWord_0 12 rfl rfl)
theorem dX10_takesWord_13 : decode cX10_takesWord 13 = .ok (.invokevirtual 247, 3) := dk_182 0 247 (dk_at dksX10_takesWord_0 13 rfl rfl)
theorem dX10_takesWord_16 : decode cX10_takesWord 16 = .ok (.lload_n 1, 1) := dk_31 (dk_at dksX10_takesWord_0 16 rfl rfl)
theorem dX10_takesWord_17 : decode cX10_takesWord 17 = .ok (.lreturn, 1) := dk_173 (dk_at dksX10_takesWord_0 17 rfl rfl)
abbrev cX10_says : ByteArray := prog_28_method_47_code
def yX10_says : MethodName := ⟨RX10, "says", "(JJ)I"⟩
def dkwX10_says_3 : List UInt8 := [182, 0, 205, 172]
abbrev dktX10_says_3 : List UInt8 := dkwX10_says_3 ++ []
def dkwX10_says_2 : List UInt8 := [42, 6, 182, 0, 118, 104, 96, 4, 96, 33, 80, 42, 180, 0, 60, 6, 92, 47, 10, 97, 80, 42]
abbrev dktX10_says_2 : List UInt8 := dkwX10_says_2 ++ dktX10_says_3
def dkwX10_says_1 : List UInt8 := [172, 42, 180, 0, 60, 16, 16, 5, 42, 6, 182, 0, 118, 104, 96, 31, 80, 42, 180, 0, 60, 16, 16, 5]
abbrev dktX10_says_1 : List UInt8 := dkwX10_says_1 ++ dktX10_says_2
def dkwX10_says_0 : List UInt8 := [42, 31, 182, 0, 125, 2, 159, 0, 6, 16, 254, 172, 42, 6, 182, 0, 118, 16, 8, 160, 0, 6, 16, 253]
abbrev dktX10_says_0 : List UInt8 := dkwX10_says_0 ++ dktX10_says_1
theorem dksX10_says_0 : cX10_says.data.toList.drop 0 = dktX10_says_0 := by decide +kernel
theorem dksX10_says_1 : cX10_says.data.toList.drop 24 = dktX10_says_1 := dk_seg dksX10_says_0 24 rfl rfl
theorem dksX10_says_2 : cX10_says.data.toList.drop 48 = dktX10_says_2 := dk_seg dksX10_says_1 24 rfl rfl
theorem dksX10_says_3 : cX10_says.data.toList.drop 70 = dktX10_says_3 := dk_seg dksX10_says_2 22 rfl rfl
theorem dX10_says_0 : decode cX10_says 0 = .ok (.aload_n 0, 1) := dk_42 (dk_at dksX10_says_0 0 rfl rfl)
theorem dX10_says_1 : decode cX10_says 1 = .ok (.lload_n 1, 1) := dk_31 (dk_at dksX10_says_0 1 rfl rfl)
theorem dX10_says_2 : decode cX10_says 2 = .ok (.invokevirtual 125, 3) := dk_182 0 125 (dk_at dksX10_says_0 2 rfl rfl)
theorem dX10_says_5 : decode cX10_says 5 = .ok (.iconst (-1), 1) := dk_2 (dk_at dksX10_says_0 5 rfl rfl)
theorem dX10_says_6 : decode cX10_says 6 = .ok (.if_icmp .eq 6, 3) := dk_159 0 6 (dk_at dksX10_says_0 6 rfl rfl)
theorem dX10_says_9 : decode cX10_says 9 = .ok (.bipush (-2), 2) := dk_16 254 (dk_at dksX10_says_0 9 rfl rfl)
theorem dX10_says_11 : decode cX10_says 11 = .ok (.ireturn, 1) := dk_172 (dk_at dksX10_says_0 11 rfl rfl)
theorem dX10_says_12 : decode cX10_says 12 = .ok (.aload_n 0, 1) := dk_42 (dk_at dksX10_says_0 12 rfl rfl)
theorem dX10_says_13 : decode cX10_says 13 = .ok (.iconst 3, 1) := dk_6 (dk_at dksX10_says_0 13 rfl rfl)
theorem dX10_says_14 : decode cX10_says 14 = .ok (.invokevirtual 118, 3) := dk_182 0 118 (dk_at dksX10_says_0 14 rfl rfl)
theorem dX10_says_17 : decode cX10_says 17 = .ok (.bipush 8, 2) := dk_16 8 (dk_at dksX10_says_0 17 rfl rfl)
theorem dX10_says_19 : decode cX10_says 19 = .ok (.if_icmp .ne 6, 3) := dk_160 0 6 (dk_at dksX10_says_0 19 rfl rfl)
theorem dX10_says_22 : decode cX10_says 22 = .ok (.bipush (-3), 2) := dk_16 253 (dk_at dksX10_says_0 22 rfl rfl)
theorem dX10_says_24 : decode cX10_says 24 = .ok (.ireturn, 1) := dk_172 (dk_at dksX10_says_1 0 rfl rfl)
theorem dX10_says_25 : decode cX10_says 25 = .ok (.aload_n 0, 1) := dk_42 (dk_at dksX10_says_1 1 rfl rfl)
theorem dX10_says_26 : decode cX10_says 26 = .ok (.getfield 60, 3) := dk_180 0 60 (dk_at dksX10_says_1 2 rfl rfl)
theorem dX10_says_29 : decode cX10_says 29 = .ok (.bipush 16, 2) := dk_16 16 (dk_at dksX10_says_1 5 rfl rfl)
theorem dX10_says_31 : decode cX10_says 31 = .ok (.iconst 2, 1) := dk_5 (dk_at dksX10_says_1 7 rfl rfl)
theorem dX10_says_32 : decode cX10_says 32 = .ok (.aload_n 0, 1) := dk_42 (dk_at dksX10_says_1 8 rfl rfl)
theorem dX10_says_33 : decode cX10_says 33 = .ok (.iconst 3, 1) := dk_6 (dk_at dksX10_says_1 9 rfl rfl)
theorem dX10_says_34 : decode cX10_says 34 = .ok (.invokevirtual 118, 3) := dk_182 0 118 (dk_at dksX10_says_1 10 rfl rfl)
theorem dX10_says_37 : decode cX10_says 37 = .ok (.imul, 1) := dk_104 (dk_at dksX10_says_1 13 rfl rfl)
theorem dX10_says_38 : decode cX10_says 38 = .ok (.iadd, 1) := dk_96 (dk_at dksX10_says_1 14 rfl rfl)
theorem dX10_says_39 : decode cX10_says 39 = .ok (.lload_n 1, 1) := dk_31 (dk_at dksX10_says_1 15 rfl rfl)
theorem dX10_says_40 : decode cX10_says 40 = .ok (.lastore, 1) := dk_80 (dk_at dksX10_says_1 16 rfl rfl)
theorem dX10_says_41 : decode cX10_says 41 = .ok (.aload_n 0, 1) := dk_42 (dk_at dksX10_says_1 17 rfl rfl)
theorem dX10_says_42 : decode cX10_says 42 = .ok (.getfield 60, 3) := dk_180 0 60 (dk_at dksX10_says_1 18 rfl rfl)
theorem dX10_says_45 : decode cX10_says 45 = .ok (.bipush 16, 2) := dk_16 16 (dk_at dksX10_says_1 21 rfl rfl)
theorem dX10_says_47 : decode cX10_says 47 = .ok (.iconst 2, 1) := dk_5 (dk_at dksX10_says_1 23 rfl rfl)
theorem dX10_says_48 : decode cX10_says 48 = .ok (.aload_n 0, 1) := dk_42 (dk_at dksX10_says_2 0 rfl rfl)
theorem dX10_says_49 : decode cX10_says 49 = .ok (.iconst 3, 1) := dk_6 (dk_at dksX10_says_2 1 rfl rfl)
theorem dX10_says_50 : decode cX10_says 50 = .ok (.invokevirtual 118, 3) := dk_182 0 118 (dk_at dksX10_says_2 2 rfl rfl)
theorem dX10_says_53 : decode cX10_says 53 = .ok (.imul, 1) := dk_104 (dk_at dksX10_says_2 5 rfl rfl)
theorem dX10_says_54 : decode cX10_says 54 = .ok (.iadd, 1) := dk_96 (dk_at dksX10_says_2 6 rfl rfl)
theorem dX10_says_55 : decode cX10_says 55 = .ok (.iconst 1, 1) := dk_4 (dk_at dksX10_says_2 7 rfl rfl)
theorem dX10_says_56 : decode cX10_says 56 = .ok (.iadd, 1) := dk_96 (dk_at dksX10_says_2 8 rfl rfl)
theorem dX10_says_57 : decode cX10_says 57 = .ok (.lload_n 3, 1) := dk_33 (dk_at dksX10_says_2 9 rfl rfl)
theorem dX10_says_58 : decode cX10_says 58 = .ok (.lastore, 1) := dk_80 (dk_at dksX10_says_2 10 rfl rfl)
theorem dX10_says_59 : decode cX10_says 59 = .ok (.aload_n 0, 1) := dk_42 (dk_at dksX10_says_2 11 rfl rfl)
theorem dX10_says_60 : decode cX10_says 60 = .ok (.getfield 60, 3) := dk_180 0 60 (dk_at dksX10_says_2 12 rfl rfl)
theorem dX10_says_63 : decode cX10_says 63 = .ok (.iconst 3, 1) := dk_6 (dk_at dksX10_says_2 15 rfl rfl)
theorem dX10_says_64 : decode cX10_says 64 = .ok (.dup2, 1) := dk_92 (dk_at dksX10_says_2 16 rfl rfl)
theorem dX10_says_65 : decode cX10_says 65 = .ok (.laload, 1) := dk_47 (dk_at dksX10_says_2 17 rfl rfl)
theorem dX10_says_66 : decode cX10_says 66 = .ok (.lconst 1, 1) := dk_10 (dk_at dksX10_says_2 18 rfl rfl)
theorem dX10_says_67 : decode cX10_says 67 = .ok (.ladd, 1) := dk_97 (dk_at dksX10_says_2 19 rfl rfl)
theorem dX10_says_68 : decode cX10_says 68 = .ok (.lastore, 1) := dk_80 (dk_at dksX10_says_2 20 rfl rfl)
theorem dX10_says_69 : decode cX10_says 69 = .ok (.aload_n 0, 1) := dk_42 (dk_at dksX10_says_2 21 rfl rfl)
theorem dX10_says_70 : decode cX10_says 70 = .ok (.invokevirtual 205, 3) := dk_182 0 205 (dk_at dksX10_says_3 0 rfl rfl)
theorem dX10_says_73 : decode cX10_says 73 = .ok (.ireturn, 1) := dk_172 (dk_at dksX10_says_3 3 rfl rfl)
abbrev cX10_ordersAnew : ByteArray := prog_28_method_39_code
def yX10_ordersAnew : MethodName := ⟨RX10, "ordersAnew", "()I"⟩
def dkwX10_ordersAnew_3 : List UInt8 := [132, 2, 1, 167, 255, 211, 27, 153, 0, 10, 42, 182, 0, 186, 167, 0, 4, 3, 172]
abbrev dktX10_ordersAnew_3 : List UInt8 := dkwX10_ordersAnew_3 ++ []
def dkwX10_ordersAnew_2 : List UInt8 := [182, 0, 147, 156, 0, 19, 42, 29, 29, 4, 100, 182, 0, 180, 4, 60, 132, 3, 255, 167, 255, 228]
abbrev dktX10_ordersAnew_2 : List UInt8 := dkwX10_ordersAnew_2 ++ dktX10_ordersAnew_3
def dkwX10_ordersAnew_1 : List UInt8 := [4, 61, 28, 42, 5, 182, 0, 118, 162, 0, 42, 28, 62, 29, 158, 0, 30, 42, 29, 29, 4, 100]
abbrev dktX10_ordersAnew_1 : List UInt8 := dkwX10_ordersAnew_1 ++ dktX10_ordersAnew_2
def dkwX10_ordersAnew_0 : List UInt8 := [3, 60, 27, 42, 5, 182, 0, 118, 162, 0, 14, 42, 27, 182, 0, 183, 132, 1, 1, 167, 255, 239, 3, 60]
abbrev dktX10_ordersAnew_0 : List UInt8 := dkwX10_ordersAnew_0 ++ dktX10_ordersAnew_1
theorem dksX10_ordersAnew_0 : cX10_ordersAnew.data.toList.drop 0 = dktX10_ordersAnew_0 := by decide +kernel
theorem dksX10_ordersAnew_1 : cX10_ordersAnew.data.toList.drop 24 = dktX10_ordersAnew_1 := dk_seg dksX10_ordersAnew_0 24 rfl rfl
theorem dksX10_ordersAnew_2 : cX10_ordersAnew.data.toList.drop 46 = dktX10_ordersAnew_2 := dk_seg dksX10_ordersAnew_1 22 rfl rfl
theorem dksX10_ordersAnew_3 : cX10_ordersAnew.data.toList.drop 68 = dktX10_ordersAnew_3 := dk_seg dksX10_ordersAnew_2 22 rfl rfl
theorem dX10_ordersAnew_0 : decode cX10_ordersAnew 0 = .ok (.iconst 0, 1) := dk_3 (dk_at dksX10_ordersAnew_0 0 rfl rfl)
theorem dX10_ordersAnew_1 : decode cX10_ordersAnew 1 = .ok (.istore_n 1, 1) := dk_60 (dk_at dksX10_ordersAnew_0 1 rfl rfl)
theorem dX10_ordersAnew_2 : decode cX10_ordersAnew 2 = .ok (.iload_n 1, 1) := dk_27 (dk_at dksX10_ordersAnew_0 2 rfl rfl)
theorem dX10_ordersAnew_3 : decode cX10_ordersAnew 3 = .ok (.aload_n 0, 1) := dk_42 (dk_at dksX10_ordersAnew_0 3 rfl rfl)
theorem dX10_ordersAnew_4 : decode cX10_ordersAnew 4 = .ok (.iconst 2, 1) := dk_5 (dk_at dksX10_ordersAnew_0 4 rfl rfl)
theorem dX10_ordersAnew_5 : decode cX10_ordersAnew 5 = .ok (.invokevirtual 118, 3) := dk_182 0 118 (dk_at dksX10_ordersAnew_0 5 rfl rfl)
theorem dX10_ordersAnew_8 : decode cX10_ordersAnew 8 = .ok (.if_icmp .ge 14, 3) := dk_162 0 14 (dk_at dksX10_ordersAnew_0 8 rfl rfl)
theorem dX10_ordersAnew_11 : decode cX10_ordersAnew 11 = .ok (.aload_n 0, 1) := dk_42 (dk_at dksX10_ordersAnew_0 11 rfl rfl)
theorem dX10_ordersAnew_12 : decode cX10_ordersAnew 12 = .ok (.iload_n 1, 1) := dk_27 (dk_at dksX10_ordersAnew_0 12 rfl rfl)
theorem dX10_ordersAnew_13 : decode cX10_ordersAnew 13 = .ok (.invokevirtual 183, 3) := dk_182 0 183 (dk_at dksX10_ordersAnew_0 13 rfl rfl)
theorem dX10_ordersAnew_16 : decode cX10_ordersAnew 16 = .ok (.iinc 1 1, 3) := dk_132 1 1 (dk_at dksX10_ordersAnew_0 16 rfl rfl)
theorem dX10_ordersAnew_19 : decode cX10_ordersAnew 19 = .ok (.goto (-17), 3) := dk_167 255 239 (dk_at dksX10_ordersAnew_0 19 rfl rfl)
theorem dX10_ordersAnew_22 : decode cX10_ordersAnew 22 = .ok (.iconst 0, 1) := dk_3 (dk_at dksX10_ordersAnew_0 22 rfl rfl)
theorem dX10_ordersAnew_23 : decode cX10_ordersAnew 23 = .ok (.istore_n 1, 1) := dk_60 (dk_at dksX10_ordersAnew_0 23 rfl rfl)
theorem dX10_ordersAnew_24 : decode cX10_ordersAnew 24 = .ok (.iconst 1, 1) := dk_4 (dk_at dksX10_ordersAnew_1 0 rfl rfl)
theorem dX10_ordersAnew_25 : decode cX10_ordersAnew 25 = .ok (.istore_n 2, 1) := dk_61 (dk_at dksX10_ordersAnew_1 1 rfl rfl)
theorem dX10_ordersAnew_26 : decode cX10_ordersAnew 26 = .ok (.iload_n 2, 1) := dk_28 (dk_at dksX10_ordersAnew_1 2 rfl rfl)
theorem dX10_ordersAnew_27 : decode cX10_ordersAnew 27 = .ok (.aload_n 0, 1) := dk_42 (dk_at dksX10_ordersAnew_1 3 rfl rfl)
theorem dX10_ordersAnew_28 : decode cX10_ordersAnew 28 = .ok (.iconst 2, 1) := dk_5 (dk_at dksX10_ordersAnew_1 4 rfl rfl)
theorem dX10_ordersAnew_29 : decode cX10_ordersAnew 29 = .ok (.invokevirtual 118, 3) := dk_182 0 118 (dk_at dksX10_ordersAnew_1 5 rfl rfl)
theorem dX10_ordersAnew_32 : decode cX10_ordersAnew 32 = .ok (.if_icmp .ge 42, 3) := dk_162 0 42 (dk_at dksX10_ordersAnew_1 8 rfl rfl)
theorem dX10_ordersAnew_35 : decode cX10_ordersAnew 35 = .ok (.iload_n 2, 1) := dk_28 (dk_at dksX10_ordersAnew_1 11 rfl rfl)
theorem dX10_ordersAnew_36 : decode cX10_ordersAnew 36 = .ok (.istore_n 3, 1) := dk_62 (dk_at dksX10_ordersAnew_1 12 rfl rfl)
theorem dX10_ordersAnew_37 : decode cX10_ordersAnew 37 = .ok (.iload_n 3, 1) := dk_29 (dk_at dksX10_ordersAnew_1 13 rfl rfl)
theorem dX10_ordersAnew_38 : decode cX10_ordersAnew 38 = .ok (.ifCond .le 30, 3) := dk_158 0 30 (dk_at dksX10_ordersAnew_1 14 rfl rfl)
theorem dX10_ordersAnew_41 : decode cX10_ordersAnew 41 = .ok (.aload_n 0, 1) := dk_42 (dk_at dksX10_ordersAnew_1 17 rfl rfl)
theorem dX10_ordersAnew_42 : decode cX10_ordersAnew 42 = .ok (.iload_n 3, 1) := dk_29 (dk_at dksX10_ordersAnew_1 18 rfl rfl)
theorem dX10_ordersAnew_43 : decode cX10_ordersAnew 43 = .ok (.iload_n 3, 1) := dk_29 (dk_at dksX10_ordersAnew_1 19 rfl rfl)
theorem dX10_ordersAnew_44 : decode cX10_ordersAnew 44 = .ok (.iconst 1, 1) := dk_4 (dk_at dksX10_ordersAnew_1 20 rfl rfl)
theorem dX10_ordersAnew_45 : decode cX10_ordersAnew 45 = .ok (.isub, 1) := dk_100 (dk_at dksX10_ordersAnew_1 21 rfl rfl)
theorem dX10_ordersAnew_46 : decode cX10_ordersAnew 46 = .ok (.invokevirtual 147, 3) := dk_182 0 147 (dk_at dksX10_ordersAnew_2 0 rfl rfl)
theorem dX10_ordersAnew_49 : decode cX10_ordersAnew 49 = .ok (.ifCond .ge 19, 3) := dk_156 0 19 (dk_at dksX10_ordersAnew_2 3 rfl rfl)
theorem dX10_ordersAnew_52 : decode cX10_ordersAnew 52 = .ok (.aload_n 0, 1) := dk_42 (dk_at dksX10_ordersAnew_2 6 rfl rfl)
theorem dX10_ordersAnew_53 : decode cX10_ordersAnew 53 = .ok (.iload_n 3, 1) := dk_29 (dk_at dksX10_ordersAnew_2 7 rfl rfl)
theorem dX10_ordersAnew_54 : decode cX10_ordersAnew 54 = .ok (.iload_n 3, 1) := dk_29 (dk_at dksX10_ordersAnew_2 8 rfl rfl)
theorem dX10_ordersAnew_55 : decode cX10_ordersAnew 55 = .ok (.iconst 1, 1) := dk_4 (dk_at dksX10_ordersAnew_2 9 rfl rfl)
theorem dX10_ordersAnew_56 : decode cX10_ordersAnew 56 = .ok (.isub, 1) := dk_100 (dk_at dksX10_ordersAnew_2 10 rfl rfl)
theorem dX10_ordersAnew_57 : decode cX10_ordersAnew 57 = .ok (.invokevirtual 180, 3) := dk_182 0 180 (dk_at dksX10_ordersAnew_2 11 rfl rfl)
theorem dX10_ordersAnew_60 : decode cX10_ordersAnew 60 = .ok (.iconst 1, 1) := dk_4 (dk_at dksX10_ordersAnew_2 14 rfl rfl)
theorem dX10_ordersAnew_61 : decode cX10_ordersAnew 61 = .ok (.istore_n 1, 1) := dk_60 (dk_at dksX10_ordersAnew_2 15 rfl rfl)
theorem dX10_ordersAnew_62 : decode cX10_ordersAnew 62 = .ok (.iinc 3 (-1), 3) := dk_132 3 255 (dk_at dksX10_ordersAnew_2 16 rfl rfl)
theorem dX10_ordersAnew_65 : decode cX10_ordersAnew 65 = .ok (.goto (-28), 3) := dk_167 255 228 (dk_at dksX10_ordersAnew_2 19 rfl rfl)
theorem dX10_ordersAnew_68 : decode cX10_ordersAnew 68 = .ok (.iinc 2 1, 3) := dk_132 2 1 (dk_at dksX10_ordersAnew_3 0 rfl rfl)
theorem dX10_ordersAnew_71 : decode cX10_ordersAnew 71 = .ok (.goto (-45), 3) := dk_167 255 211 (dk_at dksX10_ordersAnew_3 3 rfl rfl)
theorem dX10_ordersAnew_74 : decode cX10_ordersAnew 74 = .ok (.iload_n 1, 1) := dk_27 (dk_at dksX10_ordersAnew_3 6 rfl rfl)
theorem dX10_ordersAnew_75 : decode cX10_ordersAnew 75 = .ok (.ifCond .eq 10, 3) := dk_153 0 10 (dk_at dksX10_ordersAnew_3 7 rfl rfl)
theorem dX10_ordersAnew_78 : decode cX10_ordersAnew 78 = .ok (.aload_n 0, 1) := dk_42 (dk_at dksX10_ordersAnew_3 10 rfl rfl)
theorem dX10_ordersAnew_79 : decode cX10_ordersAnew 79 = .ok (.invokevirtual 186, 3) := dk_182 0 186 (dk_at dksX10_ordersAnew_3 11 rfl rfl)
theorem dX10_ordersAnew_82 : decode cX10_ordersAnew 82 = .ok (.goto 4, 3) := dk_167 0 4 (dk_at dksX10_ordersAnew_3 14 rfl rfl)
theorem dX10_ordersAnew_85 : decode cX10_ordersAnew 85 = .ok (.iconst 0, 1) := dk_3 (dk_at dksX10_ordersAnew_3 17 rfl rfl)
theorem dX10_ordersAnew_86 : decode cX10_ordersAnew 86 = .ok (.ireturn, 1) := dk_172 (dk_at dksX10_ordersAnew_3 18 rfl rfl)
abbrev cX10_hears : ByteArray := prog_28_method_27_code
def yX10_hears : MethodName := ⟨RX10, "hears", "(I)V"⟩
def dkwX10_hears_1 : List UInt8 := [182, 0, 137, 182, 0, 140, 182, 0, 143, 132, 2, 1, 167, 255, 224, 177]
abbrev dktX10_hears_1 : List UInt8 := dkwX10_hears_1 ++ []
def dkwX10_hears_0 : List UInt8 := [3, 61, 28, 42, 27, 6, 182, 0, 129, 162, 0, 28, 42, 27, 16, 9, 28, 96, 42, 42, 27, 28]
abbrev dktX10_hears_0 : List UInt8 := dkwX10_hears_0 ++ dktX10_hears_1
theorem dksX10_hears_0 : cX10_hears.data.toList.drop 0 = dktX10_hears_0 := by decide +kernel
theorem dksX10_hears_1 : cX10_hears.data.toList.drop 22 = dktX10_hears_1 := dk_seg dksX10_hears_0 22 rfl rfl
theorem dX10_hears_0 : decode cX10_hears 0 = .ok (.iconst 0, 1) := dk_3 (dk_at dksX10_hears_0 0 rfl rfl)
theorem dX10_hears_1 : decode cX10_hears 1 = .ok (.istore_n 2, 1) := dk_61 (dk_at dksX10_hears_0 1 rfl rfl)
theorem dX10_hears_2 : decode cX10_hears 2 = .ok (.iload_n 2, 1) := dk_28 (dk_at dksX10_hears_0 2 rfl rfl)
theorem dX10_hears_3 : decode cX10_hears 3 = .ok (.aload_n 0, 1) := dk_42 (dk_at dksX10_hears_0 3 rfl rfl)
theorem dX10_hears_4 : decode cX10_hears 4 = .ok (.iload_n 1, 1) := dk_27 (dk_at dksX10_hears_0 4 rfl rfl)
theorem dX10_hears_5 : decode cX10_hears 5 = .ok (.iconst 3, 1) := dk_6 (dk_at dksX10_hears_0 5 rfl rfl)
theorem dX10_hears_6 : decode cX10_hears 6 = .ok (.invokevirtual 129, 3) := dk_182 0 129 (dk_at dksX10_hears_0 6 rfl rfl)
theorem dX10_hears_9 : decode cX10_hears 9 = .ok (.if_icmp .ge 28, 3) := dk_162 0 28 (dk_at dksX10_hears_0 9 rfl rfl)
theorem dX10_hears_12 : decode cX10_hears 12 = .ok (.aload_n 0, 1) := dk_42 (dk_at dksX10_hears_0 12 rfl rfl)
theorem dX10_hears_13 : decode cX10_hears 13 = .ok (.iload_n 1, 1) := dk_27 (dk_at dksX10_hears_0 13 rfl rfl)
theorem dX10_hears_14 : decode cX10_hears 14 = .ok (.bipush 9, 2) := dk_16 9 (dk_at dksX10_hears_0 14 rfl rfl)
theorem dX10_hears_16 : decode cX10_hears 16 = .ok (.iload_n 2, 1) := dk_28 (dk_at dksX10_hears_0 16 rfl rfl)
theorem dX10_hears_17 : decode cX10_hears 17 = .ok (.iadd, 1) := dk_96 (dk_at dksX10_hears_0 17 rfl rfl)
theorem dX10_hears_18 : decode cX10_hears 18 = .ok (.aload_n 0, 1) := dk_42 (dk_at dksX10_hears_0 18 rfl rfl)
theorem dX10_hears_19 : decode cX10_hears 19 = .ok (.aload_n 0, 1) := dk_42 (dk_at dksX10_hears_0 19 rfl rfl)
theorem dX10_hears_20 : decode cX10_hears 20 = .ok (.iload_n 1, 1) := dk_27 (dk_at dksX10_hears_0 20 rfl rfl)
theorem dX10_hears_21 : decode cX10_hears 21 = .ok (.iload_n 2, 1) := dk_28 (dk_at dksX10_hears_0 21 rfl rfl)
theorem dX10_hears_22 : decode cX10_hears 22 = .ok (.invokevirtual 137, 3) := dk_182 0 137 (dk_at dksX10_hears_1 0 rfl rfl)
theorem dX10_hears_25 : decode cX10_hears 25 = .ok (.invokevirtual 140, 3) := dk_182 0 140 (dk_at dksX10_hears_1 3 rfl rfl)
theorem dX10_hears_28 : decode cX10_hears 28 = .ok (.invokevirtual 143, 3) := dk_182 0 143 (dk_at dksX10_hears_1 6 rfl rfl)
theorem dX10_hears_31 : decode cX10_hears 31 = .ok (.iinc 2 1, 3) := dk_132 2 1 (dk_at dksX10_hears_1 9 rfl rfl)
theorem dX10_hears_34 : decode cX10_hears 34 = .ok (.goto (-32), 3) := dk_167 255 224 (dk_at dksX10_hears_1 12 rfl rfl)
theorem dX10_hears_37 : decode cX10_hears 37 = .ok (.return_, 1) := dk_177 (dk_at dksX10_hears_1 15 rfl rfl)
abbrev cX10_of : ByteArray := prog_28_method_16_code
def yX10_of : MethodName := ⟨RX10, "of", "(II)I"⟩
def dkwX10_of_0 : List UInt8 := [42, 180, 0, 60, 16, 32, 16, 14, 27, 104, 96, 28, 96, 47, 136, 172]
abbrev dktX10_of_0 : List UInt8 := dkwX10_of_0 ++ []
theorem dksX10_of_0 : cX10_of.data.toList.drop 0 = dktX10_of_0 := by decide +kernel
theorem dX10_of_0 : decode cX10_of 0 = .ok (.aload_n 0, 1) := dk_42 (dk_at dksX10_of_0 0 rfl rfl)
theorem dX10_of_1 : decode cX10_of 1 = .ok (.getfield 60, 3) := dk_180 0 60 (dk_at dksX10_of_0 1 rfl rfl)
theorem dX10_of_4 : decode cX10_of 4 = .ok (.bipush 32, 2) := dk_16 32 (dk_at dksX10_of_0 4 rfl rfl)
theorem dX10_of_6 : decode cX10_of 6 = .ok (.bipush 14, 2) := dk_16 14 (dk_at dksX10_of_0 6 rfl rfl)
theorem dX10_of_8 : decode cX10_of 8 = .ok (.iload_n 1, 1) := dk_27 (dk_at dksX10_of_0 8 rfl rfl)
theorem dX10_of_9 : decode cX10_of 9 = .ok (.imul, 1) := dk_104 (dk_at dksX10_of_0 9 rfl rfl)
theorem dX10_of_10 : decode cX10_of 10 = .ok (.iadd, 1) := dk_96 (dk_at dksX10_of_0 10 rfl rfl)
theorem dX10_of_11 : decode cX10_of 11 = .ok (.iload_n 2, 1) := dk_28 (dk_at dksX10_of_0 11 rfl rfl)
theorem dX10_of_12 : decode cX10_of 12 = .ok (.iadd, 1) := dk_96 (dk_at dksX10_of_0 12 rfl rfl)
theorem dX10_of_13 : decode cX10_of 13 = .ok (.laload, 1) := dk_47 (dk_at dksX10_of_0 13 rfl rfl)
theorem dX10_of_14 : decode cX10_of 14 = .ok (.l2i, 1) := dk_136 (dk_at dksX10_of_0 14 rfl rfl)
theorem dX10_of_15 : decode cX10_of 15 = .ok (.ireturn, 1) := dk_172 (dk_at dksX10_of_0 15 rfl rfl)
abbrev cX10_part : ByteArray := prog_28_method_17_code
def yX10_part : MethodName := ⟨RX10, "part", "(II)J"⟩
def dkwX10_part_0 : List UInt8 := [42, 180, 0, 60, 16, 32, 16, 14, 27, 104, 96, 7, 96, 28, 96, 47, 173]
abbrev dktX10_part_0 : List UInt8 := dkwX10_part_0 ++ []
theorem dksX10_part_0 : cX10_part.data.toList.drop 0 = dktX10_part_0 := by decide +kernel
theorem dX10_part_0 : decode cX10_part 0 = .ok (.aload_n 0, 1) := dk_42 (dk_at dksX10_part_0 0 rfl rfl)
theorem dX10_part_1 : decode cX10_part 1 = .ok (.getfield 60, 3) := dk_180 0 60 (dk_at dksX10_part_0 1 rfl rfl)
theorem dX10_part_4 : decode cX10_part 4 = .ok (.bipush 32, 2) := dk_16 32 (dk_at dksX10_part_0 4 rfl rfl)
theorem dX10_part_6 : decode cX10_part 6 = .ok (.bipush 14, 2) := dk_16 14 (dk_at dksX10_part_0 6 rfl rfl)
theorem dX10_part_8 : decode cX10_part 8 = .ok (.iload_n 1, 1) := dk_27 (dk_at dksX10_part_0 8 rfl rfl)
theorem dX10_part_9 : decode cX10_part 9 = .ok (.imul, 1) := dk_104 (dk_at dksX10_part_0 9 rfl rfl)
theorem dX10_part_10 : decode cX10_part 10 = .ok (.iadd, 1) := dk_96 (dk_at dksX10_part_0 10 rfl rfl)
theorem dX10_part_11 : decode cX10_part 11 = .ok (.iconst 4, 1) := dk_7 (dk_at dksX10_part_0 11 rfl rfl)
theorem dX10_part_12 : decode cX10_part 12 = .ok (.iadd, 1) := dk_96 (dk_at dksX10_part_0 12 rfl rfl)
theorem dX10_part_13 : decode cX10_part 13 = .ok (.iload_n 2, 1) := dk_28 (dk_at dksX10_part_0 13 rfl rfl)
theorem dX10_part_14 : decode cX10_part 14 = .ok (.iadd, 1) := dk_96 (dk_at dksX10_part_0 14 rfl rfl)
theorem dX10_part_15 : decode cX10_part 15 = .ok (.laload, 1) := dk_47 (dk_at dksX10_part_0 15 rfl rfl)
theorem dX10_part_16 : decode cX10_part 16 = .ok (.lreturn, 1) := dk_173 (dk_at dksX10_part_0 16 rfl rfl)
abbrev cX10_ear : ByteArray := prog_28_method_11_code
def yX10_ear : MethodName := ⟨RX10, "ear", "(J)J"⟩
def dkwX10_ear_6 : List UInt8 := [182, 0, 22, 132, 3, 255, 167, 255, 227, 42, 182, 0, 46, 173]
abbrev dktX10_ear_6 : List UInt8 := dkwX10_ear_6 ++ []
def dkwX10_ear_5 : List UInt8 := [158, 0, 31, 42, 180, 0, 9, 29, 46, 42, 180, 0, 9, 29, 4, 100, 46, 160, 0, 8, 42, 29]
abbrev dktX10_ear_5 : List UInt8 := dkwX10_ear_5 ++ dktX10_ear_6
def dkwX10_ear_4 : List UInt8 := [160, 0, 8, 42, 29, 182, 0, 22, 132, 3, 255, 167, 255, 230, 42, 180, 0, 15, 4, 100, 62, 29]
abbrev dktX10_ear_4 : List UInt8 := dkwX10_ear_4 ++ dktX10_ear_5
def dkwX10_ear_3 : List UInt8 := [42, 180, 0, 15, 4, 100, 62, 29, 158, 0, 28, 42, 180, 0, 9, 29, 46, 16, 104, 184, 0, 18]
abbrev dktX10_ear_3 : List UInt8 := dkwX10_ear_3 ++ dktX10_ear_4
def dkwX10_ear_2 : List UInt8 := [162, 0, 24, 42, 180, 0, 9, 29, 42, 180, 0, 9, 29, 46, 184, 0, 42, 79, 132, 3, 1, 167, 255, 230]
abbrev dktX10_ear_2 : List UInt8 := dkwX10_ear_2 ++ dktX10_ear_3
def dkwX10_ear_1 : List UInt8 := [16, 102, 182, 0, 38, 42, 16, 99, 16, 107, 16, 107, 182, 0, 38, 3, 62, 29, 42, 180, 0, 15]
abbrev dktX10_ear_1 : List UInt8 := dkwX10_ear_1 ++ dktX10_ear_2
def dkwX10_ear_0 : List UInt8 := [31, 184, 0, 26, 154, 0, 5, 31, 173, 42, 42, 31, 182, 0, 30, 182, 0, 34, 42, 16, 112, 16, 104]
abbrev dktX10_ear_0 : List UInt8 := dkwX10_ear_0 ++ dktX10_ear_1
theorem dksX10_ear_0 : cX10_ear.data.toList.drop 0 = dktX10_ear_0 := by decide +kernel
theorem dksX10_ear_1 : cX10_ear.data.toList.drop 23 = dktX10_ear_1 := dk_seg dksX10_ear_0 23 rfl rfl
theorem dksX10_ear_2 : cX10_ear.data.toList.drop 45 = dktX10_ear_2 := dk_seg dksX10_ear_1 22 rfl rfl
theorem dksX10_ear_3 : cX10_ear.data.toList.drop 69 = dktX10_ear_3 := dk_seg dksX10_ear_2 24 rfl rfl
theorem dksX10_ear_4 : cX10_ear.data.toList.drop 91 = dktX10_ear_4 := dk_seg dksX10_ear_3 22 rfl rfl
theorem dksX10_ear_5 : cX10_ear.data.toList.drop 113 = dktX10_ear_5 := dk_seg dksX10_ear_4 22 rfl rfl
theorem dksX10_ear_6 : cX10_ear.data.toList.drop 135 = dktX10_ear_6 := dk_seg dksX10_ear_5 22 rfl rfl
theorem dX10_ear_0 : decode cX10_ear 0 = .ok (.lload_n 1, 1) := dk_31 (dk_at dksX10_ear_0 0 rfl rfl)
theorem dX10_ear_1 : decode cX10_ear 1 = .ok (.invokestatic 26, 3) := dk_184 0 26 (dk_at dksX10_ear_0 1 rfl rfl)
theorem dX10_ear_4 : decode cX10_ear 4 = .ok (.ifCond .ne 5, 3) := dk_154 0 5 (dk_at dksX10_ear_0 4 rfl rfl)
theorem dX10_ear_7 : decode cX10_ear 7 = .ok (.lload_n 1, 1) := dk_31 (dk_at dksX10_ear_0 7 rfl rfl)
theorem dX10_ear_8 : decode cX10_ear 8 = .ok (.lreturn, 1) := dk_173 (dk_at dksX10_ear_0 8 rfl rfl)
theorem dX10_ear_9 : decode cX10_ear 9 = .ok (.aload_n 0, 1) := dk_42 (dk_at dksX10_ear_0 9 rfl rfl)
theorem dX10_ear_10 : decode cX10_ear 10 = .ok (.aload_n 0, 1) := dk_42 (dk_at dksX10_ear_0 10 rfl rfl)
theorem dX10_ear_11 : decode cX10_ear 11 = .ok (.lload_n 1, 1) := dk_31 (dk_at dksX10_ear_0 11 rfl rfl)
theorem dX10_ear_12 : decode cX10_ear 12 = .ok (.invokevirtual 30, 3) := dk_182 0 30 (dk_at dksX10_ear_0 12 rfl rfl)
theorem dX10_ear_15 : decode cX10_ear 15 = .ok (.invokevirtual 34, 3) := dk_182 0 34 (dk_at dksX10_ear_0 15 rfl rfl)
theorem dX10_ear_18 : decode cX10_ear 18 = .ok (.aload_n 0, 1) := dk_42 (dk_at dksX10_ear_0 18 rfl rfl)
theorem dX10_ear_19 : decode cX10_ear 19 = .ok (.bipush 112, 2) := dk_16 112 (dk_at dksX10_ear_0 19 rfl rfl)
theorem dX10_ear_21 : decode cX10_ear 21 = .ok (.bipush 104, 2) := dk_16 104 (dk_at dksX10_ear_0 21 rfl rfl)
theorem dX10_ear_23 : decode cX10_ear 23 = .ok (.bipush 102, 2) := dk_16 102 (dk_at dksX10_ear_1 0 rfl rfl)
theorem dX10_ear_25 : decode cX10_ear 25 = .ok (.invokevirtual 38, 3) := dk_182 0 38 (dk_at dksX10_ear_1 2 rfl rfl)
theorem dX10_ear_28 : decode cX10_ear 28 = .ok (.aload_n 0, 1) := dk_42 (dk_at dksX10_ear_1 5 rfl rfl)
theorem dX10_ear_29 : decode cX10_ear 29 = .ok (.bipush 99, 2) := dk_16 99 (dk_at dksX10_ear_1 6 rfl rfl)
theorem dX10_ear_31 : decode cX10_ear 31 = .ok (.bipush 107, 2) := dk_16 107 (dk_at dksX10_ear_1 8 rfl rfl)
theorem dX10_ear_33 : decode cX10_ear 33 = .ok (.bipush 107, 2) := dk_16 107 (dk_at dksX10_ear_1 10 rfl rfl)
theorem dX10_ear_35 : decode cX10_ear 35 = .ok (.invokevirtual 38, 3) := dk_182 0 38 (dk_at dksX10_ear_1 12 rfl rfl)
theorem dX10_ear_38 : decode cX10_ear 38 = .ok (.iconst 0, 1) := dk_3 (dk_at dksX10_ear_1 15 rfl rfl)
theorem dX10_ear_39 : decode cX10_ear 39 = .ok (.istore_n 3, 1) := dk_62 (dk_at dksX10_ear_1 16 rfl rfl)
theorem dX10_ear_40 : decode cX10_ear 40 = .ok (.iload_n 3, 1) := dk_29 (dk_at dksX10_ear_1 17 rfl rfl)
theorem dX10_ear_41 : decode cX10_ear 41 = .ok (.aload_n 0, 1) := dk_42 (dk_at dksX10_ear_1 18 rfl rfl)
theorem dX10_ear_42 : decode cX10_ear 42 = .ok (.getfield 15, 3) := dk_180 0 15 (dk_at dksX10_ear_1 19 rfl rfl)
theorem dX10_ear_45 : decode cX10_ear 45 = .ok (.if_icmp .ge 24, 3) := dk_162 0 24 (dk_at dksX10_ear_2 0 rfl rfl)
theorem dX10_ear_48 : decode cX10_ear 48 = .ok (.aload_n 0, 1) := dk_42 (dk_at dksX10_ear_2 3 rfl rfl)
theorem dX10_ear_49 : decode cX10_ear 49 = .ok (.getfield 9, 3) := dk_180 0 9 (dk_at dksX10_ear_2 4 rfl rfl)
theorem dX10_ear_52 : decode cX10_ear 52 = .ok (.iload_n 3, 1) := dk_29 (dk_at dksX10_ear_2 7 rfl rfl)
theorem dX10_ear_53 : decode cX10_ear 53 = .ok (.aload_n 0, 1) := dk_42 (dk_at dksX10_ear_2 8 rfl rfl)
theorem dX10_ear_54 : decode cX10_ear 54 = .ok (.getfield 9, 3) := dk_180 0 9 (dk_at dksX10_ear_2 9 rfl rfl)
theorem dX10_ear_57 : decode cX10_ear 57 = .ok (.iload_n 3, 1) := dk_29 (dk_at dksX10_ear_2 12 rfl rfl)
theorem dX10_ear_58 : decode cX10_ear 58 = .ok (.iaload, 1) := dk_46 (dk_at dksX10_ear_2 13 rfl rfl)
theorem dX10_ear_59 : decode cX10_ear 59 = .ok (.invokestatic 42, 3) := dk_184 0 42 (dk_at dksX10_ear_2 14 rfl rfl)
theorem dX10_ear_62 : decode cX10_ear 62 = .ok (.iastore, 1) := dk_79 (dk_at dksX10_ear_2 17 rfl rfl)
theorem dX10_ear_63 : decode cX10_ear 63 = .ok (.iinc 3 1, 3) := dk_132 3 1 (dk_at dksX10_ear_2 18 rfl rfl)
theorem dX10_ear_66 : decode cX10_ear 66 = .ok (.goto (-26), 3) := dk_167 255 230 (dk_at dksX10_ear_2 21 rfl rfl)
theorem dX10_ear_69 : decode cX10_ear 69 = .ok (.aload_n 0, 1) := dk_42 (dk_at dksX10_ear_3 0 rfl rfl)
theorem dX10_ear_70 : decode cX10_ear 70 = .ok (.getfield 15, 3) := dk_180 0 15 (dk_at dksX10_ear_3 1 rfl rfl)
theorem dX10_ear_73 : decode cX10_ear 73 = .ok (.iconst 1, 1) := dk_4 (dk_at dksX10_ear_3 4 rfl rfl)
theorem dX10_ear_74 : decode cX10_ear 74 = .ok (.isub, 1) := dk_100 (dk_at dksX10_ear_3 5 rfl rfl)
theorem dX10_ear_75 : decode cX10_ear 75 = .ok (.istore_n 3, 1) := dk_62 (dk_at dksX10_ear_3 6 rfl rfl)
theorem dX10_ear_76 : decode cX10_ear 76 = .ok (.iload_n 3, 1) := dk_29 (dk_at dksX10_ear_3 7 rfl rfl)
theorem dX10_ear_77 : decode cX10_ear 77 = .ok (.ifCond .le 28, 3) := dk_158 0 28 (dk_at dksX10_ear_3 8 rfl rfl)
theorem dX10_ear_80 : decode cX10_ear 80 = .ok (.aload_n 0, 1) := dk_42 (dk_at dksX10_ear_3 11 rfl rfl)
theorem dX10_ear_81 : decode cX10_ear 81 = .ok (.getfield 9, 3) := dk_180 0 9 (dk_at dksX10_ear_3 12 rfl rfl)
theorem dX10_ear_84 : decode cX10_ear 84 = .ok (.iload_n 3, 1) := dk_29 (dk_at dksX10_ear_3 15 rfl rfl)
theorem dX10_ear_85 : decode cX10_ear 85 = .ok (.iaload, 1) := dk_46 (dk_at dksX10_ear_3 16 rfl rfl)
theorem dX10_ear_86 : decode cX10_ear 86 = .ok (.bipush 104, 2) := dk_16 104 (dk_at dksX10_ear_3 17 rfl rfl)
theorem dX10_ear_88 : decode cX10_ear 88 = .ok (.invokestatic 18, 3) := dk_184 0 18 (dk_at dksX10_ear_3 19 rfl rfl)
theorem dX10_ear_91 : decode cX10_ear 91 = .ok (.if_icmp .ne 8, 3) := dk_160 0 8 (dk_at dksX10_ear_4 0 rfl rfl)
theorem dX10_ear_94 : decode cX10_ear 94 = .ok (.aload_n 0, 1) := dk_42 (dk_at dksX10_ear_4 3 rfl rfl)
theorem dX10_ear_95 : decode cX10_ear 95 = .ok (.iload_n 3, 1) := dk_29 (dk_at dksX10_ear_4 4 rfl rfl)
theorem dX10_ear_96 : decode cX10_ear 96 = .ok (.invokevirtual 22, 3) := dk_182 0 22 (dk_at dksX10_ear_4 5 rfl rfl)
theorem dX10_ear_99 : decode cX10_ear 99 = .ok (.iinc 3 (-1), 3) := dk_132 3 255 (dk_at dksX10_ear_4 8 rfl rfl)
theorem dX10_ear_102 : decode cX10_ear 102 = .ok (.goto (-26), 3) := dk_167 255 230 (dk_at dksX10_ear_4 11 rfl rfl)
theorem dX10_ear_105 : decode cX10_ear 105 = .ok (.aload_n 0, 1) := dk_42 (dk_at dksX10_ear_4 14 rfl rfl)
theorem dX10_ear_106 : decode cX10_ear 106 = .ok (.getfield 15, 3) := dk_180 0 15 (dk_at dksX10_ear_4 15 rfl rfl)
theorem dX10_ear_109 : decode cX10_ear 109 = .ok (.iconst 1, 1) := dk_4 (dk_at dksX10_ear_4 18 rfl rfl)
theorem dX10_ear_110 : decode cX10_ear 110 = .ok (.isub, 1) := dk_100 (dk_at dksX10_ear_4 19 rfl rfl)
theorem dX10_ear_111 : decode cX10_ear 111 = .ok (.istore_n 3, 1) := dk_62 (dk_at dksX10_ear_4 20 rfl rfl)
theorem dX10_ear_112 : decode cX10_ear 112 = .ok (.iload_n 3, 1) := dk_29 (dk_at dksX10_ear_4 21 rfl rfl)
theorem dX10_ear_113 : decode cX10_ear 113 = .ok (.ifCond .le 31, 3) := dk_158 0 31 (dk_at dksX10_ear_5 0 rfl rfl)
theorem dX10_ear_116 : decode cX10_ear 116 = .ok (.aload_n 0, 1) := dk_42 (dk_at dksX10_ear_5 3 rfl rfl)
theorem dX10_ear_117 : decode cX10_ear 117 = .ok (.getfield 9, 3) := dk_180 0 9 (dk_at dksX10_ear_5 4 rfl rfl)
theorem dX10_ear_120 : decode cX10_ear 120 = .ok (.iload_n 3, 1) := dk_29 (dk_at dksX10_ear_5 7 rfl rfl)
theorem dX10_ear_121 : decode cX10_ear 121 = .ok (.iaload, 1) := dk_46 (dk_at dksX10_ear_5 8 rfl rfl)
theorem dX10_ear_122 : decode cX10_ear 122 = .ok (.aload_n 0, 1) := dk_42 (dk_at dksX10_ear_5 9 rfl rfl)
theorem dX10_ear_123 : decode cX10_ear 123 = .ok (.getfield 9, 3) := dk_180 0 9 (dk_at dksX10_ear_5 10 rfl rfl)
theorem dX10_ear_126 : decode cX10_ear 126 = .ok (.iload_n 3, 1) := dk_29 (dk_at dksX10_ear_5 13 rfl rfl)
theorem dX10_ear_127 : decode cX10_ear 127 = .ok (.iconst 1, 1) := dk_4 (dk_at dksX10_ear_5 14 rfl rfl)
theorem dX10_ear_128 : decode cX10_ear 128 = .ok (.isub, 1) := dk_100 (dk_at dksX10_ear_5 15 rfl rfl)
theorem dX10_ear_129 : decode cX10_ear 129 = .ok (.iaload, 1) := dk_46 (dk_at dksX10_ear_5 16 rfl rfl)
theorem dX10_ear_130 : decode cX10_ear 130 = .ok (.if_icmp .ne 8, 3) := dk_160 0 8 (dk_at dksX10_ear_5 17 rfl rfl)
theorem dX10_ear_133 : decode cX10_ear 133 = .ok (.aload_n 0, 1) := dk_42 (dk_at dksX10_ear_5 20 rfl rfl)
theorem dX10_ear_134 : decode cX10_ear 134 = .ok (.iload_n 3, 1) := dk_29 (dk_at dksX10_ear_5 21 rfl rfl)
theorem dX10_ear_135 : decode cX10_ear 135 = .ok (.invokevirtual 22, 3) := dk_182 0 22 (dk_at dksX10_ear_6 0 rfl rfl)
theorem dX10_ear_138 : decode cX10_ear 138 = .ok (.iinc 3 (-1), 3) := dk_132 3 255 (dk_at dksX10_ear_6 3 rfl rfl)
theorem dX10_ear_141 : decode cX10_ear 141 = .ok (.goto (-29), 3) := dk_167 255 227 (dk_at dksX10_ear_6 6 rfl rfl)
theorem dX10_ear_144 : decode cX10_ear 144 = .ok (.aload_n 0, 1) := dk_42 (dk_at dksX10_ear_6 9 rfl rfl)
theorem dX10_ear_145 : decode cX10_ear 145 = .ok (.invokevirtual 46, 3) := dk_182 0 46 (dk_at dksX10_ear_6 10 rfl rfl)
theorem dX10_ear_148 : decode cX10_ear 148 = .ok (.lreturn, 1) := dk_173 (dk_at dksX10_ear_6 13 rfl rfl)
abbrev cX10_isWordPart : ByteArray := prog_28_method_6_code
def yX10_isWordPart : MethodName := ⟨RX10, "isWordPart", "(J)Z"⟩
def dkwX10_isWordPart_0 : List UInt8 := [30, 20, 0, 7, 148, 155, 0, 7, 4, 167, 0, 4, 3, 172]
abbrev dktX10_isWordPart_0 : List UInt8 := dkwX10_isWordPart_0 ++ []
theorem dksX10_isWordPart_0 : cX10_isWordPart.data.toList.drop 0 = dktX10_isWordPart_0 := by decide +kernel
theorem dX10_isWordPart_0 : decode cX10_isWordPart 0 = .ok (.lload_n 0, 1) := dk_30 (dk_at dksX10_isWordPart_0 0 rfl rfl)
theorem dX10_isWordPart_1 : decode cX10_isWordPart 1 = .ok (.ldc2_w 7, 3) := dk_20 0 7 (dk_at dksX10_isWordPart_0 1 rfl rfl)
theorem dX10_isWordPart_4 : decode cX10_isWordPart 4 = .ok (.lcmp, 1) := dk_148 (dk_at dksX10_isWordPart_0 4 rfl rfl)
theorem dX10_isWordPart_5 : decode cX10_isWordPart 5 = .ok (.ifCond .lt 7, 3) := dk_155 0 7 (dk_at dksX10_isWordPart_0 5 rfl rfl)
theorem dX10_isWordPart_8 : decode cX10_isWordPart 8 = .ok (.iconst 1, 1) := dk_4 (dk_at dksX10_isWordPart_0 8 rfl rfl)
theorem dX10_isWordPart_9 : decode cX10_isWordPart 9 = .ok (.goto 4, 3) := dk_167 0 4 (dk_at dksX10_isWordPart_0 9 rfl rfl)
theorem dX10_isWordPart_12 : decode cX10_isWordPart 12 = .ok (.iconst 0, 1) := dk_3 (dk_at dksX10_isWordPart_0 12 rfl rfl)
theorem dX10_isWordPart_13 : decode cX10_isWordPart 13 = .ok (.ireturn, 1) := dk_172 (dk_at dksX10_isWordPart_0 13 rfl rfl)
abbrev cX10_spokenOf : ByteArray := prog_28_method_23_code
def yX10_spokenOf : MethodName := ⟨RX10, "spokenOf", "(J)J"⟩
def dkwX10_spokenOf_0 : List UInt8 := [42, 31, 182, 0, 125, 62, 29, 2, 160, 0, 7, 31, 167, 0, 9, 42, 29, 4, 182, 0, 121, 173]
abbrev dktX10_spokenOf_0 : List UInt8 := dkwX10_spokenOf_0 ++ []
theorem dksX10_spokenOf_0 : cX10_spokenOf.data.toList.drop 0 = dktX10_spokenOf_0 := by decide +kernel
theorem dX10_spokenOf_0 : decode cX10_spokenOf 0 = .ok (.aload_n 0, 1) := dk_42 (dk_at dksX10_spokenOf_0 0 rfl rfl)
theorem dX10_spokenOf_1 : decode cX10_spokenOf 1 = .ok (.lload_n 1, 1) := dk_31 (dk_at dksX10_spokenOf_0 1 rfl rfl)
theorem dX10_spokenOf_2 : decode cX10_spokenOf 2 = .ok (.invokevirtual 125, 3) := dk_182 0 125 (dk_at dksX10_spokenOf_0 2 rfl rfl)
theorem dX10_spokenOf_5 : decode cX10_spokenOf 5 = .ok (.istore_n 3, 1) := dk_62 (dk_at dksX10_spokenOf_0 5 rfl rfl)
theorem dX10_spokenOf_6 : decode cX10_spokenOf 6 = .ok (.iload_n 3, 1) := dk_29 (dk_at dksX10_spokenOf_0 6 rfl rfl)
theorem dX10_spokenOf_7 : decode cX10_spokenOf 7 = .ok (.iconst (-1), 1) := dk_2 (dk_at dksX10_spokenOf_0 7 rfl rfl)
theorem dX10_spokenOf_8 : decode cX10_spokenOf 8 = .ok (.if_icmp .ne 7, 3) := dk_160 0 7 (dk_at dksX10_spokenOf_0 8 rfl rfl)
theorem dX10_spokenOf_11 : decode cX10_spokenOf 11 = .ok (.lload_n 1, 1) := dk_31 (dk_at dksX10_spokenOf_0 11 rfl rfl)
theorem dX10_spokenOf_12 : decode cX10_spokenOf 12 = .ok (.goto 9, 3) := dk_167 0 9 (dk_at dksX10_spokenOf_0 12 rfl rfl)
theorem dX10_spokenOf_15 : decode cX10_spokenOf 15 = .ok (.aload_n 0, 1) := dk_42 (dk_at dksX10_spokenOf_0 15 rfl rfl)
theorem dX10_spokenOf_16 : decode cX10_spokenOf 16 = .ok (.iload_n 3, 1) := dk_29 (dk_at dksX10_spokenOf_0 16 rfl rfl)
theorem dX10_spokenOf_17 : decode cX10_spokenOf 17 = .ok (.iconst 1, 1) := dk_4 (dk_at dksX10_spokenOf_0 17 rfl rfl)
theorem dX10_spokenOf_18 : decode cX10_spokenOf 18 = .ok (.invokevirtual 121, 3) := dk_182 0 121 (dk_at dksX10_spokenOf_0 18 rfl rfl)
theorem dX10_spokenOf_21 : decode cX10_spokenOf 21 = .ok (.lreturn, 1) := dk_173 (dk_at dksX10_spokenOf_0 21 rfl rfl)
abbrev cX10_spells : ByteArray := prog_28_method_4_code
def yX10_spells : MethodName := ⟨RX10, "spells", "(J)V"⟩
def dkwX10_spells_3 : List UInt8 := [180, 0, 15, 4, 96, 181, 0, 15, 167, 255, 225, 177]
abbrev dktX10_spells_3 : List UInt8 := dkwX10_spells_3 ++ []
def dkwX10_spells_2 : List UInt8 := [180, 0, 15, 16, 8, 162, 0, 28, 42, 180, 0, 9, 42, 180, 0, 15, 46, 158, 0, 16, 42, 89]
abbrev dktX10_spells_2 : List UInt8 := dkwX10_spells_2 ++ dktX10_spells_3
def dkwX10_spells_1 : List UInt8 := [20, 0, 13, 113, 136, 79, 33, 20, 0, 13, 109, 66, 132, 5, 255, 167, 255, 229, 42, 3, 181, 0, 15, 42]
abbrev dktX10_spells_1 : List UInt8 := dkwX10_spells_1 ++ dktX10_spells_2
def dkwX10_spells_0 : List UInt8 := [31, 20, 0, 7, 101, 66, 16, 7, 54, 5, 21, 5, 155, 0, 28, 42, 180, 0, 9, 21, 5, 33]
abbrev dktX10_spells_0 : List UInt8 := dkwX10_spells_0 ++ dktX10_spells_1
theorem dksX10_spells_0 : cX10_spells.data.toList.drop 0 = dktX10_spells_0 := by decide +kernel
theorem dksX10_spells_1 : cX10_spells.data.toList.drop 22 = dktX10_spells_1 := dk_seg dksX10_spells_0 22 rfl rfl
theorem dksX10_spells_2 : cX10_spells.data.toList.drop 46 = dktX10_spells_2 := dk_seg dksX10_spells_1 24 rfl rfl
theorem dksX10_spells_3 : cX10_spells.data.toList.drop 68 = dktX10_spells_3 := dk_seg dksX10_spells_2 22 rfl rfl
theorem dX10_spells_0 : decode cX10_spells 0 = .ok (.lload_n 1, 1) := dk_31 (dk_at dksX10_spells_0 0 rfl rfl)
theorem dX10_spells_1 : decode cX10_spells 1 = .ok (.ldc2_w 7, 3) := dk_20 0 7 (dk_at dksX10_spells_0 1 rfl rfl)
theorem dX10_spells_4 : decode cX10_spells 4 = .ok (.lsub, 1) := dk_101 (dk_at dksX10_spells_0 4 rfl rfl)
theorem dX10_spells_5 : decode cX10_spells 5 = .ok (.lstore_n 3, 1) := dk_66 (dk_at dksX10_spells_0 5 rfl rfl)
theorem dX10_spells_6 : decode cX10_spells 6 = .ok (.bipush 7, 2) := dk_16 7 (dk_at dksX10_spells_0 6 rfl rfl)
theorem dX10_spells_8 : decode cX10_spells 8 = .ok (.istore 5, 2) := dk_54 5 (dk_at dksX10_spells_0 8 rfl rfl)
theorem dX10_spells_10 : decode cX10_spells 10 = .ok (.iload 5, 2) := dk_21 5 (dk_at dksX10_spells_0 10 rfl rfl)
theorem dX10_spells_12 : decode cX10_spells 12 = .ok (.ifCond .lt 28, 3) := dk_155 0 28 (dk_at dksX10_spells_0 12 rfl rfl)
theorem dX10_spells_15 : decode cX10_spells 15 = .ok (.aload_n 0, 1) := dk_42 (dk_at dksX10_spells_0 15 rfl rfl)
theorem dX10_spells_16 : decode cX10_spells 16 = .ok (.getfield 9, 3) := dk_180 0 9 (dk_at dksX10_spells_0 16 rfl rfl)
theorem dX10_spells_19 : decode cX10_spells 19 = .ok (.iload 5, 2) := dk_21 5 (dk_at dksX10_spells_0 19 rfl rfl)
theorem dX10_spells_21 : decode cX10_spells 21 = .ok (.lload_n 3, 1) := dk_33 (dk_at dksX10_spells_0 21 rfl rfl)
theorem dX10_spells_22 : decode cX10_spells 22 = .ok (.ldc2_w 13, 3) := dk_20 0 13 (dk_at dksX10_spells_1 0 rfl rfl)
theorem dX10_spells_25 : decode cX10_spells 25 = .ok (.lrem, 1) := dk_113 (dk_at dksX10_spells_1 3 rfl rfl)
theorem dX10_spells_26 : decode cX10_spells 26 = .ok (.l2i, 1) := dk_136 (dk_at dksX10_spells_1 4 rfl rfl)
theorem dX10_spells_27 : decode cX10_spells 27 = .ok (.iastore, 1) := dk_79 (dk_at dksX10_spells_1 5 rfl rfl)
theorem dX10_spells_28 : decode cX10_spells 28 = .ok (.lload_n 3, 1) := dk_33 (dk_at dksX10_spells_1 6 rfl rfl)
theorem dX10_spells_29 : decode cX10_spells 29 = .ok (.ldc2_w 13, 3) := dk_20 0 13 (dk_at dksX10_spells_1 7 rfl rfl)
theorem dX10_spells_32 : decode cX10_spells 32 = .ok (.ldiv, 1) := dk_109 (dk_at dksX10_spells_1 10 rfl rfl)
theorem dX10_spells_33 : decode cX10_spells 33 = .ok (.lstore_n 3, 1) := dk_66 (dk_at dksX10_spells_1 11 rfl rfl)
theorem dX10_spells_34 : decode cX10_spells 34 = .ok (.iinc 5 (-1), 3) := dk_132 5 255 (dk_at dksX10_spells_1 12 rfl rfl)
theorem dX10_spells_37 : decode cX10_spells 37 = .ok (.goto (-27), 3) := dk_167 255 229 (dk_at dksX10_spells_1 15 rfl rfl)
theorem dX10_spells_40 : decode cX10_spells 40 = .ok (.aload_n 0, 1) := dk_42 (dk_at dksX10_spells_1 18 rfl rfl)
theorem dX10_spells_41 : decode cX10_spells 41 = .ok (.iconst 0, 1) := dk_3 (dk_at dksX10_spells_1 19 rfl rfl)
theorem dX10_spells_42 : decode cX10_spells 42 = .ok (.putfield 15, 3) := dk_181 0 15 (dk_at dksX10_spells_1 20 rfl rfl)
theorem dX10_spells_45 : decode cX10_spells 45 = .ok (.aload_n 0, 1) := dk_42 (dk_at dksX10_spells_1 23 rfl rfl)
theorem dX10_spells_46 : decode cX10_spells 46 = .ok (.getfield 15, 3) := dk_180 0 15 (dk_at dksX10_spells_2 0 rfl rfl)
theorem dX10_spells_49 : decode cX10_spells 49 = .ok (.bipush 8, 2) := dk_16 8 (dk_at dksX10_spells_2 3 rfl rfl)
theorem dX10_spells_51 : decode cX10_spells 51 = .ok (.if_icmp .ge 28, 3) := dk_162 0 28 (dk_at dksX10_spells_2 5 rfl rfl)
theorem dX10_spells_54 : decode cX10_spells 54 = .ok (.aload_n 0, 1) := dk_42 (dk_at dksX10_spells_2 8 rfl rfl)
theorem dX10_spells_55 : decode cX10_spells 55 = .ok (.getfield 9, 3) := dk_180 0 9 (dk_at dksX10_spells_2 9 rfl rfl)
theorem dX10_spells_58 : decode cX10_spells 58 = .ok (.aload_n 0, 1) := dk_42 (dk_at dksX10_spells_2 12 rfl rfl)
theorem dX10_spells_59 : decode cX10_spells 59 = .ok (.getfield 15, 3) := dk_180 0 15 (dk_at dksX10_spells_2 13 rfl rfl)
theorem dX10_spells_62 : decode cX10_spells 62 = .ok (.iaload, 1) := dk_46 (dk_at dksX10_spells_2 16 rfl rfl)
theorem dX10_spells_63 : decode cX10_spells 63 = .ok (.ifCond .le 16, 3) := dk_158 0 16 (dk_at dksX10_spells_2 17 rfl rfl)
theorem dX10_spells_66 : decode cX10_spells 66 = .ok (.aload_n 0, 1) := dk_42 (dk_at dksX10_spells_2 20 rfl rfl)
theorem dX10_spells_67 : decode cX10_spells 67 = .ok (.dup, 1) := dk_89 (dk_at dksX10_spells_2 21 rfl rfl)
theorem dX10_spells_68 : decode cX10_spells 68 = .ok (.getfield 15, 3) := dk_180 0 15 (dk_at dksX10_spells_3 0 rfl rfl)
theorem dX10_spells_71 : decode cX10_spells 71 = .ok (.iconst 1, 1) := dk_4 (dk_at dksX10_spells_3 3 rfl rfl)
theorem dX10_spells_72 : decode cX10_spells 72 = .ok (.iadd, 1) := dk_96 (dk_at dksX10_spells_3 4 rfl rfl)
theorem dX10_spells_73 : decode cX10_spells 73 = .ok (.putfield 15, 3) := dk_181 0 15 (dk_at dksX10_spells_3 5 rfl rfl)
theorem dX10_spells_76 : decode cX10_spells 76 = .ok (.goto (-31), 3) := dk_167 255 225 (dk_at dksX10_spells_3 8 rfl rfl)
theorem dX10_spells_79 : decode cX10_spells 79 = .ok (.return_, 1) := dk_177 (dk_at dksX10_spells_3 11 rfl rfl)
abbrev cX10_joins : ByteArray := prog_28_method_9_code
def yX10_joins : MethodName := ⟨RX10, "joins", "(CCC)V"⟩
def dkwX10_joins_3 : List UInt8 := [132, 4, 1, 167, 255, 190, 177]
abbrev dktX10_joins_3 : List UInt8 := dkwX10_joins_3 ++ []
def dkwX10_joins_2 : List UInt8 := [167, 0, 22, 42, 180, 0, 9, 21, 4, 29, 184, 0, 18, 79, 42, 21, 4, 4, 96, 182, 0, 22]
abbrev dktX10_joins_2 : List UInt8 := dkwX10_joins_2 ++ dktX10_joins_3
def dkwX10_joins_1 : List UInt8 := [184, 0, 18, 160, 0, 41, 42, 180, 0, 9, 21, 4, 4, 96, 46, 28, 184, 0, 18, 159, 0, 6]
abbrev dktX10_joins_1 : List UInt8 := dkwX10_joins_1 ++ dktX10_joins_2
def dkwX10_joins_0 : List UInt8 := [3, 54, 4, 21, 4, 4, 96, 42, 180, 0, 15, 162, 0, 61, 42, 180, 0, 9, 21, 4, 46, 27]
abbrev dktX10_joins_0 : List UInt8 := dkwX10_joins_0 ++ dktX10_joins_1
theorem dksX10_joins_0 : cX10_joins.data.toList.drop 0 = dktX10_joins_0 := by decide +kernel
theorem dksX10_joins_1 : cX10_joins.data.toList.drop 22 = dktX10_joins_1 := dk_seg dksX10_joins_0 22 rfl rfl
theorem dksX10_joins_2 : cX10_joins.data.toList.drop 44 = dktX10_joins_2 := dk_seg dksX10_joins_1 22 rfl rfl
theorem dksX10_joins_3 : cX10_joins.data.toList.drop 66 = dktX10_joins_3 := dk_seg dksX10_joins_2 22 rfl rfl
theorem dX10_joins_0 : decode cX10_joins 0 = .ok (.iconst 0, 1) := dk_3 (dk_at dksX10_joins_0 0 rfl rfl)
theorem dX10_joins_1 : decode cX10_joins 1 = .ok (.istore 4, 2) := dk_54 4 (dk_at dksX10_joins_0 1 rfl rfl)
theorem dX10_joins_3 : decode cX10_joins 3 = .ok (.iload 4, 2) := dk_21 4 (dk_at dksX10_joins_0 3 rfl rfl)
theorem dX10_joins_5 : decode cX10_joins 5 = .ok (.iconst 1, 1) := dk_4 (dk_at dksX10_joins_0 5 rfl rfl)
theorem dX10_joins_6 : decode cX10_joins 6 = .ok (.iadd, 1) := dk_96 (dk_at dksX10_joins_0 6 rfl rfl)
theorem dX10_joins_7 : decode cX10_joins 7 = .ok (.aload_n 0, 1) := dk_42 (dk_at dksX10_joins_0 7 rfl rfl)
theorem dX10_joins_8 : decode cX10_joins 8 = .ok (.getfield 15, 3) := dk_180 0 15 (dk_at dksX10_joins_0 8 rfl rfl)
theorem dX10_joins_11 : decode cX10_joins 11 = .ok (.if_icmp .ge 61, 3) := dk_162 0 61 (dk_at dksX10_joins_0 11 rfl rfl)
theorem dX10_joins_14 : decode cX10_joins 14 = .ok (.aload_n 0, 1) := dk_42 (dk_at dksX10_joins_0 14 rfl rfl)
theorem dX10_joins_15 : decode cX10_joins 15 = .ok (.getfield 9, 3) := dk_180 0 9 (dk_at dksX10_joins_0 15 rfl rfl)
theorem dX10_joins_18 : decode cX10_joins 18 = .ok (.iload 4, 2) := dk_21 4 (dk_at dksX10_joins_0 18 rfl rfl)
theorem dX10_joins_20 : decode cX10_joins 20 = .ok (.iaload, 1) := dk_46 (dk_at dksX10_joins_0 20 rfl rfl)
theorem dX10_joins_21 : decode cX10_joins 21 = .ok (.iload_n 1, 1) := dk_27 (dk_at dksX10_joins_0 21 rfl rfl)
theorem dX10_joins_22 : decode cX10_joins 22 = .ok (.invokestatic 18, 3) := dk_184 0 18 (dk_at dksX10_joins_1 0 rfl rfl)
theorem dX10_joins_25 : decode cX10_joins 25 = .ok (.if_icmp .ne 41, 3) := dk_160 0 41 (dk_at dksX10_joins_1 3 rfl rfl)
theorem dX10_joins_28 : decode cX10_joins 28 = .ok (.aload_n 0, 1) := dk_42 (dk_at dksX10_joins_1 6 rfl rfl)
theorem dX10_joins_29 : decode cX10_joins 29 = .ok (.getfield 9, 3) := dk_180 0 9 (dk_at dksX10_joins_1 7 rfl rfl)
theorem dX10_joins_32 : decode cX10_joins 32 = .ok (.iload 4, 2) := dk_21 4 (dk_at dksX10_joins_1 10 rfl rfl)
theorem dX10_joins_34 : decode cX10_joins 34 = .ok (.iconst 1, 1) := dk_4 (dk_at dksX10_joins_1 12 rfl rfl)
theorem dX10_joins_35 : decode cX10_joins 35 = .ok (.iadd, 1) := dk_96 (dk_at dksX10_joins_1 13 rfl rfl)
theorem dX10_joins_36 : decode cX10_joins 36 = .ok (.iaload, 1) := dk_46 (dk_at dksX10_joins_1 14 rfl rfl)
theorem dX10_joins_37 : decode cX10_joins 37 = .ok (.iload_n 2, 1) := dk_28 (dk_at dksX10_joins_1 15 rfl rfl)
theorem dX10_joins_38 : decode cX10_joins 38 = .ok (.invokestatic 18, 3) := dk_184 0 18 (dk_at dksX10_joins_1 16 rfl rfl)
theorem dX10_joins_41 : decode cX10_joins 41 = .ok (.if_icmp .eq 6, 3) := dk_159 0 6 (dk_at dksX10_joins_1 19 rfl rfl)
theorem dX10_joins_44 : decode cX10_joins 44 = .ok (.goto 22, 3) := dk_167 0 22 (dk_at dksX10_joins_2 0 rfl rfl)
theorem dX10_joins_47 : decode cX10_joins 47 = .ok (.aload_n 0, 1) := dk_42 (dk_at dksX10_joins_2 3 rfl rfl)
theorem dX10_joins_48 : decode cX10_joins 48 = .ok (.getfield 9, 3) := dk_180 0 9 (dk_at dksX10_joins_2 4 rfl rfl)
theorem dX10_joins_51 : decode cX10_joins 51 = .ok (.iload 4, 2) := dk_21 4 (dk_at dksX10_joins_2 7 rfl rfl)
theorem dX10_joins_53 : decode cX10_joins 53 = .ok (.iload_n 3, 1) := dk_29 (dk_at dksX10_joins_2 9 rfl rfl)
theorem dX10_joins_54 : decode cX10_joins 54 = .ok (.invokestatic 18, 3) := dk_184 0 18 (dk_at dksX10_joins_2 10 rfl rfl)
theorem dX10_joins_57 : decode cX10_joins 57 = .ok (.iastore, 1) := dk_79 (dk_at dksX10_joins_2 13 rfl rfl)
theorem dX10_joins_58 : decode cX10_joins 58 = .ok (.aload_n 0, 1) := dk_42 (dk_at dksX10_joins_2 14 rfl rfl)
theorem dX10_joins_59 : decode cX10_joins 59 = .ok (.iload 4, 2) := dk_21 4 (dk_at dksX10_joins_2 15 rfl rfl)
theorem dX10_joins_61 : decode cX10_joins 61 = .ok (.iconst 1, 1) := dk_4 (dk_at dksX10_joins_2 17 rfl rfl)
theorem dX10_joins_62 : decode cX10_joins 62 = .ok (.iadd, 1) := dk_96 (dk_at dksX10_joins_2 18 rfl rfl)
theorem dX10_joins_63 : decode cX10_joins 63 = .ok (.invokevirtual 22, 3) := dk_182 0 22 (dk_at dksX10_joins_2 19 rfl rfl)
theorem dX10_joins_66 : decode cX10_joins 66 = .ok (.iinc 4 1, 3) := dk_132 4 1 (dk_at dksX10_joins_3 0 rfl rfl)
theorem dX10_joins_69 : decode cX10_joins 69 = .ok (.goto (-66), 3) := dk_167 255 190 (dk_at dksX10_joins_3 3 rfl rfl)
theorem dX10_joins_72 : decode cX10_joins 72 = .ok (.return_, 1) := dk_177 (dk_at dksX10_joins_3 6 rfl rfl)
abbrev cX10_letter : ByteArray := prog_28_method_8_code
def yX10_letter : MethodName := ⟨RX10, "letter", "(C)I"⟩
def dkwX10_letter_0 : List UInt8 := [26, 16, 97, 100, 4, 96, 172]
abbrev dktX10_letter_0 : List UInt8 := dkwX10_letter_0 ++ []
theorem dksX10_letter_0 : cX10_letter.data.toList.drop 0 = dktX10_letter_0 := by decide +kernel
theorem dX10_letter_0 : decode cX10_letter 0 = .ok (.iload_n 0, 1) := dk_26 (dk_at dksX10_letter_0 0 rfl rfl)
theorem dX10_letter_1 : decode cX10_letter 1 = .ok (.bipush 97, 2) := dk_16 97 (dk_at dksX10_letter_0 1 rfl rfl)
theorem dX10_letter_3 : decode cX10_letter 3 = .ok (.isub, 1) := dk_100 (dk_at dksX10_letter_0 3 rfl rfl)
theorem dX10_letter_4 : decode cX10_letter 4 = .ok (.iconst 1, 1) := dk_4 (dk_at dksX10_letter_0 4 rfl rfl)
theorem dX10_letter_5 : decode cX10_letter 5 = .ok (.iadd, 1) := dk_96 (dk_at dksX10_letter_0 5 rfl rfl)
theorem dX10_letter_6 : decode cX10_letter 6 = .ok (.ireturn, 1) := dk_172 (dk_at dksX10_letter_0 6 rfl rfl)
abbrev cX10_goes : ByteArray := prog_28_method_7_code
def yX10_goes : MethodName := ⟨RX10, "goes", "(I)V"⟩
def dkwX10_goes_1 : List UInt8 := [28, 42, 180, 0, 9, 28, 4, 96, 46, 79, 132, 2, 1, 167, 255, 231, 177]
abbrev dktX10_goes_1 : List UInt8 := dkwX10_goes_1 ++ []
def dkwX10_goes_0 : List UInt8 := [42, 89, 180, 0, 15, 4, 100, 181, 0, 15, 27, 61, 28, 42, 180, 0, 15, 162, 0, 23, 42, 180, 0, 9]
abbrev dktX10_goes_0 : List UInt8 := dkwX10_goes_0 ++ dktX10_goes_1
theorem dksX10_goes_0 : cX10_goes.data.toList.drop 0 = dktX10_goes_0 := by decide +kernel
theorem dksX10_goes_1 : cX10_goes.data.toList.drop 24 = dktX10_goes_1 := dk_seg dksX10_goes_0 24 rfl rfl
theorem dX10_goes_0 : decode cX10_goes 0 = .ok (.aload_n 0, 1) := dk_42 (dk_at dksX10_goes_0 0 rfl rfl)
theorem dX10_goes_1 : decode cX10_goes 1 = .ok (.dup, 1) := dk_89 (dk_at dksX10_goes_0 1 rfl rfl)
theorem dX10_goes_2 : decode cX10_goes 2 = .ok (.getfield 15, 3) := dk_180 0 15 (dk_at dksX10_goes_0 2 rfl rfl)
theorem dX10_goes_5 : decode cX10_goes 5 = .ok (.iconst 1, 1) := dk_4 (dk_at dksX10_goes_0 5 rfl rfl)
theorem dX10_goes_6 : decode cX10_goes 6 = .ok (.isub, 1) := dk_100 (dk_at dksX10_goes_0 6 rfl rfl)
theorem dX10_goes_7 : decode cX10_goes 7 = .ok (.putfield 15, 3) := dk_181 0 15 (dk_at dksX10_goes_0 7 rfl rfl)
theorem dX10_goes_10 : decode cX10_goes 10 = .ok (.iload_n 1, 1) := dk_27 (dk_at dksX10_goes_0 10 rfl rfl)
theorem dX10_goes_11 : decode cX10_goes 11 = .ok (.istore_n 2, 1) := dk_61 (dk_at dksX10_goes_0 11 rfl rfl)
theorem dX10_goes_12 : decode cX10_goes 12 = .ok (.iload_n 2, 1) := dk_28 (dk_at dksX10_goes_0 12 rfl rfl)
theorem dX10_goes_13 : decode cX10_goes 13 = .ok (.aload_n 0, 1) := dk_42 (dk_at dksX10_goes_0 13 rfl rfl)
theorem dX10_goes_14 : decode cX10_goes 14 = .ok (.getfield 15, 3) := dk_180 0 15 (dk_at dksX10_goes_0 14 rfl rfl)
theorem dX10_goes_17 : decode cX10_goes 17 = .ok (.if_icmp .ge 23, 3) := dk_162 0 23 (dk_at dksX10_goes_0 17 rfl rfl)
theorem dX10_goes_20 : decode cX10_goes 20 = .ok (.aload_n 0, 1) := dk_42 (dk_at dksX10_goes_0 20 rfl rfl)
theorem dX10_goes_21 : decode cX10_goes 21 = .ok (.getfield 9, 3) := dk_180 0 9 (dk_at dksX10_goes_0 21 rfl rfl)
theorem dX10_goes_24 : decode cX10_goes 24 = .ok (.iload_n 2, 1) := dk_28 (dk_at dksX10_goes_1 0 rfl rfl)
theorem dX10_goes_25 : decode cX10_goes 25 = .ok (.aload_n 0, 1) := dk_42 (dk_at dksX10_goes_1 1 rfl rfl)
theorem dX10_goes_26 : decode cX10_goes 26 = .ok (.getfield 9, 3) := dk_180 0 9 (dk_at dksX10_goes_1 2 rfl rfl)
theorem dX10_goes_29 : decode cX10_goes 29 = .ok (.iload_n 2, 1) := dk_28 (dk_at dksX10_goes_1 5 rfl rfl)
theorem dX10_goes_30 : decode cX10_goes 30 = .ok (.iconst 1, 1) := dk_4 (dk_at dksX10_goes_1 6 rfl rfl)
theorem dX10_goes_31 : decode cX10_goes 31 = .ok (.iadd, 1) := dk_96 (dk_at dksX10_goes_1 7 rfl rfl)
theorem dX10_goes_32 : decode cX10_goes 32 = .ok (.iaload, 1) := dk_46 (dk_at dksX10_goes_1 8 rfl rfl)
theorem dX10_goes_33 : decode cX10_goes 33 = .ok (.iastore, 1) := dk_79 (dk_at dksX10_goes_1 9 rfl rfl)
theorem dX10_goes_34 : decode cX10_goes 34 = .ok (.iinc 2 1, 3) := dk_132 2 1 (dk_at dksX10_goes_1 10 rfl rfl)
theorem dX10_goes_37 : decode cX10_goes 37 = .ok (.goto (-25), 3) := dk_167 255 231 (dk_at dksX10_goes_1 13 rfl rfl)
theorem dX10_goes_40 : decode cX10_goes 40 = .ok (.return_, 1) := dk_177 (dk_at dksX10_goes_1 16 rfl rfl)
abbrev cX10_heard : ByteArray := prog_28_method_10_code
def yX10_heard : MethodName := ⟨RX10, "heard", "(I)I"⟩
def dkwX10_heard_2 : List UInt8 := [184, 0, 18, 160, 0, 11, 16, 118, 184, 0, 18, 167, 0, 4, 26, 172]
abbrev dktX10_heard_2 : List UInt8 := dkwX10_heard_2 ++ []
def dkwX10_heard_1 : List UInt8 := [16, 115, 184, 0, 18, 172, 26, 16, 121, 184, 0, 18, 160, 0, 9, 16, 105, 184, 0, 18, 172, 26, 16, 119]
abbrev dktX10_heard_1 : List UInt8 := dkwX10_heard_1 ++ dktX10_heard_2
def dkwX10_heard_0 : List UInt8 := [26, 16, 99, 184, 0, 18, 160, 0, 9, 16, 107, 184, 0, 18, 172, 26, 16, 122, 184, 0, 18, 160, 0, 9]
abbrev dktX10_heard_0 : List UInt8 := dkwX10_heard_0 ++ dktX10_heard_1
theorem dksX10_heard_0 : cX10_heard.data.toList.drop 0 = dktX10_heard_0 := by decide +kernel
theorem dksX10_heard_1 : cX10_heard.data.toList.drop 24 = dktX10_heard_1 := dk_seg dksX10_heard_0 24 rfl rfl
theorem dksX10_heard_2 : cX10_heard.data.toList.drop 48 = dktX10_heard_2 := dk_seg dksX10_heard_1 24 rfl rfl
theorem dX10_heard_0 : decode cX10_heard 0 = .ok (.iload_n 0, 1) := dk_26 (dk_at dksX10_heard_0 0 rfl rfl)
theorem dX10_heard_1 : decode cX10_heard 1 = .ok (.bipush 99, 2) := dk_16 99 (dk_at dksX10_heard_0 1 rfl rfl)
theorem dX10_heard_3 : decode cX10_heard 3 = .ok (.invokestatic 18, 3) := dk_184 0 18 (dk_at dksX10_heard_0 3 rfl rfl)
theorem dX10_heard_6 : decode cX10_heard 6 = .ok (.if_icmp .ne 9, 3) := dk_160 0 9 (dk_at dksX10_heard_0 6 rfl rfl)
theorem dX10_heard_9 : decode cX10_heard 9 = .ok (.bipush 107, 2) := dk_16 107 (dk_at dksX10_heard_0 9 rfl rfl)
theorem dX10_heard_11 : decode cX10_heard 11 = .ok (.invokestatic 18, 3) := dk_184 0 18 (dk_at dksX10_heard_0 11 rfl rfl)
theorem dX10_heard_14 : decode cX10_heard 14 = .ok (.ireturn, 1) := dk_172 (dk_at dksX10_heard_0 14 rfl rfl)
theorem dX10_heard_15 : decode cX10_heard 15 = .ok (.iload_n 0, 1) := dk_26 (dk_at dksX10_heard_0 15 rfl rfl)
theorem dX10_heard_16 : decode cX10_heard 16 = .ok (.bipush 122, 2) := dk_16 122 (dk_at dksX10_heard_0 16 rfl rfl)
theorem dX10_heard_18 : decode cX10_heard 18 = .ok (.invokestatic 18, 3) := dk_184 0 18 (dk_at dksX10_heard_0 18 rfl rfl)
theorem dX10_heard_21 : decode cX10_heard 21 = .ok (.if_icmp .ne 9, 3) := dk_160 0 9 (dk_at dksX10_heard_0 21 rfl rfl)
theorem dX10_heard_24 : decode cX10_heard 24 = .ok (.bipush 115, 2) := dk_16 115 (dk_at dksX10_heard_1 0 rfl rfl)
theorem dX10_heard_26 : decode cX10_heard 26 = .ok (.invokestatic 18, 3) := dk_184 0 18 (dk_at dksX10_heard_1 2 rfl rfl)
theorem dX10_heard_29 : decode cX10_heard 29 = .ok (.ireturn, 1) := dk_172 (dk_at dksX10_heard_1 5 rfl rfl)
theorem dX10_heard_30 : decode cX10_heard 30 = .ok (.iload_n 0, 1) := dk_26 (dk_at dksX10_heard_1 6 rfl rfl)
theorem dX10_heard_31 : decode cX10_heard 31 = .ok (.bipush 121, 2) := dk_16 121 (dk_at dksX10_heard_1 7 rfl rfl)
theorem dX10_heard_33 : decode cX10_heard 33 = .ok (.invokestatic 18, 3) := dk_184 0 18 (dk_at dksX10_heard_1 9 rfl rfl)
theorem dX10_heard_36 : decode cX10_heard 36 = .ok (.if_icmp .ne 9, 3) := dk_160 0 9 (dk_at dksX10_heard_1 12 rfl rfl)
theorem dX10_heard_39 : decode cX10_heard 39 = .ok (.bipush 105, 2) := dk_16 105 (dk_at dksX10_heard_1 15 rfl rfl)
theorem dX10_heard_41 : decode cX10_heard 41 = .ok (.invokestatic 18, 3) := dk_184 0 18 (dk_at dksX10_heard_1 17 rfl rfl)
theorem dX10_heard_44 : decode cX10_heard 44 = .ok (.ireturn, 1) := dk_172 (dk_at dksX10_heard_1 20 rfl rfl)
theorem dX10_heard_45 : decode cX10_heard 45 = .ok (.iload_n 0, 1) := dk_26 (dk_at dksX10_heard_1 21 rfl rfl)
theorem dX10_heard_46 : decode cX10_heard 46 = .ok (.bipush 119, 2) := dk_16 119 (dk_at dksX10_heard_1 22 rfl rfl)
theorem dX10_heard_48 : decode cX10_heard 48 = .ok (.invokestatic 18, 3) := dk_184 0 18 (dk_at dksX10_heard_2 0 rfl rfl)
theorem dX10_heard_51 : decode cX10_heard 51 = .ok (.if_icmp .ne 11, 3) := dk_160 0 11 (dk_at dksX10_heard_2 3 rfl rfl)
theorem dX10_heard_54 : decode cX10_heard 54 = .ok (.bipush 118, 2) := dk_16 118 (dk_at dksX10_heard_2 6 rfl rfl)
theorem dX10_heard_56 : decode cX10_heard 56 = .ok (.invokestatic 18, 3) := dk_184 0 18 (dk_at dksX10_heard_2 8 rfl rfl)
theorem dX10_heard_59 : decode cX10_heard 59 = .ok (.goto 4, 3) := dk_167 0 4 (dk_at dksX10_heard_2 11 rfl rfl)
theorem dX10_heard_62 : decode cX10_heard 62 = .ok (.iload_n 0, 1) := dk_26 (dk_at dksX10_heard_2 14 rfl rfl)
theorem dX10_heard_63 : decode cX10_heard 63 = .ok (.ireturn, 1) := dk_172 (dk_at dksX10_heard_2 15 rfl rfl)
abbrev cX10_lays : ByteArray := prog_28_method_19_code
def yX10_lays : MethodName := ⟨RX10, "lays", "(IIJ)V"⟩
def dkwX10_lays_0 : List UInt8 := [42, 180, 0, 60, 16, 32, 16, 14, 27, 104, 96, 28, 96, 33, 80, 177]
abbrev dktX10_lays_0 : List UInt8 := dkwX10_lays_0 ++ []
theorem dksX10_lays_0 : cX10_lays.data.toList.drop 0 = dktX10_lays_0 := by decide +kernel
theorem dX10_lays_0 : decode cX10_lays 0 = .ok (.aload_n 0, 1) := dk_42 (dk_at dksX10_lays_0 0 rfl rfl)
theorem dX10_lays_1 : decode cX10_lays 1 = .ok (.getfield 60, 3) := dk_180 0 60 (dk_at dksX10_lays_0 1 rfl rfl)
theorem dX10_lays_4 : decode cX10_lays 4 = .ok (.bipush 32, 2) := dk_16 32 (dk_at dksX10_lays_0 4 rfl rfl)
theorem dX10_lays_6 : decode cX10_lays 6 = .ok (.bipush 14, 2) := dk_16 14 (dk_at dksX10_lays_0 6 rfl rfl)
theorem dX10_lays_8 : decode cX10_lays 8 = .ok (.iload_n 1, 1) := dk_27 (dk_at dksX10_lays_0 8 rfl rfl)
theorem dX10_lays_9 : decode cX10_lays 9 = .ok (.imul, 1) := dk_104 (dk_at dksX10_lays_0 9 rfl rfl)
theorem dX10_lays_10 : decode cX10_lays 10 = .ok (.iadd, 1) := dk_96 (dk_at dksX10_lays_0 10 rfl rfl)
theorem dX10_lays_11 : decode cX10_lays 11 = .ok (.iload_n 2, 1) := dk_28 (dk_at dksX10_lays_0 11 rfl rfl)
theorem dX10_lays_12 : decode cX10_lays 12 = .ok (.iadd, 1) := dk_96 (dk_at dksX10_lays_0 12 rfl rfl)
theorem dX10_lays_13 : decode cX10_lays 13 = .ok (.lload_n 3, 1) := dk_33 (dk_at dksX10_lays_0 13 rfl rfl)
theorem dX10_lays_14 : decode cX10_lays 14 = .ok (.lastore, 1) := dk_80 (dk_at dksX10_lays_0 14 rfl rfl)
theorem dX10_lays_15 : decode cX10_lays 15 = .ok (.return_, 1) := dk_177 (dk_at dksX10_lays_0 15 rfl rfl)
abbrev cX10_compares : ByteArray := prog_28_method_26_code
def yX10_compares : MethodName := ⟨RX10, "compares", "(II)I"⟩
def dkwX10_compares_1 : List UInt8 := [172]
abbrev dktX10_compares_1 : List UInt8 := dkwX10_compares_1 ++ []
def dkwX10_compares_0 : List UInt8 := [42, 27, 28, 16, 9, 182, 0, 133, 62, 29, 153, 0, 7, 29, 167, 0, 10, 42, 27, 28, 7, 182, 0, 133]
abbrev dktX10_compares_0 : List UInt8 := dkwX10_compares_0 ++ dktX10_compares_1
theorem dksX10_compares_0 : cX10_compares.data.toList.drop 0 = dktX10_compares_0 := by decide +kernel
theorem dksX10_compares_1 : cX10_compares.data.toList.drop 24 = dktX10_compares_1 := dk_seg dksX10_compares_0 24 rfl rfl
theorem dX10_compares_0 : decode cX10_compares 0 = .ok (.aload_n 0, 1) := dk_42 (dk_at dksX10_compares_0 0 rfl rfl)
theorem dX10_compares_1 : decode cX10_compares 1 = .ok (.iload_n 1, 1) := dk_27 (dk_at dksX10_compares_0 1 rfl rfl)
theorem dX10_compares_2 : decode cX10_compares 2 = .ok (.iload_n 2, 1) := dk_28 (dk_at dksX10_compares_0 2 rfl rfl)
theorem dX10_compares_3 : decode cX10_compares 3 = .ok (.bipush 9, 2) := dk_16 9 (dk_at dksX10_compares_0 3 rfl rfl)
theorem dX10_compares_5 : decode cX10_compares 5 = .ok (.invokevirtual 133, 3) := dk_182 0 133 (dk_at dksX10_compares_0 5 rfl rfl)
theorem dX10_compares_8 : decode cX10_compares 8 = .ok (.istore_n 3, 1) := dk_62 (dk_at dksX10_compares_0 8 rfl rfl)
theorem dX10_compares_9 : decode cX10_compares 9 = .ok (.iload_n 3, 1) := dk_29 (dk_at dksX10_compares_0 9 rfl rfl)
theorem dX10_compares_10 : decode cX10_compares 10 = .ok (.ifCond .eq 7, 3) := dk_153 0 7 (dk_at dksX10_compares_0 10 rfl rfl)
theorem dX10_compares_13 : decode cX10_compares 13 = .ok (.iload_n 3, 1) := dk_29 (dk_at dksX10_compares_0 13 rfl rfl)
theorem dX10_compares_14 : decode cX10_compares 14 = .ok (.goto 10, 3) := dk_167 0 10 (dk_at dksX10_compares_0 14 rfl rfl)
theorem dX10_compares_17 : decode cX10_compares 17 = .ok (.aload_n 0, 1) := dk_42 (dk_at dksX10_compares_0 17 rfl rfl)
theorem dX10_compares_18 : decode cX10_compares 18 = .ok (.iload_n 1, 1) := dk_27 (dk_at dksX10_compares_0 18 rfl rfl)
theorem dX10_compares_19 : decode cX10_compares 19 = .ok (.iload_n 2, 1) := dk_28 (dk_at dksX10_compares_0 19 rfl rfl)
theorem dX10_compares_20 : decode cX10_compares 20 = .ok (.iconst 4, 1) := dk_7 (dk_at dksX10_compares_0 20 rfl rfl)
theorem dX10_compares_21 : decode cX10_compares 21 = .ok (.invokevirtual 133, 3) := dk_182 0 133 (dk_at dksX10_compares_0 21 rfl rfl)
theorem dX10_compares_24 : decode cX10_compares 24 = .ok (.ireturn, 1) := dk_172 (dk_at dksX10_compares_1 0 rfl rfl)
abbrev cX10_sign : ByteArray := prog_28_method_25_code
def yX10_sign : MethodName := ⟨RX10, "sign", "(III)I"⟩
def dkwX10_sign_6 : List UInt8 := [167, 255, 119, 3, 172]
abbrev dktX10_sign_6 : List UInt8 := dkwX10_sign_6 ++ []
def dkwX10_sign_5 : List UInt8 := [22, 9, 148, 153, 0, 17, 22, 7, 22, 9, 148, 156, 0, 7, 2, 167, 0, 4, 4, 172, 132, 4, 1]
abbrev dktX10_sign_5 : List UInt8 := dkwX10_sign_5 ++ dktX10_sign_6
def dkwX10_sign_4 : List UInt8 := [55, 7, 42, 180, 0, 60, 16, 32, 16, 14, 28, 104, 96, 29, 96, 21, 4, 96, 47, 55, 9, 22, 7]
abbrev dktX10_sign_4 : List UInt8 := dkwX10_sign_4 ++ dktX10_sign_5
def dkwX10_sign_3 : List UInt8 := [2, 167, 0, 4, 4, 172, 42, 180, 0, 60, 16, 32, 16, 14, 27, 104, 96, 29, 96, 21, 4, 96, 47]
abbrev dktX10_sign_3 : List UInt8 := dkwX10_sign_3 ++ dktX10_sign_4
def dkwX10_sign_2 : List UInt8 := [154, 0, 8, 21, 6, 153, 0, 25, 21, 5, 21, 6, 160, 0, 7, 3, 167, 0, 13, 21, 5, 153, 0, 7]
abbrev dktX10_sign_2 : List UInt8 := dkwX10_sign_2 ++ dktX10_sign_3
def dkwX10_sign_1 : List UInt8 := [3, 54, 5, 21, 4, 42, 28, 6, 182, 0, 129, 161, 0, 7, 4, 167, 0, 4, 3, 54, 6, 21, 5]
abbrev dktX10_sign_1 : List UInt8 := dkwX10_sign_1 ++ dktX10_sign_2
def dkwX10_sign_0 : List UInt8 := [3, 54, 4, 21, 4, 8, 162, 0, 137, 21, 4, 42, 27, 6, 182, 0, 129, 161, 0, 7, 4, 167, 0, 4]
abbrev dktX10_sign_0 : List UInt8 := dkwX10_sign_0 ++ dktX10_sign_1
theorem dksX10_sign_0 : cX10_sign.data.toList.drop 0 = dktX10_sign_0 := by decide +kernel
theorem dksX10_sign_1 : cX10_sign.data.toList.drop 24 = dktX10_sign_1 := dk_seg dksX10_sign_0 24 rfl rfl
theorem dksX10_sign_2 : cX10_sign.data.toList.drop 47 = dktX10_sign_2 := dk_seg dksX10_sign_1 23 rfl rfl
theorem dksX10_sign_3 : cX10_sign.data.toList.drop 71 = dktX10_sign_3 := dk_seg dksX10_sign_2 24 rfl rfl
theorem dksX10_sign_4 : cX10_sign.data.toList.drop 94 = dktX10_sign_4 := dk_seg dksX10_sign_3 23 rfl rfl
theorem dksX10_sign_5 : cX10_sign.data.toList.drop 117 = dktX10_sign_5 := dk_seg dksX10_sign_4 23 rfl rfl
theorem dksX10_sign_6 : cX10_sign.data.toList.drop 140 = dktX10_sign_6 := dk_seg dksX10_sign_5 23 rfl rfl
theorem dX10_sign_0 : decode cX10_sign 0 = .ok (.iconst 0, 1) := dk_3 (dk_at dksX10_sign_0 0 rfl rfl)
theorem dX10_sign_1 : decode cX10_sign 1 = .ok (.istore 4, 2) := dk_54 4 (dk_at dksX10_sign_0 1 rfl rfl)
theorem dX10_sign_3 : decode cX10_sign 3 = .ok (.iload 4, 2) := dk_21 4 (dk_at dksX10_sign_0 3 rfl rfl)
theorem dX10_sign_5 : decode cX10_sign 5 = .ok (.iconst 5, 1) := dk_8 (dk_at dksX10_sign_0 5 rfl rfl)
theorem dX10_sign_6 : decode cX10_sign 6 = .ok (.if_icmp .ge 137, 3) := dk_162 0 137 (dk_at dksX10_sign_0 6 rfl rfl)
theorem dX10_sign_9 : decode cX10_sign 9 = .ok (.iload 4, 2) := dk_21 4 (dk_at dksX10_sign_0 9 rfl rfl)
theorem dX10_sign_11 : decode cX10_sign 11 = .ok (.aload_n 0, 1) := dk_42 (dk_at dksX10_sign_0 11 rfl rfl)
theorem dX10_sign_12 : decode cX10_sign 12 = .ok (.iload_n 1, 1) := dk_27 (dk_at dksX10_sign_0 12 rfl rfl)
theorem dX10_sign_13 : decode cX10_sign 13 = .ok (.iconst 3, 1) := dk_6 (dk_at dksX10_sign_0 13 rfl rfl)
theorem dX10_sign_14 : decode cX10_sign 14 = .ok (.invokevirtual 129, 3) := dk_182 0 129 (dk_at dksX10_sign_0 14 rfl rfl)
theorem dX10_sign_17 : decode cX10_sign 17 = .ok (.if_icmp .lt 7, 3) := dk_161 0 7 (dk_at dksX10_sign_0 17 rfl rfl)
theorem dX10_sign_20 : decode cX10_sign 20 = .ok (.iconst 1, 1) := dk_4 (dk_at dksX10_sign_0 20 rfl rfl)
theorem dX10_sign_21 : decode cX10_sign 21 = .ok (.goto 4, 3) := dk_167 0 4 (dk_at dksX10_sign_0 21 rfl rfl)
theorem dX10_sign_24 : decode cX10_sign 24 = .ok (.iconst 0, 1) := dk_3 (dk_at dksX10_sign_1 0 rfl rfl)
theorem dX10_sign_25 : decode cX10_sign 25 = .ok (.istore 5, 2) := dk_54 5 (dk_at dksX10_sign_1 1 rfl rfl)
theorem dX10_sign_27 : decode cX10_sign 27 = .ok (.iload 4, 2) := dk_21 4 (dk_at dksX10_sign_1 3 rfl rfl)
theorem dX10_sign_29 : decode cX10_sign 29 = .ok (.aload_n 0, 1) := dk_42 (dk_at dksX10_sign_1 5 rfl rfl)
theorem dX10_sign_30 : decode cX10_sign 30 = .ok (.iload_n 2, 1) := dk_28 (dk_at dksX10_sign_1 6 rfl rfl)
theorem dX10_sign_31 : decode cX10_sign 31 = .ok (.iconst 3, 1) := dk_6 (dk_at dksX10_sign_1 7 rfl rfl)
theorem dX10_sign_32 : decode cX10_sign 32 = .ok (.invokevirtual 129, 3) := dk_182 0 129 (dk_at dksX10_sign_1 8 rfl rfl)
theorem dX10_sign_35 : decode cX10_sign 35 = .ok (.if_icmp .lt 7, 3) := dk_161 0 7 (dk_at dksX10_sign_1 11 rfl rfl)
theorem dX10_sign_38 : decode cX10_sign 38 = .ok (.iconst 1, 1) := dk_4 (dk_at dksX10_sign_1 14 rfl rfl)
theorem dX10_sign_39 : decode cX10_sign 39 = .ok (.goto 4, 3) := dk_167 0 4 (dk_at dksX10_sign_1 15 rfl rfl)
theorem dX10_sign_42 : decode cX10_sign 42 = .ok (.iconst 0, 1) := dk_3 (dk_at dksX10_sign_1 18 rfl rfl)
theorem dX10_sign_43 : decode cX10_sign 43 = .ok (.istore 6, 2) := dk_54 6 (dk_at dksX10_sign_1 19 rfl rfl)
theorem dX10_sign_45 : decode cX10_sign 45 = .ok (.iload 5, 2) := dk_21 5 (dk_at dksX10_sign_1 21 rfl rfl)
theorem dX10_sign_47 : decode cX10_sign 47 = .ok (.ifCond .ne 8, 3) := dk_154 0 8 (dk_at dksX10_sign_2 0 rfl rfl)
theorem dX10_sign_50 : decode cX10_sign 50 = .ok (.iload 6, 2) := dk_21 6 (dk_at dksX10_sign_2 3 rfl rfl)
theorem dX10_sign_52 : decode cX10_sign 52 = .ok (.ifCond .eq 25, 3) := dk_153 0 25 (dk_at dksX10_sign_2 5 rfl rfl)
theorem dX10_sign_55 : decode cX10_sign 55 = .ok (.iload 5, 2) := dk_21 5 (dk_at dksX10_sign_2 8 rfl rfl)
theorem dX10_sign_57 : decode cX10_sign 57 = .ok (.iload 6, 2) := dk_21 6 (dk_at dksX10_sign_2 10 rfl rfl)
theorem dX10_sign_59 : decode cX10_sign 59 = .ok (.if_icmp .ne 7, 3) := dk_160 0 7 (dk_at dksX10_sign_2 12 rfl rfl)
theorem dX10_sign_62 : decode cX10_sign 62 = .ok (.iconst 0, 1) := dk_3 (dk_at dksX10_sign_2 15 rfl rfl)
theorem dX10_sign_63 : decode cX10_sign 63 = .ok (.goto 13, 3) := dk_167 0 13 (dk_at dksX10_sign_2 16 rfl rfl)
theorem dX10_sign_66 : decode cX10_sign 66 = .ok (.iload 5, 2) := dk_21 5 (dk_at dksX10_sign_2 19 rfl rfl)
theorem dX10_sign_68 : decode cX10_sign 68 = .ok (.ifCond .eq 7, 3) := dk_153 0 7 (dk_at dksX10_sign_2 21 rfl rfl)
theorem dX10_sign_71 : decode cX10_sign 71 = .ok (.iconst (-1), 1) := dk_2 (dk_at dksX10_sign_3 0 rfl rfl)
theorem dX10_sign_72 : decode cX10_sign 72 = .ok (.goto 4, 3) := dk_167 0 4 (dk_at dksX10_sign_3 1 rfl rfl)
theorem dX10_sign_75 : decode cX10_sign 75 = .ok (.iconst 1, 1) := dk_4 (dk_at dksX10_sign_3 4 rfl rfl)
theorem dX10_sign_76 : decode cX10_sign 76 = .ok (.ireturn, 1) := dk_172 (dk_at dksX10_sign_3 5 rfl rfl)
theorem dX10_sign_77 : decode cX10_sign 77 = .ok (.aload_n 0, 1) := dk_42 (dk_at dksX10_sign_3 6 rfl rfl)
theorem dX10_sign_78 : decode cX10_sign 78 = .ok (.getfield 60, 3) := dk_180 0 60 (dk_at dksX10_sign_3 7 rfl rfl)
theorem dX10_sign_81 : decode cX10_sign 81 = .ok (.bipush 32, 2) := dk_16 32 (dk_at dksX10_sign_3 10 rfl rfl)
theorem dX10_sign_83 : decode cX10_sign 83 = .ok (.bipush 14, 2) := dk_16 14 (dk_at dksX10_sign_3 12 rfl rfl)
theorem dX10_sign_85 : decode cX10_sign 85 = .ok (.iload_n 1, 1) := dk_27 (dk_at dksX10_sign_3 14 rfl rfl)
theorem dX10_sign_86 : decode cX10_sign 86 = .ok (.imul, 1) := dk_104 (dk_at dksX10_sign_3 15 rfl rfl)
theorem dX10_sign_87 : decode cX10_sign 87 = .ok (.iadd, 1) := dk_96 (dk_at dksX10_sign_3 16 rfl rfl)
theorem dX10_sign_88 : decode cX10_sign 88 = .ok (.iload_n 3, 1) := dk_29 (dk_at dksX10_sign_3 17 rfl rfl)
theorem dX10_sign_89 : decode cX10_sign 89 = .ok (.iadd, 1) := dk_96 (dk_at dksX10_sign_3 18 rfl rfl)
theorem dX10_sign_90 : decode cX10_sign 90 = .ok (.iload 4, 2) := dk_21 4 (dk_at dksX10_sign_3 19 rfl rfl)
theorem dX10_sign_92 : decode cX10_sign 92 = .ok (.iadd, 1) := dk_96 (dk_at dksX10_sign_3 21 rfl rfl)
theorem dX10_sign_93 : decode cX10_sign 93 = .ok (.laload, 1) := dk_47 (dk_at dksX10_sign_3 22 rfl rfl)
theorem dX10_sign_94 : decode cX10_sign 94 = .ok (.lstore 7, 2) := dk_55 7 (dk_at dksX10_sign_4 0 rfl rfl)
theorem dX10_sign_96 : decode cX10_sign 96 = .ok (.aload_n 0, 1) := dk_42 (dk_at dksX10_sign_4 2 rfl rfl)
theorem dX10_sign_97 : decode cX10_sign 97 = .ok (.getfield 60, 3) := dk_180 0 60 (dk_at dksX10_sign_4 3 rfl rfl)
theorem dX10_sign_100 : decode cX10_sign 100 = .ok (.bipush 32, 2) := dk_16 32 (dk_at dksX10_sign_4 6 rfl rfl)
theorem dX10_sign_102 : decode cX10_sign 102 = .ok (.bipush 14, 2) := dk_16 14 (dk_at dksX10_sign_4 8 rfl rfl)
theorem dX10_sign_104 : decode cX10_sign 104 = .ok (.iload_n 2, 1) := dk_28 (dk_at dksX10_sign_4 10 rfl rfl)
theorem dX10_sign_105 : decode cX10_sign 105 = .ok (.imul, 1) := dk_104 (dk_at dksX10_sign_4 11 rfl rfl)
theorem dX10_sign_106 : decode cX10_sign 106 = .ok (.iadd, 1) := dk_96 (dk_at dksX10_sign_4 12 rfl rfl)
theorem dX10_sign_107 : decode cX10_sign 107 = .ok (.iload_n 3, 1) := dk_29 (dk_at dksX10_sign_4 13 rfl rfl)
theorem dX10_sign_108 : decode cX10_sign 108 = .ok (.iadd, 1) := dk_96 (dk_at dksX10_sign_4 14 rfl rfl)
theorem dX10_sign_109 : decode cX10_sign 109 = .ok (.iload 4, 2) := dk_21 4 (dk_at dksX10_sign_4 15 rfl rfl)
theorem dX10_sign_111 : decode cX10_sign 111 = .ok (.iadd, 1) := dk_96 (dk_at dksX10_sign_4 17 rfl rfl)
theorem dX10_sign_112 : decode cX10_sign 112 = .ok (.laload, 1) := dk_47 (dk_at dksX10_sign_4 18 rfl rfl)
theorem dX10_sign_113 : decode cX10_sign 113 = .ok (.lstore 9, 2) := dk_55 9 (dk_at dksX10_sign_4 19 rfl rfl)
theorem dX10_sign_115 : decode cX10_sign 115 = .ok (.lload 7, 2) := dk_22 7 (dk_at dksX10_sign_4 21 rfl rfl)
theorem dX10_sign_117 : decode cX10_sign 117 = .ok (.lload 9, 2) := dk_22 9 (dk_at dksX10_sign_5 0 rfl rfl)
theorem dX10_sign_119 : decode cX10_sign 119 = .ok (.lcmp, 1) := dk_148 (dk_at dksX10_sign_5 2 rfl rfl)
theorem dX10_sign_120 : decode cX10_sign 120 = .ok (.ifCond .eq 17, 3) := dk_153 0 17 (dk_at dksX10_sign_5 3 rfl rfl)
theorem dX10_sign_123 : decode cX10_sign 123 = .ok (.lload 7, 2) := dk_22 7 (dk_at dksX10_sign_5 6 rfl rfl)
theorem dX10_sign_125 : decode cX10_sign 125 = .ok (.lload 9, 2) := dk_22 9 (dk_at dksX10_sign_5 8 rfl rfl)
theorem dX10_sign_127 : decode cX10_sign 127 = .ok (.lcmp, 1) := dk_148 (dk_at dksX10_sign_5 10 rfl rfl)
theorem dX10_sign_128 : decode cX10_sign 128 = .ok (.ifCond .ge 7, 3) := dk_156 0 7 (dk_at dksX10_sign_5 11 rfl rfl)
theorem dX10_sign_131 : decode cX10_sign 131 = .ok (.iconst (-1), 1) := dk_2 (dk_at dksX10_sign_5 14 rfl rfl)
theorem dX10_sign_132 : decode cX10_sign 132 = .ok (.goto 4, 3) := dk_167 0 4 (dk_at dksX10_sign_5 15 rfl rfl)
theorem dX10_sign_135 : decode cX10_sign 135 = .ok (.iconst 1, 1) := dk_4 (dk_at dksX10_sign_5 18 rfl rfl)
theorem dX10_sign_136 : decode cX10_sign 136 = .ok (.ireturn, 1) := dk_172 (dk_at dksX10_sign_5 19 rfl rfl)
theorem dX10_sign_137 : decode cX10_sign 137 = .ok (.iinc 4 1, 3) := dk_132 4 1 (dk_at dksX10_sign_5 20 rfl rfl)
theorem dX10_sign_140 : decode cX10_sign 140 = .ok (.goto (-137), 3) := dk_167 255 119 (dk_at dksX10_sign_6 0 rfl rfl)
theorem dX10_sign_143 : decode cX10_sign 143 = .ok (.iconst 0, 1) := dk_3 (dk_at dksX10_sign_6 3 rfl rfl)
theorem dX10_sign_144 : decode cX10_sign 144 = .ok (.ireturn, 1) := dk_172 (dk_at dksX10_sign_6 4 rfl rfl)
abbrev cX10_swaps : ByteArray := prog_28_method_36_code
def yX10_swaps : MethodName := ⟨RX10, "swaps", "(II)V"⟩
def dkwX10_swaps_3 : List UInt8 := [167, 255, 187, 177]
abbrev dktX10_swaps_3 : List UInt8 := dkwX10_swaps_3 ++ []
def dkwX10_swaps_2 : List UInt8 := [29, 96, 47, 80, 42, 180, 0, 60, 16, 32, 16, 14, 28, 104, 96, 29, 96, 22, 4, 80, 132, 3, 1]
abbrev dktX10_swaps_2 : List UInt8 := dkwX10_swaps_2 ++ dktX10_swaps_3
def dkwX10_swaps_1 : List UInt8 := [42, 180, 0, 60, 16, 32, 16, 14, 27, 104, 96, 29, 96, 42, 180, 0, 60, 16, 32, 16, 14, 28, 104, 96]
abbrev dktX10_swaps_1 : List UInt8 := dkwX10_swaps_1 ++ dktX10_swaps_2
def dkwX10_swaps_0 : List UInt8 := [3, 62, 29, 16, 14, 162, 0, 69, 42, 180, 0, 60, 16, 32, 16, 14, 27, 104, 96, 29, 96, 47, 55, 4]
abbrev dktX10_swaps_0 : List UInt8 := dkwX10_swaps_0 ++ dktX10_swaps_1
theorem dksX10_swaps_0 : cX10_swaps.data.toList.drop 0 = dktX10_swaps_0 := by decide +kernel
theorem dksX10_swaps_1 : cX10_swaps.data.toList.drop 24 = dktX10_swaps_1 := dk_seg dksX10_swaps_0 24 rfl rfl
theorem dksX10_swaps_2 : cX10_swaps.data.toList.drop 48 = dktX10_swaps_2 := dk_seg dksX10_swaps_1 24 rfl rfl
theorem dksX10_swaps_3 : cX10_swaps.data.toList.drop 71 = dktX10_swaps_3 := dk_seg dksX10_swaps_2 23 rfl rfl
theorem dX10_swaps_0 : decode cX10_swaps 0 = .ok (.iconst 0, 1) := dk_3 (dk_at dksX10_swaps_0 0 rfl rfl)
theorem dX10_swaps_1 : decode cX10_swaps 1 = .ok (.istore_n 3, 1) := dk_62 (dk_at dksX10_swaps_0 1 rfl rfl)
theorem dX10_swaps_2 : decode cX10_swaps 2 = .ok (.iload_n 3, 1) := dk_29 (dk_at dksX10_swaps_0 2 rfl rfl)
theorem dX10_swaps_3 : decode cX10_swaps 3 = .ok (.bipush 14, 2) := dk_16 14 (dk_at dksX10_swaps_0 3 rfl rfl)
theorem dX10_swaps_5 : decode cX10_swaps 5 = .ok (.if_icmp .ge 69, 3) := dk_162 0 69 (dk_at dksX10_swaps_0 5 rfl rfl)
theorem dX10_swaps_8 : decode cX10_swaps 8 = .ok (.aload_n 0, 1) := dk_42 (dk_at dksX10_swaps_0 8 rfl rfl)
theorem dX10_swaps_9 : decode cX10_swaps 9 = .ok (.getfield 60, 3) := dk_180 0 60 (dk_at dksX10_swaps_0 9 rfl rfl)
theorem dX10_swaps_12 : decode cX10_swaps 12 = .ok (.bipush 32, 2) := dk_16 32 (dk_at dksX10_swaps_0 12 rfl rfl)
theorem dX10_swaps_14 : decode cX10_swaps 14 = .ok (.bipush 14, 2) := dk_16 14 (dk_at dksX10_swaps_0 14 rfl rfl)
theorem dX10_swaps_16 : decode cX10_swaps 16 = .ok (.iload_n 1, 1) := dk_27 (dk_at dksX10_swaps_0 16 rfl rfl)
theorem dX10_swaps_17 : decode cX10_swaps 17 = .ok (.imul, 1) := dk_104 (dk_at dksX10_swaps_0 17 rfl rfl)
theorem dX10_swaps_18 : decode cX10_swaps 18 = .ok (.iadd, 1) := dk_96 (dk_at dksX10_swaps_0 18 rfl rfl)
theorem dX10_swaps_19 : decode cX10_swaps 19 = .ok (.iload_n 3, 1) := dk_29 (dk_at dksX10_swaps_0 19 rfl rfl)
theorem dX10_swaps_20 : decode cX10_swaps 20 = .ok (.iadd, 1) := dk_96 (dk_at dksX10_swaps_0 20 rfl rfl)
theorem dX10_swaps_21 : decode cX10_swaps 21 = .ok (.laload, 1) := dk_47 (dk_at dksX10_swaps_0 21 rfl rfl)
theorem dX10_swaps_22 : decode cX10_swaps 22 = .ok (.lstore 4, 2) := dk_55 4 (dk_at dksX10_swaps_0 22 rfl rfl)
theorem dX10_swaps_24 : decode cX10_swaps 24 = .ok (.aload_n 0, 1) := dk_42 (dk_at dksX10_swaps_1 0 rfl rfl)
theorem dX10_swaps_25 : decode cX10_swaps 25 = .ok (.getfield 60, 3) := dk_180 0 60 (dk_at dksX10_swaps_1 1 rfl rfl)
theorem dX10_swaps_28 : decode cX10_swaps 28 = .ok (.bipush 32, 2) := dk_16 32 (dk_at dksX10_swaps_1 4 rfl rfl)
theorem dX10_swaps_30 : decode cX10_swaps 30 = .ok (.bipush 14, 2) := dk_16 14 (dk_at dksX10_swaps_1 6 rfl rfl)
theorem dX10_swaps_32 : decode cX10_swaps 32 = .ok (.iload_n 1, 1) := dk_27 (dk_at dksX10_swaps_1 8 rfl rfl)
theorem dX10_swaps_33 : decode cX10_swaps 33 = .ok (.imul, 1) := dk_104 (dk_at dksX10_swaps_1 9 rfl rfl)
theorem dX10_swaps_34 : decode cX10_swaps 34 = .ok (.iadd, 1) := dk_96 (dk_at dksX10_swaps_1 10 rfl rfl)
theorem dX10_swaps_35 : decode cX10_swaps 35 = .ok (.iload_n 3, 1) := dk_29 (dk_at dksX10_swaps_1 11 rfl rfl)
theorem dX10_swaps_36 : decode cX10_swaps 36 = .ok (.iadd, 1) := dk_96 (dk_at dksX10_swaps_1 12 rfl rfl)
theorem dX10_swaps_37 : decode cX10_swaps 37 = .ok (.aload_n 0, 1) := dk_42 (dk_at dksX10_swaps_1 13 rfl rfl)
theorem dX10_swaps_38 : decode cX10_swaps 38 = .ok (.getfield 60, 3) := dk_180 0 60 (dk_at dksX10_swaps_1 14 rfl rfl)
theorem dX10_swaps_41 : decode cX10_swaps 41 = .ok (.bipush 32, 2) := dk_16 32 (dk_at dksX10_swaps_1 17 rfl rfl)
theorem dX10_swaps_43 : decode cX10_swaps 43 = .ok (.bipush 14, 2) := dk_16 14 (dk_at dksX10_swaps_1 19 rfl rfl)
theorem dX10_swaps_45 : decode cX10_swaps 45 = .ok (.iload_n 2, 1) := dk_28 (dk_at dksX10_swaps_1 21 rfl rfl)
theorem dX10_swaps_46 : decode cX10_swaps 46 = .ok (.imul, 1) := dk_104 (dk_at dksX10_swaps_1 22 rfl rfl)
theorem dX10_swaps_47 : decode cX10_swaps 47 = .ok (.iadd, 1) := dk_96 (dk_at dksX10_swaps_1 23 rfl rfl)
theorem dX10_swaps_48 : decode cX10_swaps 48 = .ok (.iload_n 3, 1) := dk_29 (dk_at dksX10_swaps_2 0 rfl rfl)
theorem dX10_swaps_49 : decode cX10_swaps 49 = .ok (.iadd, 1) := dk_96 (dk_at dksX10_swaps_2 1 rfl rfl)
theorem dX10_swaps_50 : decode cX10_swaps 50 = .ok (.laload, 1) := dk_47 (dk_at dksX10_swaps_2 2 rfl rfl)
theorem dX10_swaps_51 : decode cX10_swaps 51 = .ok (.lastore, 1) := dk_80 (dk_at dksX10_swaps_2 3 rfl rfl)
theorem dX10_swaps_52 : decode cX10_swaps 52 = .ok (.aload_n 0, 1) := dk_42 (dk_at dksX10_swaps_2 4 rfl rfl)
theorem dX10_swaps_53 : decode cX10_swaps 53 = .ok (.getfield 60, 3) := dk_180 0 60 (dk_at dksX10_swaps_2 5 rfl rfl)
theorem dX10_swaps_56 : decode cX10_swaps 56 = .ok (.bipush 32, 2) := dk_16 32 (dk_at dksX10_swaps_2 8 rfl rfl)
theorem dX10_swaps_58 : decode cX10_swaps 58 = .ok (.bipush 14, 2) := dk_16 14 (dk_at dksX10_swaps_2 10 rfl rfl)
theorem dX10_swaps_60 : decode cX10_swaps 60 = .ok (.iload_n 2, 1) := dk_28 (dk_at dksX10_swaps_2 12 rfl rfl)
theorem dX10_swaps_61 : decode cX10_swaps 61 = .ok (.imul, 1) := dk_104 (dk_at dksX10_swaps_2 13 rfl rfl)
theorem dX10_swaps_62 : decode cX10_swaps 62 = .ok (.iadd, 1) := dk_96 (dk_at dksX10_swaps_2 14 rfl rfl)
theorem dX10_swaps_63 : decode cX10_swaps 63 = .ok (.iload_n 3, 1) := dk_29 (dk_at dksX10_swaps_2 15 rfl rfl)
theorem dX10_swaps_64 : decode cX10_swaps 64 = .ok (.iadd, 1) := dk_96 (dk_at dksX10_swaps_2 16 rfl rfl)
theorem dX10_swaps_65 : decode cX10_swaps 65 = .ok (.lload 4, 2) := dk_22 4 (dk_at dksX10_swaps_2 17 rfl rfl)
theorem dX10_swaps_67 : decode cX10_swaps 67 = .ok (.lastore, 1) := dk_80 (dk_at dksX10_swaps_2 19 rfl rfl)
theorem dX10_swaps_68 : decode cX10_swaps 68 = .ok (.iinc 3 1, 3) := dk_132 3 1 (dk_at dksX10_swaps_2 20 rfl rfl)
theorem dX10_swaps_71 : decode cX10_swaps 71 = .ok (.goto (-69), 3) := dk_167 255 187 (dk_at dksX10_swaps_3 0 rfl rfl)
theorem dX10_swaps_74 : decode cX10_swaps 74 = .ok (.return_, 1) := dk_177 (dk_at dksX10_swaps_3 3 rfl rfl)
abbrev cX10_respaces : ByteArray := prog_28_method_37_code
def yX10_respaces : MethodName := ⟨RX10, "respaces", "()I"⟩
def dkwX10_respaces_2 : List UInt8 := [182, 0, 143, 132, 2, 1, 167, 255, 207, 42, 4, 4, 182, 0, 166, 42, 5, 27, 182, 0, 166, 27, 172]
abbrev dktX10_respaces_2 : List UInt8 := dkwX10_respaces_2 ++ []
def dkwX10_respaces_1 : List UInt8 := [5, 182, 0, 129, 159, 0, 6, 132, 1, 1, 42, 28, 5, 28, 42, 5, 182, 0, 118, 184, 0, 159, 133]
abbrev dktX10_respaces_1 : List UInt8 := dkwX10_respaces_1 ++ dktX10_respaces_2
def dkwX10_respaces_0 : List UInt8 := [3, 60, 3, 61, 28, 42, 5, 182, 0, 118, 162, 0, 46, 28, 42, 5, 182, 0, 118, 184, 0, 159, 42, 28]
abbrev dktX10_respaces_0 : List UInt8 := dkwX10_respaces_0 ++ dktX10_respaces_1
theorem dksX10_respaces_0 : cX10_respaces.data.toList.drop 0 = dktX10_respaces_0 := by decide +kernel
theorem dksX10_respaces_1 : cX10_respaces.data.toList.drop 24 = dktX10_respaces_1 := dk_seg dksX10_respaces_0 24 rfl rfl
theorem dksX10_respaces_2 : cX10_respaces.data.toList.drop 47 = dktX10_respaces_2 := dk_seg dksX10_respaces_1 23 rfl rfl
theorem dX10_respaces_0 : decode cX10_respaces 0 = .ok (.iconst 0, 1) := dk_3 (dk_at dksX10_respaces_0 0 rfl rfl)
theorem dX10_respaces_1 : decode cX10_respaces 1 = .ok (.istore_n 1, 1) := dk_60 (dk_at dksX10_respaces_0 1 rfl rfl)
theorem dX10_respaces_2 : decode cX10_respaces 2 = .ok (.iconst 0, 1) := dk_3 (dk_at dksX10_respaces_0 2 rfl rfl)
theorem dX10_respaces_3 : decode cX10_respaces 3 = .ok (.istore_n 2, 1) := dk_61 (dk_at dksX10_respaces_0 3 rfl rfl)
theorem dX10_respaces_4 : decode cX10_respaces 4 = .ok (.iload_n 2, 1) := dk_28 (dk_at dksX10_respaces_0 4 rfl rfl)
theorem dX10_respaces_5 : decode cX10_respaces 5 = .ok (.aload_n 0, 1) := dk_42 (dk_at dksX10_respaces_0 5 rfl rfl)
theorem dX10_respaces_6 : decode cX10_respaces 6 = .ok (.iconst 2, 1) := dk_5 (dk_at dksX10_respaces_0 6 rfl rfl)
theorem dX10_respaces_7 : decode cX10_respaces 7 = .ok (.invokevirtual 118, 3) := dk_182 0 118 (dk_at dksX10_respaces_0 7 rfl rfl)
theorem dX10_respaces_10 : decode cX10_respaces 10 = .ok (.if_icmp .ge 46, 3) := dk_162 0 46 (dk_at dksX10_respaces_0 10 rfl rfl)
theorem dX10_respaces_13 : decode cX10_respaces 13 = .ok (.iload_n 2, 1) := dk_28 (dk_at dksX10_respaces_0 13 rfl rfl)
theorem dX10_respaces_14 : decode cX10_respaces 14 = .ok (.aload_n 0, 1) := dk_42 (dk_at dksX10_respaces_0 14 rfl rfl)
theorem dX10_respaces_15 : decode cX10_respaces 15 = .ok (.iconst 2, 1) := dk_5 (dk_at dksX10_respaces_0 15 rfl rfl)
theorem dX10_respaces_16 : decode cX10_respaces 16 = .ok (.invokevirtual 118, 3) := dk_182 0 118 (dk_at dksX10_respaces_0 16 rfl rfl)
theorem dX10_respaces_19 : decode cX10_respaces 19 = .ok (.invokestatic 159, 3) := dk_184 0 159 (dk_at dksX10_respaces_0 19 rfl rfl)
theorem dX10_respaces_22 : decode cX10_respaces 22 = .ok (.aload_n 0, 1) := dk_42 (dk_at dksX10_respaces_0 22 rfl rfl)
theorem dX10_respaces_23 : decode cX10_respaces 23 = .ok (.iload_n 2, 1) := dk_28 (dk_at dksX10_respaces_0 23 rfl rfl)
theorem dX10_respaces_24 : decode cX10_respaces 24 = .ok (.iconst 2, 1) := dk_5 (dk_at dksX10_respaces_1 0 rfl rfl)
theorem dX10_respaces_25 : decode cX10_respaces 25 = .ok (.invokevirtual 129, 3) := dk_182 0 129 (dk_at dksX10_respaces_1 1 rfl rfl)
theorem dX10_respaces_28 : decode cX10_respaces 28 = .ok (.if_icmp .eq 6, 3) := dk_159 0 6 (dk_at dksX10_respaces_1 4 rfl rfl)
theorem dX10_respaces_31 : decode cX10_respaces 31 = .ok (.iinc 1 1, 3) := dk_132 1 1 (dk_at dksX10_respaces_1 7 rfl rfl)
theorem dX10_respaces_34 : decode cX10_respaces 34 = .ok (.aload_n 0, 1) := dk_42 (dk_at dksX10_respaces_1 10 rfl rfl)
theorem dX10_respaces_35 : decode cX10_respaces 35 = .ok (.iload_n 2, 1) := dk_28 (dk_at dksX10_respaces_1 11 rfl rfl)
theorem dX10_respaces_36 : decode cX10_respaces 36 = .ok (.iconst 2, 1) := dk_5 (dk_at dksX10_respaces_1 12 rfl rfl)
theorem dX10_respaces_37 : decode cX10_respaces 37 = .ok (.iload_n 2, 1) := dk_28 (dk_at dksX10_respaces_1 13 rfl rfl)
theorem dX10_respaces_38 : decode cX10_respaces 38 = .ok (.aload_n 0, 1) := dk_42 (dk_at dksX10_respaces_1 14 rfl rfl)
theorem dX10_respaces_39 : decode cX10_respaces 39 = .ok (.iconst 2, 1) := dk_5 (dk_at dksX10_respaces_1 15 rfl rfl)
theorem dX10_respaces_40 : decode cX10_respaces 40 = .ok (.invokevirtual 118, 3) := dk_182 0 118 (dk_at dksX10_respaces_1 16 rfl rfl)
theorem dX10_respaces_43 : decode cX10_respaces 43 = .ok (.invokestatic 159, 3) := dk_184 0 159 (dk_at dksX10_respaces_1 19 rfl rfl)
theorem dX10_respaces_46 : decode cX10_respaces 46 = .ok (.i2l, 1) := dk_133 (dk_at dksX10_respaces_1 22 rfl rfl)
theorem dX10_respaces_47 : decode cX10_respaces 47 = .ok (.invokevirtual 143, 3) := dk_182 0 143 (dk_at dksX10_respaces_2 0 rfl rfl)
theorem dX10_respaces_50 : decode cX10_respaces 50 = .ok (.iinc 2 1, 3) := dk_132 2 1 (dk_at dksX10_respaces_2 3 rfl rfl)
theorem dX10_respaces_53 : decode cX10_respaces 53 = .ok (.goto (-49), 3) := dk_167 255 207 (dk_at dksX10_respaces_2 6 rfl rfl)
theorem dX10_respaces_56 : decode cX10_respaces 56 = .ok (.aload_n 0, 1) := dk_42 (dk_at dksX10_respaces_2 9 rfl rfl)
theorem dX10_respaces_57 : decode cX10_respaces 57 = .ok (.iconst 1, 1) := dk_4 (dk_at dksX10_respaces_2 10 rfl rfl)
theorem dX10_respaces_58 : decode cX10_respaces 58 = .ok (.iconst 1, 1) := dk_4 (dk_at dksX10_respaces_2 11 rfl rfl)
theorem dX10_respaces_59 : decode cX10_respaces 59 = .ok (.invokevirtual 166, 3) := dk_182 0 166 (dk_at dksX10_respaces_2 12 rfl rfl)
theorem dX10_respaces_62 : decode cX10_respaces 62 = .ok (.aload_n 0, 1) := dk_42 (dk_at dksX10_respaces_2 15 rfl rfl)
theorem dX10_respaces_63 : decode cX10_respaces 63 = .ok (.iconst 2, 1) := dk_5 (dk_at dksX10_respaces_2 16 rfl rfl)
theorem dX10_respaces_64 : decode cX10_respaces 64 = .ok (.iload_n 1, 1) := dk_27 (dk_at dksX10_respaces_2 17 rfl rfl)
theorem dX10_respaces_65 : decode cX10_respaces 65 = .ok (.invokevirtual 166, 3) := dk_182 0 166 (dk_at dksX10_respaces_2 18 rfl rfl)
theorem dX10_respaces_68 : decode cX10_respaces 68 = .ok (.iload_n 1, 1) := dk_27 (dk_at dksX10_respaces_2 21 rfl rfl)
theorem dX10_respaces_69 : decode cX10_respaces 69 = .ok (.ireturn, 1) := dk_172 (dk_at dksX10_respaces_2 22 rfl rfl)
abbrev cX10_spaced : ByteArray := prog_28_method_33_code
def yX10_spaced : MethodName := ⟨RX10, "spaced", "(II)I"⟩
def dkwX10_spaced_0 : List UInt8 := [26, 4, 96, 17, 39, 16, 104, 27, 4, 96, 108, 172]
abbrev dktX10_spaced_0 : List UInt8 := dkwX10_spaced_0 ++ []
theorem dksX10_spaced_0 : cX10_spaced.data.toList.drop 0 = dktX10_spaced_0 := by decide +kernel
theorem dX10_spaced_0 : decode cX10_spaced 0 = .ok (.iload_n 0, 1) := dk_26 (dk_at dksX10_spaced_0 0 rfl rfl)
theorem dX10_spaced_1 : decode cX10_spaced 1 = .ok (.iconst 1, 1) := dk_4 (dk_at dksX10_spaced_0 1 rfl rfl)
theorem dX10_spaced_2 : decode cX10_spaced 2 = .ok (.iadd, 1) := dk_96 (dk_at dksX10_spaced_0 2 rfl rfl)
theorem dX10_spaced_3 : decode cX10_spaced 3 = .ok (.sipush 10000, 3) := dk_17 39 16 (dk_at dksX10_spaced_0 3 rfl rfl)
theorem dX10_spaced_6 : decode cX10_spaced 6 = .ok (.imul, 1) := dk_104 (dk_at dksX10_spaced_0 6 rfl rfl)
theorem dX10_spaced_7 : decode cX10_spaced 7 = .ok (.iload_n 1, 1) := dk_27 (dk_at dksX10_spaced_0 7 rfl rfl)
theorem dX10_spaced_8 : decode cX10_spaced 8 = .ok (.iconst 1, 1) := dk_4 (dk_at dksX10_spaced_0 8 rfl rfl)
theorem dX10_spaced_9 : decode cX10_spaced 9 = .ok (.iadd, 1) := dk_96 (dk_at dksX10_spaced_0 9 rfl rfl)
theorem dX10_spaced_10 : decode cX10_spaced 10 = .ok (.idiv, 1) := dk_108 (dk_at dksX10_spaced_0 10 rfl rfl)
theorem dX10_spaced_11 : decode cX10_spaced 11 = .ok (.ireturn, 1) := dk_172 (dk_at dksX10_spaced_0 11 rfl rfl)
abbrev cX10_counts : ByteArray := prog_28_method_20_code
def yX10_counts : MethodName := ⟨RX10, "counts", "(II)V"⟩
def dkwX10_counts_0 : List UInt8 := [42, 180, 0, 60, 8, 27, 96, 92, 47, 28, 133, 97, 80, 177]
abbrev dktX10_counts_0 : List UInt8 := dkwX10_counts_0 ++ []
theorem dksX10_counts_0 : cX10_counts.data.toList.drop 0 = dktX10_counts_0 := by decide +kernel
theorem dX10_counts_0 : decode cX10_counts 0 = .ok (.aload_n 0, 1) := dk_42 (dk_at dksX10_counts_0 0 rfl rfl)
theorem dX10_counts_1 : decode cX10_counts 1 = .ok (.getfield 60, 3) := dk_180 0 60 (dk_at dksX10_counts_0 1 rfl rfl)
theorem dX10_counts_4 : decode cX10_counts 4 = .ok (.iconst 5, 1) := dk_8 (dk_at dksX10_counts_0 4 rfl rfl)
theorem dX10_counts_5 : decode cX10_counts 5 = .ok (.iload_n 1, 1) := dk_27 (dk_at dksX10_counts_0 5 rfl rfl)
theorem dX10_counts_6 : decode cX10_counts 6 = .ok (.iadd, 1) := dk_96 (dk_at dksX10_counts_0 6 rfl rfl)
theorem dX10_counts_7 : decode cX10_counts 7 = .ok (.dup2, 1) := dk_92 (dk_at dksX10_counts_0 7 rfl rfl)
theorem dX10_counts_8 : decode cX10_counts 8 = .ok (.laload, 1) := dk_47 (dk_at dksX10_counts_0 8 rfl rfl)
theorem dX10_counts_9 : decode cX10_counts 9 = .ok (.iload_n 2, 1) := dk_28 (dk_at dksX10_counts_0 9 rfl rfl)
theorem dX10_counts_10 : decode cX10_counts 10 = .ok (.i2l, 1) := dk_133 (dk_at dksX10_counts_0 10 rfl rfl)
theorem dX10_counts_11 : decode cX10_counts 11 = .ok (.ladd, 1) := dk_97 (dk_at dksX10_counts_0 11 rfl rfl)
theorem dX10_counts_12 : decode cX10_counts 12 = .ok (.lastore, 1) := dk_80 (dk_at dksX10_counts_0 12 rfl rfl)
theorem dX10_counts_13 : decode cX10_counts 13 = .ok (.return_, 1) := dk_177 (dk_at dksX10_counts_0 13 rfl rfl)
abbrev cX10_readsMark : ByteArray := prog_28_method_72_code
def yX10_readsMark : MethodName := ⟨RX10, "readsMark", "()V"⟩
def dkwX10_readsMark_4 : List UInt8 := [182, 1, 16, 42, 180, 0, 244, 153, 0, 4, 177, 42, 27, 182, 0, 202, 61, 177]
abbrev dktX10_readsMark_4 : List UInt8 := dkwX10_readsMark_4 ++ []
def dkwX10_readsMark_3 : List UInt8 := [159, 0, 8, 42, 7, 182, 0, 250, 42, 7, 182, 1, 16, 42, 4, 16, 20, 182, 1, 13, 60, 42, 6]
abbrev dktX10_readsMark_3 : List UInt8 := dkwX10_readsMark_3 ++ dktX10_readsMark_4
def dkwX10_readsMark_2 : List UInt8 := [182, 1, 39, 42, 180, 0, 244, 154, 0, 24, 42, 180, 0, 232, 7, 160, 0, 16, 42, 182, 0, 199, 2]
abbrev dktX10_readsMark_2 : List UInt8 := dkwX10_readsMark_2 ++ dktX10_readsMark_3
def dkwX10_readsMark_1 : List UInt8 := [182, 0, 247, 42, 182, 1, 36, 42, 180, 0, 244, 154, 0, 16, 42, 42, 180, 0, 85, 3, 42, 180, 1, 1]
abbrev dktX10_readsMark_1 : List UInt8 := dkwX10_readsMark_1 ++ dktX10_readsMark_2
def dkwX10_readsMark_0 : List UInt8 := [42, 5, 182, 0, 118, 16, 40, 160, 0, 8, 42, 8, 182, 0, 250, 42, 180, 0, 244, 153, 0, 4, 177, 42]
abbrev dktX10_readsMark_0 : List UInt8 := dkwX10_readsMark_0 ++ dktX10_readsMark_1
theorem dksX10_readsMark_0 : cX10_readsMark.data.toList.drop 0 = dktX10_readsMark_0 := by decide +kernel
theorem dksX10_readsMark_1 : cX10_readsMark.data.toList.drop 24 = dktX10_readsMark_1 := dk_seg dksX10_readsMark_0 24 rfl rfl
theorem dksX10_readsMark_2 : cX10_readsMark.data.toList.drop 48 = dktX10_readsMark_2 := dk_seg dksX10_readsMark_1 24 rfl rfl
theorem dksX10_readsMark_3 : cX10_readsMark.data.toList.drop 71 = dktX10_readsMark_3 := dk_seg dksX10_readsMark_2 23 rfl rfl
theorem dksX10_readsMark_4 : cX10_readsMark.data.toList.drop 94 = dktX10_readsMark_4 := dk_seg dksX10_readsMark_3 23 rfl rfl
theorem dX10_readsMark_0 : decode cX10_readsMark 0 = .ok (.aload_n 0, 1) := dk_42 (dk_at dksX10_readsMark_0 0 rfl rfl)
theorem dX10_readsMark_1 : decode cX10_readsMark 1 = .ok (.iconst 2, 1) := dk_5 (dk_at dksX10_readsMark_0 1 rfl rfl)
theorem dX10_readsMark_2 : decode cX10_readsMark 2 = .ok (.invokevirtual 118, 3) := dk_182 0 118 (dk_at dksX10_readsMark_0 2 rfl rfl)
theorem dX10_readsMark_5 : decode cX10_readsMark 5 = .ok (.bipush 40, 2) := dk_16 40 (dk_at dksX10_readsMark_0 5 rfl rfl)
theorem dX10_readsMark_7 : decode cX10_readsMark 7 = .ok (.if_icmp .ne 8, 3) := dk_160 0 8 (dk_at dksX10_readsMark_0 7 rfl rfl)
theorem dX10_readsMark_10 : decode cX10_readsMark 10 = .ok (.aload_n 0, 1) := dk_42 (dk_at dksX10_readsMark_0 10 rfl rfl)
theorem dX10_readsMark_11 : decode cX10_readsMark 11 = .ok (.iconst 5, 1) := dk_8 (dk_at dksX10_readsMark_0 11 rfl rfl)
theorem dX10_readsMark_12 : decode cX10_readsMark 12 = .ok (.invokevirtual 250, 3) := dk_182 0 250 (dk_at dksX10_readsMark_0 12 rfl rfl)
theorem dX10_readsMark_15 : decode cX10_readsMark 15 = .ok (.aload_n 0, 1) := dk_42 (dk_at dksX10_readsMark_0 15 rfl rfl)
theorem dX10_readsMark_16 : decode cX10_readsMark 16 = .ok (.getfield 244, 3) := dk_180 0 244 (dk_at dksX10_readsMark_0 16 rfl rfl)
theorem dX10_readsMark_19 : decode cX10_readsMark 19 = .ok (.ifCond .eq 4, 3) := dk_153 0 4 (dk_at dksX10_readsMark_0 19 rfl rfl)
theorem dX10_readsMark_22 : decode cX10_readsMark 22 = .ok (.return_, 1) := dk_177 (dk_at dksX10_readsMark_0 22 rfl rfl)
theorem dX10_readsMark_23 : decode cX10_readsMark 23 = .ok (.aload_n 0, 1) := dk_42 (dk_at dksX10_readsMark_0 23 rfl rfl)
theorem dX10_readsMark_24 : decode cX10_readsMark 24 = .ok (.invokevirtual 247, 3) := dk_182 0 247 (dk_at dksX10_readsMark_1 0 rfl rfl)
theorem dX10_readsMark_27 : decode cX10_readsMark 27 = .ok (.aload_n 0, 1) := dk_42 (dk_at dksX10_readsMark_1 3 rfl rfl)
theorem dX10_readsMark_28 : decode cX10_readsMark 28 = .ok (.invokevirtual 292, 3) := dk_182 1 36 (dk_at dksX10_readsMark_1 4 rfl rfl)
theorem dX10_readsMark_31 : decode cX10_readsMark 31 = .ok (.aload_n 0, 1) := dk_42 (dk_at dksX10_readsMark_1 7 rfl rfl)
theorem dX10_readsMark_32 : decode cX10_readsMark 32 = .ok (.getfield 244, 3) := dk_180 0 244 (dk_at dksX10_readsMark_1 8 rfl rfl)
theorem dX10_readsMark_35 : decode cX10_readsMark 35 = .ok (.ifCond .ne 16, 3) := dk_154 0 16 (dk_at dksX10_readsMark_1 11 rfl rfl)
theorem dX10_readsMark_38 : decode cX10_readsMark 38 = .ok (.aload_n 0, 1) := dk_42 (dk_at dksX10_readsMark_1 14 rfl rfl)
theorem dX10_readsMark_39 : decode cX10_readsMark 39 = .ok (.aload_n 0, 1) := dk_42 (dk_at dksX10_readsMark_1 15 rfl rfl)
theorem dX10_readsMark_40 : decode cX10_readsMark 40 = .ok (.getfield 85, 3) := dk_180 0 85 (dk_at dksX10_readsMark_1 16 rfl rfl)
theorem dX10_readsMark_43 : decode cX10_readsMark 43 = .ok (.iconst 0, 1) := dk_3 (dk_at dksX10_readsMark_1 19 rfl rfl)
theorem dX10_readsMark_44 : decode cX10_readsMark 44 = .ok (.aload_n 0, 1) := dk_42 (dk_at dksX10_readsMark_1 20 rfl rfl)
theorem dX10_readsMark_45 : decode cX10_readsMark 45 = .ok (.getfield 257, 3) := dk_180 1 1 (dk_at dksX10_readsMark_1 21 rfl rfl)
theorem dX10_readsMark_48 : decode cX10_readsMark 48 = .ok (.invokevirtual 295, 3) := dk_182 1 39 (dk_at dksX10_readsMark_2 0 rfl rfl)
theorem dX10_readsMark_51 : decode cX10_readsMark 51 = .ok (.aload_n 0, 1) := dk_42 (dk_at dksX10_readsMark_2 3 rfl rfl)
theorem dX10_readsMark_52 : decode cX10_readsMark 52 = .ok (.getfield 244, 3) := dk_180 0 244 (dk_at dksX10_readsMark_2 4 rfl rfl)
theorem dX10_readsMark_55 : decode cX10_readsMark 55 = .ok (.ifCond .ne 24, 3) := dk_154 0 24 (dk_at dksX10_readsMark_2 7 rfl rfl)
theorem dX10_readsMark_58 : decode cX10_readsMark 58 = .ok (.aload_n 0, 1) := dk_42 (dk_at dksX10_readsMark_2 10 rfl rfl)
theorem dX10_readsMark_59 : decode cX10_readsMark 59 = .ok (.getfield 232, 3) := dk_180 0 232 (dk_at dksX10_readsMark_2 11 rfl rfl)
theorem dX10_readsMark_62 : decode cX10_readsMark 62 = .ok (.iconst 4, 1) := dk_7 (dk_at dksX10_readsMark_2 14 rfl rfl)
theorem dX10_readsMark_63 : decode cX10_readsMark 63 = .ok (.if_icmp .ne 16, 3) := dk_160 0 16 (dk_at dksX10_readsMark_2 15 rfl rfl)
theorem dX10_readsMark_66 : decode cX10_readsMark 66 = .ok (.aload_n 0, 1) := dk_42 (dk_at dksX10_readsMark_2 18 rfl rfl)
theorem dX10_readsMark_67 : decode cX10_readsMark 67 = .ok (.invokevirtual 199, 3) := dk_182 0 199 (dk_at dksX10_readsMark_2 19 rfl rfl)
theorem dX10_readsMark_70 : decode cX10_readsMark 70 = .ok (.iconst (-1), 1) := dk_2 (dk_at dksX10_readsMark_2 22 rfl rfl)
theorem dX10_readsMark_71 : decode cX10_readsMark 71 = .ok (.if_icmp .eq 8, 3) := dk_159 0 8 (dk_at dksX10_readsMark_3 0 rfl rfl)
theorem dX10_readsMark_74 : decode cX10_readsMark 74 = .ok (.aload_n 0, 1) := dk_42 (dk_at dksX10_readsMark_3 3 rfl rfl)
theorem dX10_readsMark_75 : decode cX10_readsMark 75 = .ok (.iconst 4, 1) := dk_7 (dk_at dksX10_readsMark_3 4 rfl rfl)
theorem dX10_readsMark_76 : decode cX10_readsMark 76 = .ok (.invokevirtual 250, 3) := dk_182 0 250 (dk_at dksX10_readsMark_3 5 rfl rfl)
theorem dX10_readsMark_79 : decode cX10_readsMark 79 = .ok (.aload_n 0, 1) := dk_42 (dk_at dksX10_readsMark_3 8 rfl rfl)
theorem dX10_readsMark_80 : decode cX10_readsMark 80 = .ok (.iconst 4, 1) := dk_7 (dk_at dksX10_readsMark_3 9 rfl rfl)
theorem dX10_readsMark_81 : decode cX10_readsMark 81 = .ok (.invokevirtual 272, 3) := dk_182 1 16 (dk_at dksX10_readsMark_3 10 rfl rfl)
theorem dX10_readsMark_84 : decode cX10_readsMark 84 = .ok (.aload_n 0, 1) := dk_42 (dk_at dksX10_readsMark_3 13 rfl rfl)
theorem dX10_readsMark_85 : decode cX10_readsMark 85 = .ok (.iconst 1, 1) := dk_4 (dk_at dksX10_readsMark_3 14 rfl rfl)
theorem dX10_readsMark_86 : decode cX10_readsMark 86 = .ok (.bipush 20, 2) := dk_16 20 (dk_at dksX10_readsMark_3 15 rfl rfl)
theorem dX10_readsMark_88 : decode cX10_readsMark 88 = .ok (.invokevirtual 269, 3) := dk_182 1 13 (dk_at dksX10_readsMark_3 17 rfl rfl)
theorem dX10_readsMark_91 : decode cX10_readsMark 91 = .ok (.istore_n 1, 1) := dk_60 (dk_at dksX10_readsMark_3 20 rfl rfl)
theorem dX10_readsMark_92 : decode cX10_readsMark 92 = .ok (.aload_n 0, 1) := dk_42 (dk_at dksX10_readsMark_3 21 rfl rfl)
theorem dX10_readsMark_93 : decode cX10_readsMark 93 = .ok (.iconst 3, 1) := dk_6 (dk_at dksX10_readsMark_3 22 rfl rfl)
theorem dX10_readsMark_94 : decode cX10_readsMark 94 = .ok (.invokevirtual 272, 3) := dk_182 1 16 (dk_at dksX10_readsMark_4 0 rfl rfl)
theorem dX10_readsMark_97 : decode cX10_readsMark 97 = .ok (.aload_n 0, 1) := dk_42 (dk_at dksX10_readsMark_4 3 rfl rfl)
theorem dX10_readsMark_98 : decode cX10_readsMark 98 = .ok (.getfield 244, 3) := dk_180 0 244 (dk_at dksX10_readsMark_4 4 rfl rfl)
theorem dX10_readsMark_101 : decode cX10_readsMark 101 = .ok (.ifCond .eq 4, 3) := dk_153 0 4 (dk_at dksX10_readsMark_4 7 rfl rfl)
theorem dX10_readsMark_104 : decode cX10_readsMark 104 = .ok (.return_, 1) := dk_177 (dk_at dksX10_readsMark_4 10 rfl rfl)
theorem dX10_readsMark_105 : decode cX10_readsMark 105 = .ok (.aload_n 0, 1) := dk_42 (dk_at dksX10_readsMark_4 11 rfl rfl)
theorem dX10_readsMark_106 : decode cX10_readsMark 106 = .ok (.iload_n 1, 1) := dk_27 (dk_at dksX10_readsMark_4 12 rfl rfl)
theorem dX10_readsMark_107 : decode cX10_readsMark 107 = .ok (.invokevirtual 202, 3) := dk_182 0 202 (dk_at dksX10_readsMark_4 13 rfl rfl)
theorem dX10_readsMark_110 : decode cX10_readsMark 110 = .ok (.istore_n 2, 1) := dk_61 (dk_at dksX10_readsMark_4 16 rfl rfl)
theorem dX10_readsMark_111 : decode cX10_readsMark 111 = .ok (.return_, 1) := dk_177 (dk_at dksX10_readsMark_4 17 rfl rfl)
abbrev cX10_readsParts : ByteArray := prog_28_method_68_code
def yX10_readsParts : MethodName := ⟨RX10, "readsParts", "()V"⟩
def dkwX10_readsParts_1 : List UInt8 := [42, 180, 0, 232, 5, 160, 0, 10, 42, 182, 1, 4, 167, 255, 229, 177]
abbrev dktX10_readsParts_1 : List UInt8 := dkwX10_readsParts_1 ++ []
def dkwX10_readsParts_0 : List UInt8 := [42, 3, 181, 1, 1, 42, 182, 1, 4, 42, 180, 0, 244, 154, 0, 26, 42, 180, 0, 232, 4, 159, 0, 11]
abbrev dktX10_readsParts_0 : List UInt8 := dkwX10_readsParts_0 ++ dktX10_readsParts_1
theorem dksX10_readsParts_0 : cX10_readsParts.data.toList.drop 0 = dktX10_readsParts_0 := by decide +kernel
theorem dksX10_readsParts_1 : cX10_readsParts.data.toList.drop 24 = dktX10_readsParts_1 := dk_seg dksX10_readsParts_0 24 rfl rfl
theorem dX10_readsParts_0 : decode cX10_readsParts 0 = .ok (.aload_n 0, 1) := dk_42 (dk_at dksX10_readsParts_0 0 rfl rfl)
theorem dX10_readsParts_1 : decode cX10_readsParts 1 = .ok (.iconst 0, 1) := dk_3 (dk_at dksX10_readsParts_0 1 rfl rfl)
theorem dX10_readsParts_2 : decode cX10_readsParts 2 = .ok (.putfield 257, 3) := dk_181 1 1 (dk_at dksX10_readsParts_0 2 rfl rfl)
theorem dX10_readsParts_5 : decode cX10_readsParts 5 = .ok (.aload_n 0, 1) := dk_42 (dk_at dksX10_readsParts_0 5 rfl rfl)
theorem dX10_readsParts_6 : decode cX10_readsParts 6 = .ok (.invokevirtual 260, 3) := dk_182 1 4 (dk_at dksX10_readsParts_0 6 rfl rfl)
theorem dX10_readsParts_9 : decode cX10_readsParts 9 = .ok (.aload_n 0, 1) := dk_42 (dk_at dksX10_readsParts_0 9 rfl rfl)
theorem dX10_readsParts_10 : decode cX10_readsParts 10 = .ok (.getfield 244, 3) := dk_180 0 244 (dk_at dksX10_readsParts_0 10 rfl rfl)
theorem dX10_readsParts_13 : decode cX10_readsParts 13 = .ok (.ifCond .ne 26, 3) := dk_154 0 26 (dk_at dksX10_readsParts_0 13 rfl rfl)
theorem dX10_readsParts_16 : decode cX10_readsParts 16 = .ok (.aload_n 0, 1) := dk_42 (dk_at dksX10_readsParts_0 16 rfl rfl)
theorem dX10_readsParts_17 : decode cX10_readsParts 17 = .ok (.getfield 232, 3) := dk_180 0 232 (dk_at dksX10_readsParts_0 17 rfl rfl)
theorem dX10_readsParts_20 : decode cX10_readsParts 20 = .ok (.iconst 1, 1) := dk_4 (dk_at dksX10_readsParts_0 20 rfl rfl)
theorem dX10_readsParts_21 : decode cX10_readsParts 21 = .ok (.if_icmp .eq 11, 3) := dk_159 0 11 (dk_at dksX10_readsParts_0 21 rfl rfl)
theorem dX10_readsParts_24 : decode cX10_readsParts 24 = .ok (.aload_n 0, 1) := dk_42 (dk_at dksX10_readsParts_1 0 rfl rfl)
theorem dX10_readsParts_25 : decode cX10_readsParts 25 = .ok (.getfield 232, 3) := dk_180 0 232 (dk_at dksX10_readsParts_1 1 rfl rfl)
theorem dX10_readsParts_28 : decode cX10_readsParts 28 = .ok (.iconst 2, 1) := dk_5 (dk_at dksX10_readsParts_1 4 rfl rfl)
theorem dX10_readsParts_29 : decode cX10_readsParts 29 = .ok (.if_icmp .ne 10, 3) := dk_160 0 10 (dk_at dksX10_readsParts_1 5 rfl rfl)
theorem dX10_readsParts_32 : decode cX10_readsParts 32 = .ok (.aload_n 0, 1) := dk_42 (dk_at dksX10_readsParts_1 8 rfl rfl)
theorem dX10_readsParts_33 : decode cX10_readsParts 33 = .ok (.invokevirtual 260, 3) := dk_182 1 4 (dk_at dksX10_readsParts_1 9 rfl rfl)
theorem dX10_readsParts_36 : decode cX10_readsParts 36 = .ok (.goto (-27), 3) := dk_167 255 229 (dk_at dksX10_readsParts_1 12 rfl rfl)
theorem dX10_readsParts_39 : decode cX10_readsParts 39 = .ok (.return_, 1) := dk_177 (dk_at dksX10_readsParts_1 15 rfl rfl)
abbrev cX10_readsPart : ByteArray := prog_28_method_67_code
def yX10_readsPart : MethodName := ⟨RX10, "readsPart", "()V"⟩
def dkwX10_readsPart_3 : List UInt8 := [31, 80, 42, 89, 180, 1, 1, 4, 96, 181, 1, 1, 42, 182, 0, 247, 177]
abbrev dktX10_readsPart_3 : List UInt8 := dkwX10_readsPart_3 ++ []
def dkwX10_readsPart_2 : List UInt8 := [160, 0, 8, 42, 7, 182, 0, 250, 42, 180, 0, 244, 153, 0, 4, 177, 42, 180, 0, 85, 42, 180, 1, 1]
abbrev dktX10_readsPart_2 : List UInt8 := dkwX10_readsPart_2 ++ dktX10_readsPart_3
def dkwX10_readsPart_1 : List UInt8 := [182, 0, 250, 42, 180, 0, 219, 133, 64, 167, 0, 8, 42, 182, 0, 253, 64, 42, 180, 1, 1, 8]
abbrev dktX10_readsPart_1 : List UInt8 := dkwX10_readsPart_1 ++ dktX10_readsPart_2
def dkwX10_readsPart_0 : List UInt8 := [9, 64, 42, 180, 0, 232, 5, 160, 0, 27, 42, 180, 0, 219, 19, 1, 0, 164, 0, 8, 42, 5]
abbrev dktX10_readsPart_0 : List UInt8 := dkwX10_readsPart_0 ++ dktX10_readsPart_1
theorem dksX10_readsPart_0 : cX10_readsPart.data.toList.drop 0 = dktX10_readsPart_0 := by decide +kernel
theorem dksX10_readsPart_1 : cX10_readsPart.data.toList.drop 22 = dktX10_readsPart_1 := dk_seg dksX10_readsPart_0 22 rfl rfl
theorem dksX10_readsPart_2 : cX10_readsPart.data.toList.drop 44 = dktX10_readsPart_2 := dk_seg dksX10_readsPart_1 22 rfl rfl
theorem dksX10_readsPart_3 : cX10_readsPart.data.toList.drop 68 = dktX10_readsPart_3 := dk_seg dksX10_readsPart_2 24 rfl rfl
theorem dX10_readsPart_0 : decode cX10_readsPart 0 = .ok (.lconst 0, 1) := dk_9 (dk_at dksX10_readsPart_0 0 rfl rfl)
theorem dX10_readsPart_1 : decode cX10_readsPart 1 = .ok (.lstore_n 1, 1) := dk_64 (dk_at dksX10_readsPart_0 1 rfl rfl)
theorem dX10_readsPart_2 : decode cX10_readsPart 2 = .ok (.aload_n 0, 1) := dk_42 (dk_at dksX10_readsPart_0 2 rfl rfl)
theorem dX10_readsPart_3 : decode cX10_readsPart 3 = .ok (.getfield 232, 3) := dk_180 0 232 (dk_at dksX10_readsPart_0 3 rfl rfl)
theorem dX10_readsPart_6 : decode cX10_readsPart 6 = .ok (.iconst 2, 1) := dk_5 (dk_at dksX10_readsPart_0 6 rfl rfl)
theorem dX10_readsPart_7 : decode cX10_readsPart 7 = .ok (.if_icmp .ne 27, 3) := dk_160 0 27 (dk_at dksX10_readsPart_0 7 rfl rfl)
theorem dX10_readsPart_10 : decode cX10_readsPart 10 = .ok (.aload_n 0, 1) := dk_42 (dk_at dksX10_readsPart_0 10 rfl rfl)
theorem dX10_readsPart_11 : decode cX10_readsPart 11 = .ok (.getfield 219, 3) := dk_180 0 219 (dk_at dksX10_readsPart_0 11 rfl rfl)
theorem dX10_readsPart_14 : decode cX10_readsPart 14 = .ok (.ldc_w 256, 3) := dk_19 1 0 (dk_at dksX10_readsPart_0 14 rfl rfl)
theorem dX10_readsPart_17 : decode cX10_readsPart 17 = .ok (.if_icmp .le 8, 3) := dk_164 0 8 (dk_at dksX10_readsPart_0 17 rfl rfl)
theorem dX10_readsPart_20 : decode cX10_readsPart 20 = .ok (.aload_n 0, 1) := dk_42 (dk_at dksX10_readsPart_0 20 rfl rfl)
theorem dX10_readsPart_21 : decode cX10_readsPart 21 = .ok (.iconst 2, 1) := dk_5 (dk_at dksX10_readsPart_0 21 rfl rfl)
theorem dX10_readsPart_22 : decode cX10_readsPart 22 = .ok (.invokevirtual 250, 3) := dk_182 0 250 (dk_at dksX10_readsPart_1 0 rfl rfl)
theorem dX10_readsPart_25 : decode cX10_readsPart 25 = .ok (.aload_n 0, 1) := dk_42 (dk_at dksX10_readsPart_1 3 rfl rfl)
theorem dX10_readsPart_26 : decode cX10_readsPart 26 = .ok (.getfield 219, 3) := dk_180 0 219 (dk_at dksX10_readsPart_1 4 rfl rfl)
theorem dX10_readsPart_29 : decode cX10_readsPart 29 = .ok (.i2l, 1) := dk_133 (dk_at dksX10_readsPart_1 7 rfl rfl)
theorem dX10_readsPart_30 : decode cX10_readsPart 30 = .ok (.lstore_n 1, 1) := dk_64 (dk_at dksX10_readsPart_1 8 rfl rfl)
theorem dX10_readsPart_31 : decode cX10_readsPart 31 = .ok (.goto 8, 3) := dk_167 0 8 (dk_at dksX10_readsPart_1 9 rfl rfl)
theorem dX10_readsPart_34 : decode cX10_readsPart 34 = .ok (.aload_n 0, 1) := dk_42 (dk_at dksX10_readsPart_1 12 rfl rfl)
theorem dX10_readsPart_35 : decode cX10_readsPart 35 = .ok (.invokevirtual 253, 3) := dk_182 0 253 (dk_at dksX10_readsPart_1 13 rfl rfl)
theorem dX10_readsPart_38 : decode cX10_readsPart 38 = .ok (.lstore_n 1, 1) := dk_64 (dk_at dksX10_readsPart_1 16 rfl rfl)
theorem dX10_readsPart_39 : decode cX10_readsPart 39 = .ok (.aload_n 0, 1) := dk_42 (dk_at dksX10_readsPart_1 17 rfl rfl)
theorem dX10_readsPart_40 : decode cX10_readsPart 40 = .ok (.getfield 257, 3) := dk_180 1 1 (dk_at dksX10_readsPart_1 18 rfl rfl)
theorem dX10_readsPart_43 : decode cX10_readsPart 43 = .ok (.iconst 5, 1) := dk_8 (dk_at dksX10_readsPart_1 21 rfl rfl)
theorem dX10_readsPart_44 : decode cX10_readsPart 44 = .ok (.if_icmp .ne 8, 3) := dk_160 0 8 (dk_at dksX10_readsPart_2 0 rfl rfl)
theorem dX10_readsPart_47 : decode cX10_readsPart 47 = .ok (.aload_n 0, 1) := dk_42 (dk_at dksX10_readsPart_2 3 rfl rfl)
theorem dX10_readsPart_48 : decode cX10_readsPart 48 = .ok (.iconst 4, 1) := dk_7 (dk_at dksX10_readsPart_2 4 rfl rfl)
theorem dX10_readsPart_49 : decode cX10_readsPart 49 = .ok (.invokevirtual 250, 3) := dk_182 0 250 (dk_at dksX10_readsPart_2 5 rfl rfl)
theorem dX10_readsPart_52 : decode cX10_readsPart 52 = .ok (.aload_n 0, 1) := dk_42 (dk_at dksX10_readsPart_2 8 rfl rfl)
theorem dX10_readsPart_53 : decode cX10_readsPart 53 = .ok (.getfield 244, 3) := dk_180 0 244 (dk_at dksX10_readsPart_2 9 rfl rfl)
theorem dX10_readsPart_56 : decode cX10_readsPart 56 = .ok (.ifCond .eq 4, 3) := dk_153 0 4 (dk_at dksX10_readsPart_2 12 rfl rfl)
theorem dX10_readsPart_59 : decode cX10_readsPart 59 = .ok (.return_, 1) := dk_177 (dk_at dksX10_readsPart_2 15 rfl rfl)
theorem dX10_readsPart_60 : decode cX10_readsPart 60 = .ok (.aload_n 0, 1) := dk_42 (dk_at dksX10_readsPart_2 16 rfl rfl)
theorem dX10_readsPart_61 : decode cX10_readsPart 61 = .ok (.getfield 85, 3) := dk_180 0 85 (dk_at dksX10_readsPart_2 17 rfl rfl)
theorem dX10_readsPart_64 : decode cX10_readsPart 64 = .ok (.aload_n 0, 1) := dk_42 (dk_at dksX10_readsPart_2 20 rfl rfl)
theorem dX10_readsPart_65 : decode cX10_readsPart 65 = .ok (.getfield 257, 3) := dk_180 1 1 (dk_at dksX10_readsPart_2 21 rfl rfl)
theorem dX10_readsPart_68 : decode cX10_readsPart 68 = .ok (.lload_n 1, 1) := dk_31 (dk_at dksX10_readsPart_3 0 rfl rfl)
theorem dX10_readsPart_69 : decode cX10_readsPart 69 = .ok (.lastore, 1) := dk_80 (dk_at dksX10_readsPart_3 1 rfl rfl)
theorem dX10_readsPart_70 : decode cX10_readsPart 70 = .ok (.aload_n 0, 1) := dk_42 (dk_at dksX10_readsPart_3 2 rfl rfl)
theorem dX10_readsPart_71 : decode cX10_readsPart 71 = .ok (.dup, 1) := dk_89 (dk_at dksX10_readsPart_3 3 rfl rfl)
theorem dX10_readsPart_72 : decode cX10_readsPart 72 = .ok (.getfield 257, 3) := dk_180 1 1 (dk_at dksX10_readsPart_3 4 rfl rfl)
theorem dX10_readsPart_75 : decode cX10_readsPart 75 = .ok (.iconst 1, 1) := dk_4 (dk_at dksX10_readsPart_3 7 rfl rfl)
theorem dX10_readsPart_76 : decode cX10_readsPart 76 = .ok (.iadd, 1) := dk_96 (dk_at dksX10_readsPart_3 8 rfl rfl)
theorem dX10_readsPart_77 : decode cX10_readsPart 77 = .ok (.putfield 257, 3) := dk_181 1 1 (dk_at dksX10_readsPart_3 9 rfl rfl)
theorem dX10_readsPart_80 : decode cX10_readsPart 80 = .ok (.aload_n 0, 1) := dk_42 (dk_at dksX10_readsPart_3 12 rfl rfl)
theorem dX10_readsPart_81 : decode cX10_readsPart 81 = .ok (.invokevirtual 247, 3) := dk_182 0 247 (dk_at dksX10_readsPart_3 13 rfl rfl)
theorem dX10_readsPart_84 : decode cX10_readsPart 84 = .ok (.return_, 1) := dk_177 (dk_at dksX10_readsPart_3 16 rfl rfl)
abbrev cX10_laysGuest : ByteArray := prog_28_method_69_code
def yX10_laysGuest : MethodName := ⟨RX10, "laysGuest", "([JII)V"⟩
def dkwX10_laysGuest_1 : List UInt8 := [96, 43, 28, 21, 4, 96, 47, 182, 0, 143, 132, 4, 1, 167, 255, 231, 42, 16, 40, 182, 0, 183, 177]
abbrev dktX10_laysGuest_1 : List UInt8 := dkwX10_laysGuest_1 ++ []
def dkwX10_laysGuest_0 : List UInt8 := [42, 16, 40, 6, 29, 133, 182, 0, 143, 3, 54, 4, 21, 4, 29, 162, 0, 25, 42, 16, 40, 7, 21, 4]
abbrev dktX10_laysGuest_0 : List UInt8 := dkwX10_laysGuest_0 ++ dktX10_laysGuest_1
theorem dksX10_laysGuest_0 : cX10_laysGuest.data.toList.drop 0 = dktX10_laysGuest_0 := by decide +kernel
theorem dksX10_laysGuest_1 : cX10_laysGuest.data.toList.drop 24 = dktX10_laysGuest_1 := dk_seg dksX10_laysGuest_0 24 rfl rfl
theorem dX10_laysGuest_0 : decode cX10_laysGuest 0 = .ok (.aload_n 0, 1) := dk_42 (dk_at dksX10_laysGuest_0 0 rfl rfl)
theorem dX10_laysGuest_1 : decode cX10_laysGuest 1 = .ok (.bipush 40, 2) := dk_16 40 (dk_at dksX10_laysGuest_0 1 rfl rfl)
theorem dX10_laysGuest_3 : decode cX10_laysGuest 3 = .ok (.iconst 3, 1) := dk_6 (dk_at dksX10_laysGuest_0 3 rfl rfl)
theorem dX10_laysGuest_4 : decode cX10_laysGuest 4 = .ok (.iload_n 3, 1) := dk_29 (dk_at dksX10_laysGuest_0 4 rfl rfl)
theorem dX10_laysGuest_5 : decode cX10_laysGuest 5 = .ok (.i2l, 1) := dk_133 (dk_at dksX10_laysGuest_0 5 rfl rfl)
theorem dX10_laysGuest_6 : decode cX10_laysGuest 6 = .ok (.invokevirtual 143, 3) := dk_182 0 143 (dk_at dksX10_laysGuest_0 6 rfl rfl)
theorem dX10_laysGuest_9 : decode cX10_laysGuest 9 = .ok (.iconst 0, 1) := dk_3 (dk_at dksX10_laysGuest_0 9 rfl rfl)
theorem dX10_laysGuest_10 : decode cX10_laysGuest 10 = .ok (.istore 4, 2) := dk_54 4 (dk_at dksX10_laysGuest_0 10 rfl rfl)
theorem dX10_laysGuest_12 : decode cX10_laysGuest 12 = .ok (.iload 4, 2) := dk_21 4 (dk_at dksX10_laysGuest_0 12 rfl rfl)
theorem dX10_laysGuest_14 : decode cX10_laysGuest 14 = .ok (.iload_n 3, 1) := dk_29 (dk_at dksX10_laysGuest_0 14 rfl rfl)
theorem dX10_laysGuest_15 : decode cX10_laysGuest 15 = .ok (.if_icmp .ge 25, 3) := dk_162 0 25 (dk_at dksX10_laysGuest_0 15 rfl rfl)
theorem dX10_laysGuest_18 : decode cX10_laysGuest 18 = .ok (.aload_n 0, 1) := dk_42 (dk_at dksX10_laysGuest_0 18 rfl rfl)
theorem dX10_laysGuest_19 : decode cX10_laysGuest 19 = .ok (.bipush 40, 2) := dk_16 40 (dk_at dksX10_laysGuest_0 19 rfl rfl)
theorem dX10_laysGuest_21 : decode cX10_laysGuest 21 = .ok (.iconst 4, 1) := dk_7 (dk_at dksX10_laysGuest_0 21 rfl rfl)
theorem dX10_laysGuest_22 : decode cX10_laysGuest 22 = .ok (.iload 4, 2) := dk_21 4 (dk_at dksX10_laysGuest_0 22 rfl rfl)
theorem dX10_laysGuest_24 : decode cX10_laysGuest 24 = .ok (.iadd, 1) := dk_96 (dk_at dksX10_laysGuest_1 0 rfl rfl)
theorem dX10_laysGuest_25 : decode cX10_laysGuest 25 = .ok (.aload_n 1, 1) := dk_43 (dk_at dksX10_laysGuest_1 1 rfl rfl)
theorem dX10_laysGuest_26 : decode cX10_laysGuest 26 = .ok (.iload_n 2, 1) := dk_28 (dk_at dksX10_laysGuest_1 2 rfl rfl)
theorem dX10_laysGuest_27 : decode cX10_laysGuest 27 = .ok (.iload 4, 2) := dk_21 4 (dk_at dksX10_laysGuest_1 3 rfl rfl)
theorem dX10_laysGuest_29 : decode cX10_laysGuest 29 = .ok (.iadd, 1) := dk_96 (dk_at dksX10_laysGuest_1 5 rfl rfl)
theorem dX10_laysGuest_30 : decode cX10_laysGuest 30 = .ok (.laload, 1) := dk_47 (dk_at dksX10_laysGuest_1 6 rfl rfl)
theorem dX10_laysGuest_31 : decode cX10_laysGuest 31 = .ok (.invokevirtual 143, 3) := dk_182 0 143 (dk_at dksX10_laysGuest_1 7 rfl rfl)
theorem dX10_laysGuest_34 : decode cX10_laysGuest 34 = .ok (.iinc 4 1, 3) := dk_132 4 1 (dk_at dksX10_laysGuest_1 10 rfl rfl)
theorem dX10_laysGuest_37 : decode cX10_laysGuest 37 = .ok (.goto (-25), 3) := dk_167 255 231 (dk_at dksX10_laysGuest_1 13 rfl rfl)
theorem dX10_laysGuest_40 : decode cX10_laysGuest 40 = .ok (.aload_n 0, 1) := dk_42 (dk_at dksX10_laysGuest_1 16 rfl rfl)
theorem dX10_laysGuest_41 : decode cX10_laysGuest 41 = .ok (.bipush 40, 2) := dk_16 40 (dk_at dksX10_laysGuest_1 17 rfl rfl)
theorem dX10_laysGuest_43 : decode cX10_laysGuest 43 = .ok (.invokevirtual 183, 3) := dk_182 0 183 (dk_at dksX10_laysGuest_1 19 rfl rfl)
theorem dX10_laysGuest_46 : decode cX10_laysGuest 46 = .ok (.return_, 1) := dk_177 (dk_at dksX10_laysGuest_1 22 rfl rfl)
abbrev cX10_twin : ByteArray := prog_28_method_29_code
def yX10_twin : MethodName := ⟨RX10, "twin", "()I"⟩
def dkwX10_twin_1 : List UInt8 := [27, 167, 0, 4, 2, 172]
abbrev dktX10_twin_1 : List UInt8 := dkwX10_twin_1 ++ []
def dkwX10_twin_0 : List UInt8 := [42, 182, 0, 150, 60, 27, 42, 5, 182, 0, 118, 162, 0, 17, 42, 27, 16, 40, 182, 0, 147, 154, 0, 7]
abbrev dktX10_twin_0 : List UInt8 := dkwX10_twin_0 ++ dktX10_twin_1
theorem dksX10_twin_0 : cX10_twin.data.toList.drop 0 = dktX10_twin_0 := by decide +kernel
theorem dksX10_twin_1 : cX10_twin.data.toList.drop 24 = dktX10_twin_1 := dk_seg dksX10_twin_0 24 rfl rfl
theorem dX10_twin_0 : decode cX10_twin 0 = .ok (.aload_n 0, 1) := dk_42 (dk_at dksX10_twin_0 0 rfl rfl)
theorem dX10_twin_1 : decode cX10_twin 1 = .ok (.invokevirtual 150, 3) := dk_182 0 150 (dk_at dksX10_twin_0 1 rfl rfl)
theorem dX10_twin_4 : decode cX10_twin 4 = .ok (.istore_n 1, 1) := dk_60 (dk_at dksX10_twin_0 4 rfl rfl)
theorem dX10_twin_5 : decode cX10_twin 5 = .ok (.iload_n 1, 1) := dk_27 (dk_at dksX10_twin_0 5 rfl rfl)
theorem dX10_twin_6 : decode cX10_twin 6 = .ok (.aload_n 0, 1) := dk_42 (dk_at dksX10_twin_0 6 rfl rfl)
theorem dX10_twin_7 : decode cX10_twin 7 = .ok (.iconst 2, 1) := dk_5 (dk_at dksX10_twin_0 7 rfl rfl)
theorem dX10_twin_8 : decode cX10_twin 8 = .ok (.invokevirtual 118, 3) := dk_182 0 118 (dk_at dksX10_twin_0 8 rfl rfl)
theorem dX10_twin_11 : decode cX10_twin 11 = .ok (.if_icmp .ge 17, 3) := dk_162 0 17 (dk_at dksX10_twin_0 11 rfl rfl)
theorem dX10_twin_14 : decode cX10_twin 14 = .ok (.aload_n 0, 1) := dk_42 (dk_at dksX10_twin_0 14 rfl rfl)
theorem dX10_twin_15 : decode cX10_twin 15 = .ok (.iload_n 1, 1) := dk_27 (dk_at dksX10_twin_0 15 rfl rfl)
theorem dX10_twin_16 : decode cX10_twin 16 = .ok (.bipush 40, 2) := dk_16 40 (dk_at dksX10_twin_0 16 rfl rfl)
theorem dX10_twin_18 : decode cX10_twin 18 = .ok (.invokevirtual 147, 3) := dk_182 0 147 (dk_at dksX10_twin_0 18 rfl rfl)
theorem dX10_twin_21 : decode cX10_twin 21 = .ok (.ifCond .ne 7, 3) := dk_154 0 7 (dk_at dksX10_twin_0 21 rfl rfl)
theorem dX10_twin_24 : decode cX10_twin 24 = .ok (.iload_n 1, 1) := dk_27 (dk_at dksX10_twin_1 0 rfl rfl)
theorem dX10_twin_25 : decode cX10_twin 25 = .ok (.goto 4, 3) := dk_167 0 4 (dk_at dksX10_twin_1 1 rfl rfl)
theorem dX10_twin_28 : decode cX10_twin 28 = .ok (.iconst (-1), 1) := dk_2 (dk_at dksX10_twin_1 4 rfl rfl)
theorem dX10_twin_29 : decode cX10_twin 29 = .ok (.ireturn, 1) := dk_172 (dk_at dksX10_twin_1 5 rfl rfl)
abbrev cX10_guestRank : ByteArray := prog_28_method_28_code
def yX10_guestRank : MethodName := ⟨RX10, "guestRank", "()I"⟩
def dkwX10_guestRank_1 : List UInt8 := [167, 255, 234, 27, 172]
abbrev dktX10_guestRank_1 : List UInt8 := dkwX10_guestRank_1 ++ []
def dkwX10_guestRank_0 : List UInt8 := [3, 60, 27, 42, 5, 182, 0, 118, 162, 0, 19, 42, 27, 16, 40, 182, 0, 147, 156, 0, 9, 132, 1, 1]
abbrev dktX10_guestRank_0 : List UInt8 := dkwX10_guestRank_0 ++ dktX10_guestRank_1
theorem dksX10_guestRank_0 : cX10_guestRank.data.toList.drop 0 = dktX10_guestRank_0 := by decide +kernel
theorem dksX10_guestRank_1 : cX10_guestRank.data.toList.drop 24 = dktX10_guestRank_1 := dk_seg dksX10_guestRank_0 24 rfl rfl
theorem dX10_guestRank_0 : decode cX10_guestRank 0 = .ok (.iconst 0, 1) := dk_3 (dk_at dksX10_guestRank_0 0 rfl rfl)
theorem dX10_guestRank_1 : decode cX10_guestRank 1 = .ok (.istore_n 1, 1) := dk_60 (dk_at dksX10_guestRank_0 1 rfl rfl)
theorem dX10_guestRank_2 : decode cX10_guestRank 2 = .ok (.iload_n 1, 1) := dk_27 (dk_at dksX10_guestRank_0 2 rfl rfl)
theorem dX10_guestRank_3 : decode cX10_guestRank 3 = .ok (.aload_n 0, 1) := dk_42 (dk_at dksX10_guestRank_0 3 rfl rfl)
theorem dX10_guestRank_4 : decode cX10_guestRank 4 = .ok (.iconst 2, 1) := dk_5 (dk_at dksX10_guestRank_0 4 rfl rfl)
theorem dX10_guestRank_5 : decode cX10_guestRank 5 = .ok (.invokevirtual 118, 3) := dk_182 0 118 (dk_at dksX10_guestRank_0 5 rfl rfl)
theorem dX10_guestRank_8 : decode cX10_guestRank 8 = .ok (.if_icmp .ge 19, 3) := dk_162 0 19 (dk_at dksX10_guestRank_0 8 rfl rfl)
theorem dX10_guestRank_11 : decode cX10_guestRank 11 = .ok (.aload_n 0, 1) := dk_42 (dk_at dksX10_guestRank_0 11 rfl rfl)
theorem dX10_guestRank_12 : decode cX10_guestRank 12 = .ok (.iload_n 1, 1) := dk_27 (dk_at dksX10_guestRank_0 12 rfl rfl)
theorem dX10_guestRank_13 : decode cX10_guestRank 13 = .ok (.bipush 40, 2) := dk_16 40 (dk_at dksX10_guestRank_0 13 rfl rfl)
theorem dX10_guestRank_15 : decode cX10_guestRank 15 = .ok (.invokevirtual 147, 3) := dk_182 0 147 (dk_at dksX10_guestRank_0 15 rfl rfl)
theorem dX10_guestRank_18 : decode cX10_guestRank 18 = .ok (.ifCond .ge 9, 3) := dk_156 0 9 (dk_at dksX10_guestRank_0 18 rfl rfl)
theorem dX10_guestRank_21 : decode cX10_guestRank 21 = .ok (.iinc 1 1, 3) := dk_132 1 1 (dk_at dksX10_guestRank_0 21 rfl rfl)
theorem dX10_guestRank_24 : decode cX10_guestRank 24 = .ok (.goto (-22), 3) := dk_167 255 234 (dk_at dksX10_guestRank_1 0 rfl rfl)
theorem dX10_guestRank_27 : decode cX10_guestRank 27 = .ok (.iload_n 1, 1) := dk_27 (dk_at dksX10_guestRank_1 3 rfl rfl)
theorem dX10_guestRank_28 : decode cX10_guestRank 28 = .ok (.ireturn, 1) := dk_172 (dk_at dksX10_guestRank_1 4 rfl rfl)
abbrev cX10_comes : ByteArray := prog_28_method_38_code
def yX10_comes : MethodName := ⟨RX10, "comes", "(I)I"⟩
def dkwX10_comes_9 : List UInt8 := [167, 255, 225, 42, 4, 4, 182, 0, 166, 42, 5, 21, 5, 182, 0, 166, 21, 6, 172]
abbrev dktX10_comes_9 : List UInt8 := dkwX10_comes_9 ++ []
def dkwX10_comes_8 : List UInt8 := [162, 0, 27, 42, 21, 7, 5, 21, 7, 42, 5, 182, 0, 118, 184, 0, 159, 133, 182, 0, 143, 132, 7, 1]
abbrev dktX10_comes_8 : List UInt8 := dkwX10_comes_8 ++ dktX10_comes_9
def dkwX10_comes_7 : List UInt8 := [42, 3, 4, 182, 0, 166, 29, 153, 0, 6, 21, 6, 172, 3, 54, 7, 21, 7, 42, 5, 182, 0, 118]
abbrev dktX10_comes_7 : List UInt8 := dkwX10_comes_7 ++ dktX10_comes_8
def dkwX10_comes_6 : List UInt8 := [54, 7, 21, 7, 28, 164, 0, 19, 42, 21, 7, 21, 7, 4, 100, 182, 0, 180, 132, 7, 255, 167, 255, 237]
abbrev dktX10_comes_6 : List UInt8 := dkwX10_comes_6 ++ dktX10_comes_7
def dkwX10_comes_5 : List UInt8 := [16, 14, 42, 5, 182, 0, 118, 4, 100, 104, 96, 16, 14, 184, 0, 176, 42, 5, 182, 0, 118, 4, 100]
abbrev dktX10_comes_5 : List UInt8 := dkwX10_comes_5 ++ dktX10_comes_6
def dkwX10_comes_4 : List UInt8 := [182, 0, 118, 4, 100, 16, 40, 159, 0, 32, 42, 180, 0, 60, 17, 2, 80, 42, 180, 0, 60, 16, 32]
abbrev dktX10_comes_4 : List UInt8 := dkwX10_comes_4 ++ dktX10_comes_5
def dkwX10_comes_3 : List UInt8 := [182, 0, 143, 42, 16, 40, 4, 27, 133, 182, 0, 143, 42, 16, 40, 5, 21, 4, 133, 182, 0, 143, 42, 5]
abbrev dktX10_comes_3 : List UInt8 := dkwX10_comes_3 ++ dktX10_comes_4
def dkwX10_comes_2 : List UInt8 := [182, 0, 118, 54, 6, 42, 180, 0, 60, 7, 92, 47, 10, 97, 80, 42, 16, 40, 3, 21, 6, 133]
abbrev dktX10_comes_2 : List UInt8 := dkwX10_comes_2 ++ dktX10_comes_3
def dkwX10_comes_1 : List UInt8 := [167, 0, 8, 42, 28, 182, 0, 173, 54, 5, 42, 180, 0, 60, 5, 92, 47, 10, 97, 80, 42, 7]
abbrev dktX10_comes_1 : List UInt8 := dkwX10_comes_1 ++ dktX10_comes_2
def dkwX10_comes_0 : List UInt8 := [42, 182, 0, 150, 61, 42, 28, 182, 0, 162, 62, 42, 28, 182, 0, 170, 54, 4, 29, 153, 0, 7, 3]
abbrev dktX10_comes_0 : List UInt8 := dkwX10_comes_0 ++ dktX10_comes_1
theorem dksX10_comes_0 : cX10_comes.data.toList.drop 0 = dktX10_comes_0 := by decide +kernel
theorem dksX10_comes_1 : cX10_comes.data.toList.drop 23 = dktX10_comes_1 := dk_seg dksX10_comes_0 23 rfl rfl
theorem dksX10_comes_2 : cX10_comes.data.toList.drop 45 = dktX10_comes_2 := dk_seg dksX10_comes_1 22 rfl rfl
theorem dksX10_comes_3 : cX10_comes.data.toList.drop 67 = dktX10_comes_3 := dk_seg dksX10_comes_2 22 rfl rfl
theorem dksX10_comes_4 : cX10_comes.data.toList.drop 91 = dktX10_comes_4 := dk_seg dksX10_comes_3 24 rfl rfl
theorem dksX10_comes_5 : cX10_comes.data.toList.drop 114 = dktX10_comes_5 := dk_seg dksX10_comes_4 23 rfl rfl
theorem dksX10_comes_6 : cX10_comes.data.toList.drop 137 = dktX10_comes_6 := dk_seg dksX10_comes_5 23 rfl rfl
theorem dksX10_comes_7 : cX10_comes.data.toList.drop 161 = dktX10_comes_7 := dk_seg dksX10_comes_6 24 rfl rfl
theorem dksX10_comes_8 : cX10_comes.data.toList.drop 184 = dktX10_comes_8 := dk_seg dksX10_comes_7 23 rfl rfl
theorem dksX10_comes_9 : cX10_comes.data.toList.drop 208 = dktX10_comes_9 := dk_seg dksX10_comes_8 24 rfl rfl
theorem dX10_comes_0 : decode cX10_comes 0 = .ok (.aload_n 0, 1) := dk_42 (dk_at dksX10_comes_0 0 rfl rfl)
theorem dX10_comes_1 : decode cX10_comes 1 = .ok (.invokevirtual 150, 3) := dk_182 0 150 (dk_at dksX10_comes_0 1 rfl rfl)
theorem dX10_comes_4 : decode cX10_comes 4 = .ok (.istore_n 2, 1) := dk_61 (dk_at dksX10_comes_0 4 rfl rfl)
theorem dX10_comes_5 : decode cX10_comes 5 = .ok (.aload_n 0, 1) := dk_42 (dk_at dksX10_comes_0 5 rfl rfl)
theorem dX10_comes_6 : decode cX10_comes 6 = .ok (.iload_n 2, 1) := dk_28 (dk_at dksX10_comes_0 6 rfl rfl)
theorem dX10_comes_7 : decode cX10_comes 7 = .ok (.invokevirtual 162, 3) := dk_182 0 162 (dk_at dksX10_comes_0 7 rfl rfl)
theorem dX10_comes_10 : decode cX10_comes 10 = .ok (.istore_n 3, 1) := dk_62 (dk_at dksX10_comes_0 10 rfl rfl)
theorem dX10_comes_11 : decode cX10_comes 11 = .ok (.aload_n 0, 1) := dk_42 (dk_at dksX10_comes_0 11 rfl rfl)
theorem dX10_comes_12 : decode cX10_comes 12 = .ok (.iload_n 2, 1) := dk_28 (dk_at dksX10_comes_0 12 rfl rfl)
theorem dX10_comes_13 : decode cX10_comes 13 = .ok (.invokevirtual 170, 3) := dk_182 0 170 (dk_at dksX10_comes_0 13 rfl rfl)
theorem dX10_comes_16 : decode cX10_comes 16 = .ok (.istore 4, 2) := dk_54 4 (dk_at dksX10_comes_0 16 rfl rfl)
theorem dX10_comes_18 : decode cX10_comes 18 = .ok (.iload_n 3, 1) := dk_29 (dk_at dksX10_comes_0 18 rfl rfl)
theorem dX10_comes_19 : decode cX10_comes 19 = .ok (.ifCond .eq 7, 3) := dk_153 0 7 (dk_at dksX10_comes_0 19 rfl rfl)
theorem dX10_comes_22 : decode cX10_comes 22 = .ok (.iconst 0, 1) := dk_3 (dk_at dksX10_comes_0 22 rfl rfl)
theorem dX10_comes_23 : decode cX10_comes 23 = .ok (.goto 8, 3) := dk_167 0 8 (dk_at dksX10_comes_1 0 rfl rfl)
theorem dX10_comes_26 : decode cX10_comes 26 = .ok (.aload_n 0, 1) := dk_42 (dk_at dksX10_comes_1 3 rfl rfl)
theorem dX10_comes_27 : decode cX10_comes 27 = .ok (.iload_n 2, 1) := dk_28 (dk_at dksX10_comes_1 4 rfl rfl)
theorem dX10_comes_28 : decode cX10_comes 28 = .ok (.invokevirtual 173, 3) := dk_182 0 173 (dk_at dksX10_comes_1 5 rfl rfl)
theorem dX10_comes_31 : decode cX10_comes 31 = .ok (.istore 5, 2) := dk_54 5 (dk_at dksX10_comes_1 8 rfl rfl)
theorem dX10_comes_33 : decode cX10_comes 33 = .ok (.aload_n 0, 1) := dk_42 (dk_at dksX10_comes_1 10 rfl rfl)
theorem dX10_comes_34 : decode cX10_comes 34 = .ok (.getfield 60, 3) := dk_180 0 60 (dk_at dksX10_comes_1 11 rfl rfl)
theorem dX10_comes_37 : decode cX10_comes 37 = .ok (.iconst 2, 1) := dk_5 (dk_at dksX10_comes_1 14 rfl rfl)
theorem dX10_comes_38 : decode cX10_comes 38 = .ok (.dup2, 1) := dk_92 (dk_at dksX10_comes_1 15 rfl rfl)
theorem dX10_comes_39 : decode cX10_comes 39 = .ok (.laload, 1) := dk_47 (dk_at dksX10_comes_1 16 rfl rfl)
theorem dX10_comes_40 : decode cX10_comes 40 = .ok (.lconst 1, 1) := dk_10 (dk_at dksX10_comes_1 17 rfl rfl)
theorem dX10_comes_41 : decode cX10_comes 41 = .ok (.ladd, 1) := dk_97 (dk_at dksX10_comes_1 18 rfl rfl)
theorem dX10_comes_42 : decode cX10_comes 42 = .ok (.lastore, 1) := dk_80 (dk_at dksX10_comes_1 19 rfl rfl)
theorem dX10_comes_43 : decode cX10_comes 43 = .ok (.aload_n 0, 1) := dk_42 (dk_at dksX10_comes_1 20 rfl rfl)
theorem dX10_comes_44 : decode cX10_comes 44 = .ok (.iconst 4, 1) := dk_7 (dk_at dksX10_comes_1 21 rfl rfl)
theorem dX10_comes_45 : decode cX10_comes 45 = .ok (.invokevirtual 118, 3) := dk_182 0 118 (dk_at dksX10_comes_2 0 rfl rfl)
theorem dX10_comes_48 : decode cX10_comes 48 = .ok (.istore 6, 2) := dk_54 6 (dk_at dksX10_comes_2 3 rfl rfl)
theorem dX10_comes_50 : decode cX10_comes 50 = .ok (.aload_n 0, 1) := dk_42 (dk_at dksX10_comes_2 5 rfl rfl)
theorem dX10_comes_51 : decode cX10_comes 51 = .ok (.getfield 60, 3) := dk_180 0 60 (dk_at dksX10_comes_2 6 rfl rfl)
theorem dX10_comes_54 : decode cX10_comes 54 = .ok (.iconst 4, 1) := dk_7 (dk_at dksX10_comes_2 9 rfl rfl)
theorem dX10_comes_55 : decode cX10_comes 55 = .ok (.dup2, 1) := dk_92 (dk_at dksX10_comes_2 10 rfl rfl)
theorem dX10_comes_56 : decode cX10_comes 56 = .ok (.laload, 1) := dk_47 (dk_at dksX10_comes_2 11 rfl rfl)
theorem dX10_comes_57 : decode cX10_comes 57 = .ok (.lconst 1, 1) := dk_10 (dk_at dksX10_comes_2 12 rfl rfl)
theorem dX10_comes_58 : decode cX10_comes 58 = .ok (.ladd, 1) := dk_97 (dk_at dksX10_comes_2 13 rfl rfl)
theorem dX10_comes_59 : decode cX10_comes 59 = .ok (.lastore, 1) := dk_80 (dk_at dksX10_comes_2 14 rfl rfl)
theorem dX10_comes_60 : decode cX10_comes 60 = .ok (.aload_n 0, 1) := dk_42 (dk_at dksX10_comes_2 15 rfl rfl)
theorem dX10_comes_61 : decode cX10_comes 61 = .ok (.bipush 40, 2) := dk_16 40 (dk_at dksX10_comes_2 16 rfl rfl)
theorem dX10_comes_63 : decode cX10_comes 63 = .ok (.iconst 0, 1) := dk_3 (dk_at dksX10_comes_2 18 rfl rfl)
theorem dX10_comes_64 : decode cX10_comes 64 = .ok (.iload 6, 2) := dk_21 6 (dk_at dksX10_comes_2 19 rfl rfl)
theorem dX10_comes_66 : decode cX10_comes 66 = .ok (.i2l, 1) := dk_133 (dk_at dksX10_comes_2 21 rfl rfl)
theorem dX10_comes_67 : decode cX10_comes 67 = .ok (.invokevirtual 143, 3) := dk_182 0 143 (dk_at dksX10_comes_3 0 rfl rfl)
theorem dX10_comes_70 : decode cX10_comes 70 = .ok (.aload_n 0, 1) := dk_42 (dk_at dksX10_comes_3 3 rfl rfl)
theorem dX10_comes_71 : decode cX10_comes 71 = .ok (.bipush 40, 2) := dk_16 40 (dk_at dksX10_comes_3 4 rfl rfl)
theorem dX10_comes_73 : decode cX10_comes 73 = .ok (.iconst 1, 1) := dk_4 (dk_at dksX10_comes_3 6 rfl rfl)
theorem dX10_comes_74 : decode cX10_comes 74 = .ok (.iload_n 1, 1) := dk_27 (dk_at dksX10_comes_3 7 rfl rfl)
theorem dX10_comes_75 : decode cX10_comes 75 = .ok (.i2l, 1) := dk_133 (dk_at dksX10_comes_3 8 rfl rfl)
theorem dX10_comes_76 : decode cX10_comes 76 = .ok (.invokevirtual 143, 3) := dk_182 0 143 (dk_at dksX10_comes_3 9 rfl rfl)
theorem dX10_comes_79 : decode cX10_comes 79 = .ok (.aload_n 0, 1) := dk_42 (dk_at dksX10_comes_3 12 rfl rfl)
theorem dX10_comes_80 : decode cX10_comes 80 = .ok (.bipush 40, 2) := dk_16 40 (dk_at dksX10_comes_3 13 rfl rfl)
theorem dX10_comes_82 : decode cX10_comes 82 = .ok (.iconst 2, 1) := dk_5 (dk_at dksX10_comes_3 15 rfl rfl)
theorem dX10_comes_83 : decode cX10_comes 83 = .ok (.iload 4, 2) := dk_21 4 (dk_at dksX10_comes_3 16 rfl rfl)
theorem dX10_comes_85 : decode cX10_comes 85 = .ok (.i2l, 1) := dk_133 (dk_at dksX10_comes_3 18 rfl rfl)
theorem dX10_comes_86 : decode cX10_comes 86 = .ok (.invokevirtual 143, 3) := dk_182 0 143 (dk_at dksX10_comes_3 19 rfl rfl)
theorem dX10_comes_89 : decode cX10_comes 89 = .ok (.aload_n 0, 1) := dk_42 (dk_at dksX10_comes_3 22 rfl rfl)
theorem dX10_comes_90 : decode cX10_comes 90 = .ok (.iconst 2, 1) := dk_5 (dk_at dksX10_comes_3 23 rfl rfl)
theorem dX10_comes_91 : decode cX10_comes 91 = .ok (.invokevirtual 118, 3) := dk_182 0 118 (dk_at dksX10_comes_4 0 rfl rfl)
theorem dX10_comes_94 : decode cX10_comes 94 = .ok (.iconst 1, 1) := dk_4 (dk_at dksX10_comes_4 3 rfl rfl)
theorem dX10_comes_95 : decode cX10_comes 95 = .ok (.isub, 1) := dk_100 (dk_at dksX10_comes_4 4 rfl rfl)
theorem dX10_comes_96 : decode cX10_comes 96 = .ok (.bipush 40, 2) := dk_16 40 (dk_at dksX10_comes_4 5 rfl rfl)
theorem dX10_comes_98 : decode cX10_comes 98 = .ok (.if_icmp .eq 32, 3) := dk_159 0 32 (dk_at dksX10_comes_4 7 rfl rfl)
theorem dX10_comes_101 : decode cX10_comes 101 = .ok (.aload_n 0, 1) := dk_42 (dk_at dksX10_comes_4 10 rfl rfl)
theorem dX10_comes_102 : decode cX10_comes 102 = .ok (.getfield 60, 3) := dk_180 0 60 (dk_at dksX10_comes_4 11 rfl rfl)
theorem dX10_comes_105 : decode cX10_comes 105 = .ok (.sipush 592, 3) := dk_17 2 80 (dk_at dksX10_comes_4 14 rfl rfl)
theorem dX10_comes_108 : decode cX10_comes 108 = .ok (.aload_n 0, 1) := dk_42 (dk_at dksX10_comes_4 17 rfl rfl)
theorem dX10_comes_109 : decode cX10_comes 109 = .ok (.getfield 60, 3) := dk_180 0 60 (dk_at dksX10_comes_4 18 rfl rfl)
theorem dX10_comes_112 : decode cX10_comes 112 = .ok (.bipush 32, 2) := dk_16 32 (dk_at dksX10_comes_4 21 rfl rfl)
theorem dX10_comes_114 : decode cX10_comes 114 = .ok (.bipush 14, 2) := dk_16 14 (dk_at dksX10_comes_5 0 rfl rfl)
theorem dX10_comes_116 : decode cX10_comes 116 = .ok (.aload_n 0, 1) := dk_42 (dk_at dksX10_comes_5 2 rfl rfl)
theorem dX10_comes_117 : decode cX10_comes 117 = .ok (.iconst 2, 1) := dk_5 (dk_at dksX10_comes_5 3 rfl rfl)
theorem dX10_comes_118 : decode cX10_comes 118 = .ok (.invokevirtual 118, 3) := dk_182 0 118 (dk_at dksX10_comes_5 4 rfl rfl)
theorem dX10_comes_121 : decode cX10_comes 121 = .ok (.iconst 1, 1) := dk_4 (dk_at dksX10_comes_5 7 rfl rfl)
theorem dX10_comes_122 : decode cX10_comes 122 = .ok (.isub, 1) := dk_100 (dk_at dksX10_comes_5 8 rfl rfl)
theorem dX10_comes_123 : decode cX10_comes 123 = .ok (.imul, 1) := dk_104 (dk_at dksX10_comes_5 9 rfl rfl)
theorem dX10_comes_124 : decode cX10_comes 124 = .ok (.iadd, 1) := dk_96 (dk_at dksX10_comes_5 10 rfl rfl)
theorem dX10_comes_125 : decode cX10_comes 125 = .ok (.bipush 14, 2) := dk_16 14 (dk_at dksX10_comes_5 11 rfl rfl)
theorem dX10_comes_127 : decode cX10_comes 127 = .ok (.invokestatic 176, 3) := dk_184 0 176 (dk_at dksX10_comes_5 13 rfl rfl)
theorem dX10_comes_130 : decode cX10_comes 130 = .ok (.aload_n 0, 1) := dk_42 (dk_at dksX10_comes_5 16 rfl rfl)
theorem dX10_comes_131 : decode cX10_comes 131 = .ok (.iconst 2, 1) := dk_5 (dk_at dksX10_comes_5 17 rfl rfl)
theorem dX10_comes_132 : decode cX10_comes 132 = .ok (.invokevirtual 118, 3) := dk_182 0 118 (dk_at dksX10_comes_5 18 rfl rfl)
theorem dX10_comes_135 : decode cX10_comes 135 = .ok (.iconst 1, 1) := dk_4 (dk_at dksX10_comes_5 21 rfl rfl)
theorem dX10_comes_136 : decode cX10_comes 136 = .ok (.isub, 1) := dk_100 (dk_at dksX10_comes_5 22 rfl rfl)
theorem dX10_comes_137 : decode cX10_comes 137 = .ok (.istore 7, 2) := dk_54 7 (dk_at dksX10_comes_6 0 rfl rfl)
theorem dX10_comes_139 : decode cX10_comes 139 = .ok (.iload 7, 2) := dk_21 7 (dk_at dksX10_comes_6 2 rfl rfl)
theorem dX10_comes_141 : decode cX10_comes 141 = .ok (.iload_n 2, 1) := dk_28 (dk_at dksX10_comes_6 4 rfl rfl)
theorem dX10_comes_142 : decode cX10_comes 142 = .ok (.if_icmp .le 19, 3) := dk_164 0 19 (dk_at dksX10_comes_6 5 rfl rfl)
theorem dX10_comes_145 : decode cX10_comes 145 = .ok (.aload_n 0, 1) := dk_42 (dk_at dksX10_comes_6 8 rfl rfl)
theorem dX10_comes_146 : decode cX10_comes 146 = .ok (.iload 7, 2) := dk_21 7 (dk_at dksX10_comes_6 9 rfl rfl)
theorem dX10_comes_148 : decode cX10_comes 148 = .ok (.iload 7, 2) := dk_21 7 (dk_at dksX10_comes_6 11 rfl rfl)
theorem dX10_comes_150 : decode cX10_comes 150 = .ok (.iconst 1, 1) := dk_4 (dk_at dksX10_comes_6 13 rfl rfl)
theorem dX10_comes_151 : decode cX10_comes 151 = .ok (.isub, 1) := dk_100 (dk_at dksX10_comes_6 14 rfl rfl)
theorem dX10_comes_152 : decode cX10_comes 152 = .ok (.invokevirtual 180, 3) := dk_182 0 180 (dk_at dksX10_comes_6 15 rfl rfl)
theorem dX10_comes_155 : decode cX10_comes 155 = .ok (.iinc 7 (-1), 3) := dk_132 7 255 (dk_at dksX10_comes_6 18 rfl rfl)
theorem dX10_comes_158 : decode cX10_comes 158 = .ok (.goto (-19), 3) := dk_167 255 237 (dk_at dksX10_comes_6 21 rfl rfl)
theorem dX10_comes_161 : decode cX10_comes 161 = .ok (.aload_n 0, 1) := dk_42 (dk_at dksX10_comes_7 0 rfl rfl)
theorem dX10_comes_162 : decode cX10_comes 162 = .ok (.iconst 0, 1) := dk_3 (dk_at dksX10_comes_7 1 rfl rfl)
theorem dX10_comes_163 : decode cX10_comes 163 = .ok (.iconst 1, 1) := dk_4 (dk_at dksX10_comes_7 2 rfl rfl)
theorem dX10_comes_164 : decode cX10_comes 164 = .ok (.invokevirtual 166, 3) := dk_182 0 166 (dk_at dksX10_comes_7 3 rfl rfl)
theorem dX10_comes_167 : decode cX10_comes 167 = .ok (.iload_n 3, 1) := dk_29 (dk_at dksX10_comes_7 6 rfl rfl)
theorem dX10_comes_168 : decode cX10_comes 168 = .ok (.ifCond .eq 6, 3) := dk_153 0 6 (dk_at dksX10_comes_7 7 rfl rfl)
theorem dX10_comes_171 : decode cX10_comes 171 = .ok (.iload 6, 2) := dk_21 6 (dk_at dksX10_comes_7 10 rfl rfl)
theorem dX10_comes_173 : decode cX10_comes 173 = .ok (.ireturn, 1) := dk_172 (dk_at dksX10_comes_7 12 rfl rfl)
theorem dX10_comes_174 : decode cX10_comes 174 = .ok (.iconst 0, 1) := dk_3 (dk_at dksX10_comes_7 13 rfl rfl)
theorem dX10_comes_175 : decode cX10_comes 175 = .ok (.istore 7, 2) := dk_54 7 (dk_at dksX10_comes_7 14 rfl rfl)
theorem dX10_comes_177 : decode cX10_comes 177 = .ok (.iload 7, 2) := dk_21 7 (dk_at dksX10_comes_7 16 rfl rfl)
theorem dX10_comes_179 : decode cX10_comes 179 = .ok (.aload_n 0, 1) := dk_42 (dk_at dksX10_comes_7 18 rfl rfl)
theorem dX10_comes_180 : decode cX10_comes 180 = .ok (.iconst 2, 1) := dk_5 (dk_at dksX10_comes_7 19 rfl rfl)
theorem dX10_comes_181 : decode cX10_comes 181 = .ok (.invokevirtual 118, 3) := dk_182 0 118 (dk_at dksX10_comes_7 20 rfl rfl)
theorem dX10_comes_184 : decode cX10_comes 184 = .ok (.if_icmp .ge 27, 3) := dk_162 0 27 (dk_at dksX10_comes_8 0 rfl rfl)
theorem dX10_comes_187 : decode cX10_comes 187 = .ok (.aload_n 0, 1) := dk_42 (dk_at dksX10_comes_8 3 rfl rfl)
theorem dX10_comes_188 : decode cX10_comes 188 = .ok (.iload 7, 2) := dk_21 7 (dk_at dksX10_comes_8 4 rfl rfl)
theorem dX10_comes_190 : decode cX10_comes 190 = .ok (.iconst 2, 1) := dk_5 (dk_at dksX10_comes_8 6 rfl rfl)
theorem dX10_comes_191 : decode cX10_comes 191 = .ok (.iload 7, 2) := dk_21 7 (dk_at dksX10_comes_8 7 rfl rfl)
theorem dX10_comes_193 : decode cX10_comes 193 = .ok (.aload_n 0, 1) := dk_42 (dk_at dksX10_comes_8 9 rfl rfl)
theorem dX10_comes_194 : decode cX10_comes 194 = .ok (.iconst 2, 1) := dk_5 (dk_at dksX10_comes_8 10 rfl rfl)
theorem dX10_comes_195 : decode cX10_comes 195 = .ok (.invokevirtual 118, 3) := dk_182 0 118 (dk_at dksX10_comes_8 11 rfl rfl)
theorem dX10_comes_198 : decode cX10_comes 198 = .ok (.invokestatic 159, 3) := dk_184 0 159 (dk_at dksX10_comes_8 14 rfl rfl)
theorem dX10_comes_201 : decode cX10_comes 201 = .ok (.i2l, 1) := dk_133 (dk_at dksX10_comes_8 17 rfl rfl)
theorem dX10_comes_202 : decode cX10_comes 202 = .ok (.invokevirtual 143, 3) := dk_182 0 143 (dk_at dksX10_comes_8 18 rfl rfl)
theorem dX10_comes_205 : decode cX10_comes 205 = .ok (.iinc 7 1, 3) := dk_132 7 1 (dk_at dksX10_comes_8 21 rfl rfl)
theorem dX10_comes_208 : decode cX10_comes 208 = .ok (.goto (-31), 3) := dk_167 255 225 (dk_at dksX10_comes_9 0 rfl rfl)
theorem dX10_comes_211 : decode cX10_comes 211 = .ok (.aload_n 0, 1) := dk_42 (dk_at dksX10_comes_9 3 rfl rfl)
theorem dX10_comes_212 : decode cX10_comes 212 = .ok (.iconst 1, 1) := dk_4 (dk_at dksX10_comes_9 4 rfl rfl)
theorem dX10_comes_213 : decode cX10_comes 213 = .ok (.iconst 1, 1) := dk_4 (dk_at dksX10_comes_9 5 rfl rfl)
theorem dX10_comes_214 : decode cX10_comes 214 = .ok (.invokevirtual 166, 3) := dk_182 0 166 (dk_at dksX10_comes_9 6 rfl rfl)
theorem dX10_comes_217 : decode cX10_comes 217 = .ok (.aload_n 0, 1) := dk_42 (dk_at dksX10_comes_9 9 rfl rfl)
theorem dX10_comes_218 : decode cX10_comes 218 = .ok (.iconst 2, 1) := dk_5 (dk_at dksX10_comes_9 10 rfl rfl)
theorem dX10_comes_219 : decode cX10_comes 219 = .ok (.iload 5, 2) := dk_21 5 (dk_at dksX10_comes_9 11 rfl rfl)
theorem dX10_comes_221 : decode cX10_comes 221 = .ok (.invokevirtual 166, 3) := dk_182 0 166 (dk_at dksX10_comes_9 13 rfl rfl)
theorem dX10_comes_224 : decode cX10_comes 224 = .ok (.iload 6, 2) := dk_21 6 (dk_at dksX10_comes_9 16 rfl rfl)
theorem dX10_comes_226 : decode cX10_comes 226 = .ok (.ireturn, 1) := dk_172 (dk_at dksX10_comes_9 18 rfl rfl)
abbrev cX10_isRoomAt : ByteArray := prog_28_method_32_code
def yX10_isRoomAt : MethodName := ⟨RX10, "isRoomAt", "(I)Z"⟩
def dkwX10_isRoomAt_0 : List UInt8 := [42, 27, 182, 0, 153, 42, 27, 182, 0, 156, 100, 5, 161, 0, 7, 4, 167, 0, 4, 3, 172]
abbrev dktX10_isRoomAt_0 : List UInt8 := dkwX10_isRoomAt_0 ++ []
theorem dksX10_isRoomAt_0 : cX10_isRoomAt.data.toList.drop 0 = dktX10_isRoomAt_0 := by decide +kernel
theorem dX10_isRoomAt_0 : decode cX10_isRoomAt 0 = .ok (.aload_n 0, 1) := dk_42 (dk_at dksX10_isRoomAt_0 0 rfl rfl)
theorem dX10_isRoomAt_1 : decode cX10_isRoomAt 1 = .ok (.iload_n 1, 1) := dk_27 (dk_at dksX10_isRoomAt_0 1 rfl rfl)
theorem dX10_isRoomAt_2 : decode cX10_isRoomAt 2 = .ok (.invokevirtual 153, 3) := dk_182 0 153 (dk_at dksX10_isRoomAt_0 2 rfl rfl)
theorem dX10_isRoomAt_5 : decode cX10_isRoomAt 5 = .ok (.aload_n 0, 1) := dk_42 (dk_at dksX10_isRoomAt_0 5 rfl rfl)
theorem dX10_isRoomAt_6 : decode cX10_isRoomAt 6 = .ok (.iload_n 1, 1) := dk_27 (dk_at dksX10_isRoomAt_0 6 rfl rfl)
theorem dX10_isRoomAt_7 : decode cX10_isRoomAt 7 = .ok (.invokevirtual 156, 3) := dk_182 0 156 (dk_at dksX10_isRoomAt_0 7 rfl rfl)
theorem dX10_isRoomAt_10 : decode cX10_isRoomAt 10 = .ok (.isub, 1) := dk_100 (dk_at dksX10_isRoomAt_0 10 rfl rfl)
theorem dX10_isRoomAt_11 : decode cX10_isRoomAt 11 = .ok (.iconst 2, 1) := dk_5 (dk_at dksX10_isRoomAt_0 11 rfl rfl)
theorem dX10_isRoomAt_12 : decode cX10_isRoomAt 12 = .ok (.if_icmp .lt 7, 3) := dk_161 0 7 (dk_at dksX10_isRoomAt_0 12 rfl rfl)
theorem dX10_isRoomAt_15 : decode cX10_isRoomAt 15 = .ok (.iconst 1, 1) := dk_4 (dk_at dksX10_isRoomAt_0 15 rfl rfl)
theorem dX10_isRoomAt_16 : decode cX10_isRoomAt 16 = .ok (.goto 4, 3) := dk_167 0 4 (dk_at dksX10_isRoomAt_0 16 rfl rfl)
theorem dX10_isRoomAt_19 : decode cX10_isRoomAt 19 = .ok (.iconst 0, 1) := dk_3 (dk_at dksX10_isRoomAt_0 19 rfl rfl)
theorem dX10_isRoomAt_20 : decode cX10_isRoomAt 20 = .ok (.ireturn, 1) := dk_172 (dk_at dksX10_isRoomAt_0 20 rfl rfl)
abbrev cX10_placeBehind : ByteArray := prog_28_method_31_code
def yX10_placeBehind : MethodName := ⟨RX10, "placeBehind", "(I)I"⟩
def dkwX10_placeBehind_0 : List UInt8 := [27, 42, 5, 182, 0, 118, 161, 0, 9, 17, 39, 16, 167, 0, 9, 42, 27, 5, 182, 0, 129, 172]
abbrev dktX10_placeBehind_0 : List UInt8 := dkwX10_placeBehind_0 ++ []
theorem dksX10_placeBehind_0 : cX10_placeBehind.data.toList.drop 0 = dktX10_placeBehind_0 := by decide +kernel
theorem dX10_placeBehind_0 : decode cX10_placeBehind 0 = .ok (.iload_n 1, 1) := dk_27 (dk_at dksX10_placeBehind_0 0 rfl rfl)
theorem dX10_placeBehind_1 : decode cX10_placeBehind 1 = .ok (.aload_n 0, 1) := dk_42 (dk_at dksX10_placeBehind_0 1 rfl rfl)
theorem dX10_placeBehind_2 : decode cX10_placeBehind 2 = .ok (.iconst 2, 1) := dk_5 (dk_at dksX10_placeBehind_0 2 rfl rfl)
theorem dX10_placeBehind_3 : decode cX10_placeBehind 3 = .ok (.invokevirtual 118, 3) := dk_182 0 118 (dk_at dksX10_placeBehind_0 3 rfl rfl)
theorem dX10_placeBehind_6 : decode cX10_placeBehind 6 = .ok (.if_icmp .lt 9, 3) := dk_161 0 9 (dk_at dksX10_placeBehind_0 6 rfl rfl)
theorem dX10_placeBehind_9 : decode cX10_placeBehind 9 = .ok (.sipush 10000, 3) := dk_17 39 16 (dk_at dksX10_placeBehind_0 9 rfl rfl)
theorem dX10_placeBehind_12 : decode cX10_placeBehind 12 = .ok (.goto 9, 3) := dk_167 0 9 (dk_at dksX10_placeBehind_0 12 rfl rfl)
theorem dX10_placeBehind_15 : decode cX10_placeBehind 15 = .ok (.aload_n 0, 1) := dk_42 (dk_at dksX10_placeBehind_0 15 rfl rfl)
theorem dX10_placeBehind_16 : decode cX10_placeBehind 16 = .ok (.iload_n 1, 1) := dk_27 (dk_at dksX10_placeBehind_0 16 rfl rfl)
theorem dX10_placeBehind_17 : decode cX10_placeBehind 17 = .ok (.iconst 2, 1) := dk_5 (dk_at dksX10_placeBehind_0 17 rfl rfl)
theorem dX10_placeBehind_18 : decode cX10_placeBehind 18 = .ok (.invokevirtual 129, 3) := dk_182 0 129 (dk_at dksX10_placeBehind_0 18 rfl rfl)
theorem dX10_placeBehind_21 : decode cX10_placeBehind 21 = .ok (.ireturn, 1) := dk_172 (dk_at dksX10_placeBehind_0 21 rfl rfl)
abbrev cX10_placeAhead : ByteArray := prog_28_method_30_code
def yX10_placeAhead : MethodName := ⟨RX10, "placeAhead", "(I)I"⟩
def dkwX10_placeAhead_0 : List UInt8 := [27, 154, 0, 7, 2, 167, 0, 11, 42, 27, 4, 100, 5, 182, 0, 129, 172]
abbrev dktX10_placeAhead_0 : List UInt8 := dkwX10_placeAhead_0 ++ []
theorem dksX10_placeAhead_0 : cX10_placeAhead.data.toList.drop 0 = dktX10_placeAhead_0 := by decide +kernel
theorem dX10_placeAhead_0 : decode cX10_placeAhead 0 = .ok (.iload_n 1, 1) := dk_27 (dk_at dksX10_placeAhead_0 0 rfl rfl)
theorem dX10_placeAhead_1 : decode cX10_placeAhead 1 = .ok (.ifCond .ne 7, 3) := dk_154 0 7 (dk_at dksX10_placeAhead_0 1 rfl rfl)
theorem dX10_placeAhead_4 : decode cX10_placeAhead 4 = .ok (.iconst (-1), 1) := dk_2 (dk_at dksX10_placeAhead_0 4 rfl rfl)
theorem dX10_placeAhead_5 : decode cX10_placeAhead 5 = .ok (.goto 11, 3) := dk_167 0 11 (dk_at dksX10_placeAhead_0 5 rfl rfl)
theorem dX10_placeAhead_8 : decode cX10_placeAhead 8 = .ok (.aload_n 0, 1) := dk_42 (dk_at dksX10_placeAhead_0 8 rfl rfl)
theorem dX10_placeAhead_9 : decode cX10_placeAhead 9 = .ok (.iload_n 1, 1) := dk_27 (dk_at dksX10_placeAhead_0 9 rfl rfl)
theorem dX10_placeAhead_10 : decode cX10_placeAhead 10 = .ok (.iconst 1, 1) := dk_4 (dk_at dksX10_placeAhead_0 10 rfl rfl)
theorem dX10_placeAhead_11 : decode cX10_placeAhead 11 = .ok (.isub, 1) := dk_100 (dk_at dksX10_placeAhead_0 11 rfl rfl)
theorem dX10_placeAhead_12 : decode cX10_placeAhead 12 = .ok (.iconst 2, 1) := dk_5 (dk_at dksX10_placeAhead_0 12 rfl rfl)
theorem dX10_placeAhead_13 : decode cX10_placeAhead 13 = .ok (.invokevirtual 129, 3) := dk_182 0 129 (dk_at dksX10_placeAhead_0 13 rfl rfl)
theorem dX10_placeAhead_16 : decode cX10_placeAhead 16 = .ok (.ireturn, 1) := dk_172 (dk_at dksX10_placeAhead_0 16 rfl rfl)
abbrev cX10_guestPlace : ByteArray := prog_28_method_35_code
def yX10_guestPlace : MethodName := ⟨RX10, "guestPlace", "(I)I"⟩
def dkwX10_guestPlace_1 : List UInt8 := [27, 42, 5, 182, 0, 118, 4, 96, 184, 0, 159, 172]
abbrev dktX10_guestPlace_1 : List UInt8 := dkwX10_guestPlace_1 ++ []
def dkwX10_guestPlace_0 : List UInt8 := [42, 27, 182, 0, 162, 153, 0, 19, 42, 27, 182, 0, 156, 42, 27, 182, 0, 153, 96, 5, 108, 167, 0, 14]
abbrev dktX10_guestPlace_0 : List UInt8 := dkwX10_guestPlace_0 ++ dktX10_guestPlace_1
theorem dksX10_guestPlace_0 : cX10_guestPlace.data.toList.drop 0 = dktX10_guestPlace_0 := by decide +kernel
theorem dksX10_guestPlace_1 : cX10_guestPlace.data.toList.drop 24 = dktX10_guestPlace_1 := dk_seg dksX10_guestPlace_0 24 rfl rfl
theorem dX10_guestPlace_0 : decode cX10_guestPlace 0 = .ok (.aload_n 0, 1) := dk_42 (dk_at dksX10_guestPlace_0 0 rfl rfl)
theorem dX10_guestPlace_1 : decode cX10_guestPlace 1 = .ok (.iload_n 1, 1) := dk_27 (dk_at dksX10_guestPlace_0 1 rfl rfl)
theorem dX10_guestPlace_2 : decode cX10_guestPlace 2 = .ok (.invokevirtual 162, 3) := dk_182 0 162 (dk_at dksX10_guestPlace_0 2 rfl rfl)
theorem dX10_guestPlace_5 : decode cX10_guestPlace 5 = .ok (.ifCond .eq 19, 3) := dk_153 0 19 (dk_at dksX10_guestPlace_0 5 rfl rfl)
theorem dX10_guestPlace_8 : decode cX10_guestPlace 8 = .ok (.aload_n 0, 1) := dk_42 (dk_at dksX10_guestPlace_0 8 rfl rfl)
theorem dX10_guestPlace_9 : decode cX10_guestPlace 9 = .ok (.iload_n 1, 1) := dk_27 (dk_at dksX10_guestPlace_0 9 rfl rfl)
theorem dX10_guestPlace_10 : decode cX10_guestPlace 10 = .ok (.invokevirtual 156, 3) := dk_182 0 156 (dk_at dksX10_guestPlace_0 10 rfl rfl)
theorem dX10_guestPlace_13 : decode cX10_guestPlace 13 = .ok (.aload_n 0, 1) := dk_42 (dk_at dksX10_guestPlace_0 13 rfl rfl)
theorem dX10_guestPlace_14 : decode cX10_guestPlace 14 = .ok (.iload_n 1, 1) := dk_27 (dk_at dksX10_guestPlace_0 14 rfl rfl)
theorem dX10_guestPlace_15 : decode cX10_guestPlace 15 = .ok (.invokevirtual 153, 3) := dk_182 0 153 (dk_at dksX10_guestPlace_0 15 rfl rfl)
theorem dX10_guestPlace_18 : decode cX10_guestPlace 18 = .ok (.iadd, 1) := dk_96 (dk_at dksX10_guestPlace_0 18 rfl rfl)
theorem dX10_guestPlace_19 : decode cX10_guestPlace 19 = .ok (.iconst 2, 1) := dk_5 (dk_at dksX10_guestPlace_0 19 rfl rfl)
theorem dX10_guestPlace_20 : decode cX10_guestPlace 20 = .ok (.idiv, 1) := dk_108 (dk_at dksX10_guestPlace_0 20 rfl rfl)
theorem dX10_guestPlace_21 : decode cX10_guestPlace 21 = .ok (.goto 14, 3) := dk_167 0 14 (dk_at dksX10_guestPlace_0 21 rfl rfl)
theorem dX10_guestPlace_24 : decode cX10_guestPlace 24 = .ok (.iload_n 1, 1) := dk_27 (dk_at dksX10_guestPlace_1 0 rfl rfl)
theorem dX10_guestPlace_25 : decode cX10_guestPlace 25 = .ok (.aload_n 0, 1) := dk_42 (dk_at dksX10_guestPlace_1 1 rfl rfl)
theorem dX10_guestPlace_26 : decode cX10_guestPlace 26 = .ok (.iconst 2, 1) := dk_5 (dk_at dksX10_guestPlace_1 2 rfl rfl)
theorem dX10_guestPlace_27 : decode cX10_guestPlace 27 = .ok (.invokevirtual 118, 3) := dk_182 0 118 (dk_at dksX10_guestPlace_1 3 rfl rfl)
theorem dX10_guestPlace_30 : decode cX10_guestPlace 30 = .ok (.iconst 1, 1) := dk_4 (dk_at dksX10_guestPlace_1 6 rfl rfl)
theorem dX10_guestPlace_31 : decode cX10_guestPlace 31 = .ok (.iadd, 1) := dk_96 (dk_at dksX10_guestPlace_1 7 rfl rfl)
theorem dX10_guestPlace_32 : decode cX10_guestPlace 32 = .ok (.invokestatic 159, 3) := dk_184 0 159 (dk_at dksX10_guestPlace_1 8 rfl rfl)
theorem dX10_guestPlace_35 : decode cX10_guestPlace 35 = .ok (.ireturn, 1) := dk_172 (dk_at dksX10_guestPlace_1 11 rfl rfl)
abbrev cX10_movedBy : ByteArray := prog_28_method_34_code
def yX10_movedBy : MethodName := ⟨RX10, "movedBy", "(I)I"⟩
def dkwX10_movedBy_2 : List UInt8 := [159, 0, 6, 132, 3, 1, 132, 4, 1, 167, 255, 213, 29, 172]
abbrev dktX10_movedBy_2 : List UInt8 := dkwX10_movedBy_2 ++ []
def dkwX10_movedBy_1 : List UInt8 := [21, 4, 167, 0, 7, 21, 4, 4, 96, 28, 4, 96, 184, 0, 159, 42, 21, 4, 5, 182, 0, 129]
abbrev dktX10_movedBy_1 : List UInt8 := dkwX10_movedBy_1 ++ dktX10_movedBy_2
def dkwX10_movedBy_0 : List UInt8 := [42, 5, 182, 0, 118, 61, 3, 62, 3, 54, 4, 21, 4, 28, 162, 0, 43, 21, 4, 27, 162, 0, 8]
abbrev dktX10_movedBy_0 : List UInt8 := dkwX10_movedBy_0 ++ dktX10_movedBy_1
theorem dksX10_movedBy_0 : cX10_movedBy.data.toList.drop 0 = dktX10_movedBy_0 := by decide +kernel
theorem dksX10_movedBy_1 : cX10_movedBy.data.toList.drop 23 = dktX10_movedBy_1 := dk_seg dksX10_movedBy_0 23 rfl rfl
theorem dksX10_movedBy_2 : cX10_movedBy.data.toList.drop 45 = dktX10_movedBy_2 := dk_seg dksX10_movedBy_1 22 rfl rfl
theorem dX10_movedBy_0 : decode cX10_movedBy 0 = .ok (.aload_n 0, 1) := dk_42 (dk_at dksX10_movedBy_0 0 rfl rfl)
theorem dX10_movedBy_1 : decode cX10_movedBy 1 = .ok (.iconst 2, 1) := dk_5 (dk_at dksX10_movedBy_0 1 rfl rfl)
theorem dX10_movedBy_2 : decode cX10_movedBy 2 = .ok (.invokevirtual 118, 3) := dk_182 0 118 (dk_at dksX10_movedBy_0 2 rfl rfl)
theorem dX10_movedBy_5 : decode cX10_movedBy 5 = .ok (.istore_n 2, 1) := dk_61 (dk_at dksX10_movedBy_0 5 rfl rfl)
theorem dX10_movedBy_6 : decode cX10_movedBy 6 = .ok (.iconst 0, 1) := dk_3 (dk_at dksX10_movedBy_0 6 rfl rfl)
theorem dX10_movedBy_7 : decode cX10_movedBy 7 = .ok (.istore_n 3, 1) := dk_62 (dk_at dksX10_movedBy_0 7 rfl rfl)
theorem dX10_movedBy_8 : decode cX10_movedBy 8 = .ok (.iconst 0, 1) := dk_3 (dk_at dksX10_movedBy_0 8 rfl rfl)
theorem dX10_movedBy_9 : decode cX10_movedBy 9 = .ok (.istore 4, 2) := dk_54 4 (dk_at dksX10_movedBy_0 9 rfl rfl)
theorem dX10_movedBy_11 : decode cX10_movedBy 11 = .ok (.iload 4, 2) := dk_21 4 (dk_at dksX10_movedBy_0 11 rfl rfl)
theorem dX10_movedBy_13 : decode cX10_movedBy 13 = .ok (.iload_n 2, 1) := dk_28 (dk_at dksX10_movedBy_0 13 rfl rfl)
theorem dX10_movedBy_14 : decode cX10_movedBy 14 = .ok (.if_icmp .ge 43, 3) := dk_162 0 43 (dk_at dksX10_movedBy_0 14 rfl rfl)
theorem dX10_movedBy_17 : decode cX10_movedBy 17 = .ok (.iload 4, 2) := dk_21 4 (dk_at dksX10_movedBy_0 17 rfl rfl)
theorem dX10_movedBy_19 : decode cX10_movedBy 19 = .ok (.iload_n 1, 1) := dk_27 (dk_at dksX10_movedBy_0 19 rfl rfl)
theorem dX10_movedBy_20 : decode cX10_movedBy 20 = .ok (.if_icmp .ge 8, 3) := dk_162 0 8 (dk_at dksX10_movedBy_0 20 rfl rfl)
theorem dX10_movedBy_23 : decode cX10_movedBy 23 = .ok (.iload 4, 2) := dk_21 4 (dk_at dksX10_movedBy_1 0 rfl rfl)
theorem dX10_movedBy_25 : decode cX10_movedBy 25 = .ok (.goto 7, 3) := dk_167 0 7 (dk_at dksX10_movedBy_1 2 rfl rfl)
theorem dX10_movedBy_28 : decode cX10_movedBy 28 = .ok (.iload 4, 2) := dk_21 4 (dk_at dksX10_movedBy_1 5 rfl rfl)
theorem dX10_movedBy_30 : decode cX10_movedBy 30 = .ok (.iconst 1, 1) := dk_4 (dk_at dksX10_movedBy_1 7 rfl rfl)
theorem dX10_movedBy_31 : decode cX10_movedBy 31 = .ok (.iadd, 1) := dk_96 (dk_at dksX10_movedBy_1 8 rfl rfl)
theorem dX10_movedBy_32 : decode cX10_movedBy 32 = .ok (.iload_n 2, 1) := dk_28 (dk_at dksX10_movedBy_1 9 rfl rfl)
theorem dX10_movedBy_33 : decode cX10_movedBy 33 = .ok (.iconst 1, 1) := dk_4 (dk_at dksX10_movedBy_1 10 rfl rfl)
theorem dX10_movedBy_34 : decode cX10_movedBy 34 = .ok (.iadd, 1) := dk_96 (dk_at dksX10_movedBy_1 11 rfl rfl)
theorem dX10_movedBy_35 : decode cX10_movedBy 35 = .ok (.invokestatic 159, 3) := dk_184 0 159 (dk_at dksX10_movedBy_1 12 rfl rfl)
theorem dX10_movedBy_38 : decode cX10_movedBy 38 = .ok (.aload_n 0, 1) := dk_42 (dk_at dksX10_movedBy_1 15 rfl rfl)
theorem dX10_movedBy_39 : decode cX10_movedBy 39 = .ok (.iload 4, 2) := dk_21 4 (dk_at dksX10_movedBy_1 16 rfl rfl)
theorem dX10_movedBy_41 : decode cX10_movedBy 41 = .ok (.iconst 2, 1) := dk_5 (dk_at dksX10_movedBy_1 18 rfl rfl)
theorem dX10_movedBy_42 : decode cX10_movedBy 42 = .ok (.invokevirtual 129, 3) := dk_182 0 129 (dk_at dksX10_movedBy_1 19 rfl rfl)
theorem dX10_movedBy_45 : decode cX10_movedBy 45 = .ok (.if_icmp .eq 6, 3) := dk_159 0 6 (dk_at dksX10_movedBy_2 0 rfl rfl)
theorem dX10_movedBy_48 : decode cX10_movedBy 48 = .ok (.iinc 3 1, 3) := dk_132 3 1 (dk_at dksX10_movedBy_2 3 rfl rfl)
theorem dX10_movedBy_51 : decode cX10_movedBy 51 = .ok (.iinc 4 1, 3) := dk_132 4 1 (dk_at dksX10_movedBy_2 6 rfl rfl)
theorem dX10_movedBy_54 : decode cX10_movedBy 54 = .ok (.goto (-43), 3) := dk_167 255 213 (dk_at dksX10_movedBy_2 9 rfl rfl)
theorem dX10_movedBy_57 : decode cX10_movedBy 57 = .ok (.iload_n 3, 1) := dk_29 (dk_at dksX10_movedBy_2 12 rfl rfl)
theorem dX10_movedBy_58 : decode cX10_movedBy 58 = .ok (.ireturn, 1) := dk_172 (dk_at dksX10_movedBy_2 13 rfl rfl)
abbrev cX10_feed : ByteArray := prog_28_method_53_code
def yX10_feed : MethodName := ⟨RX10, "feed", "(IIIII)I"⟩
def dkwX10_feed_2 : List UInt8 := [182, 0, 213, 42, 180, 0, 112, 172]
abbrev dktX10_feed_2 : List UInt8 := dkwX10_feed_2 ++ []
def dkwX10_feed_1 : List UInt8 := [182, 0, 213, 42, 28, 182, 0, 213, 42, 29, 182, 0, 213, 42, 21, 4, 182, 0, 213, 42, 21, 5]
abbrev dktX10_feed_1 : List UInt8 := dkwX10_feed_1 ++ dktX10_feed_2
def dkwX10_feed_0 : List UInt8 := [42, 3, 181, 0, 1, 42, 180, 0, 112, 16, 20, 96, 17, 3, 32, 164, 0, 5, 2, 172, 42, 27]
abbrev dktX10_feed_0 : List UInt8 := dkwX10_feed_0 ++ dktX10_feed_1
theorem dksX10_feed_0 : cX10_feed.data.toList.drop 0 = dktX10_feed_0 := by decide +kernel
theorem dksX10_feed_1 : cX10_feed.data.toList.drop 22 = dktX10_feed_1 := dk_seg dksX10_feed_0 22 rfl rfl
theorem dksX10_feed_2 : cX10_feed.data.toList.drop 44 = dktX10_feed_2 := dk_seg dksX10_feed_1 22 rfl rfl
theorem dX10_feed_0 : decode cX10_feed 0 = .ok (.aload_n 0, 1) := dk_42 (dk_at dksX10_feed_0 0 rfl rfl)
theorem dX10_feed_1 : decode cX10_feed 1 = .ok (.iconst 0, 1) := dk_3 (dk_at dksX10_feed_0 1 rfl rfl)
theorem dX10_feed_2 : decode cX10_feed 2 = .ok (.putfield 1, 3) := dk_181 0 1 (dk_at dksX10_feed_0 2 rfl rfl)
theorem dX10_feed_5 : decode cX10_feed 5 = .ok (.aload_n 0, 1) := dk_42 (dk_at dksX10_feed_0 5 rfl rfl)
theorem dX10_feed_6 : decode cX10_feed 6 = .ok (.getfield 112, 3) := dk_180 0 112 (dk_at dksX10_feed_0 6 rfl rfl)
theorem dX10_feed_9 : decode cX10_feed 9 = .ok (.bipush 20, 2) := dk_16 20 (dk_at dksX10_feed_0 9 rfl rfl)
theorem dX10_feed_11 : decode cX10_feed 11 = .ok (.iadd, 1) := dk_96 (dk_at dksX10_feed_0 11 rfl rfl)
theorem dX10_feed_12 : decode cX10_feed 12 = .ok (.sipush 800, 3) := dk_17 3 32 (dk_at dksX10_feed_0 12 rfl rfl)
theorem dX10_feed_15 : decode cX10_feed 15 = .ok (.if_icmp .le 5, 3) := dk_164 0 5 (dk_at dksX10_feed_0 15 rfl rfl)
theorem dX10_feed_18 : decode cX10_feed 18 = .ok (.iconst (-1), 1) := dk_2 (dk_at dksX10_feed_0 18 rfl rfl)
theorem dX10_feed_19 : decode cX10_feed 19 = .ok (.ireturn, 1) := dk_172 (dk_at dksX10_feed_0 19 rfl rfl)
theorem dX10_feed_20 : decode cX10_feed 20 = .ok (.aload_n 0, 1) := dk_42 (dk_at dksX10_feed_0 20 rfl rfl)
theorem dX10_feed_21 : decode cX10_feed 21 = .ok (.iload_n 1, 1) := dk_27 (dk_at dksX10_feed_0 21 rfl rfl)
theorem dX10_feed_22 : decode cX10_feed 22 = .ok (.invokevirtual 213, 3) := dk_182 0 213 (dk_at dksX10_feed_1 0 rfl rfl)
theorem dX10_feed_25 : decode cX10_feed 25 = .ok (.aload_n 0, 1) := dk_42 (dk_at dksX10_feed_1 3 rfl rfl)
theorem dX10_feed_26 : decode cX10_feed 26 = .ok (.iload_n 2, 1) := dk_28 (dk_at dksX10_feed_1 4 rfl rfl)
theorem dX10_feed_27 : decode cX10_feed 27 = .ok (.invokevirtual 213, 3) := dk_182 0 213 (dk_at dksX10_feed_1 5 rfl rfl)
theorem dX10_feed_30 : decode cX10_feed 30 = .ok (.aload_n 0, 1) := dk_42 (dk_at dksX10_feed_1 8 rfl rfl)
theorem dX10_feed_31 : decode cX10_feed 31 = .ok (.iload_n 3, 1) := dk_29 (dk_at dksX10_feed_1 9 rfl rfl)
theorem dX10_feed_32 : decode cX10_feed 32 = .ok (.invokevirtual 213, 3) := dk_182 0 213 (dk_at dksX10_feed_1 10 rfl rfl)
theorem dX10_feed_35 : decode cX10_feed 35 = .ok (.aload_n 0, 1) := dk_42 (dk_at dksX10_feed_1 13 rfl rfl)
theorem dX10_feed_36 : decode cX10_feed 36 = .ok (.iload 4, 2) := dk_21 4 (dk_at dksX10_feed_1 14 rfl rfl)
theorem dX10_feed_38 : decode cX10_feed 38 = .ok (.invokevirtual 213, 3) := dk_182 0 213 (dk_at dksX10_feed_1 16 rfl rfl)
theorem dX10_feed_41 : decode cX10_feed 41 = .ok (.aload_n 0, 1) := dk_42 (dk_at dksX10_feed_1 19 rfl rfl)
theorem dX10_feed_42 : decode cX10_feed 42 = .ok (.iload 5, 2) := dk_21 5 (dk_at dksX10_feed_1 20 rfl rfl)
theorem dX10_feed_44 : decode cX10_feed 44 = .ok (.invokevirtual 213, 3) := dk_182 0 213 (dk_at dksX10_feed_2 0 rfl rfl)
theorem dX10_feed_47 : decode cX10_feed 47 = .ok (.aload_n 0, 1) := dk_42 (dk_at dksX10_feed_2 3 rfl rfl)
theorem dX10_feed_48 : decode cX10_feed 48 = .ok (.getfield 112, 3) := dk_180 0 112 (dk_at dksX10_feed_2 4 rfl rfl)
theorem dX10_feed_51 : decode cX10_feed 51 = .ok (.ireturn, 1) := dk_172 (dk_at dksX10_feed_2 7 rfl rfl)
abbrev cX10_bytes : ByteArray := prog_28_method_52_code
def yX10_bytes : MethodName := ⟨RX10, "bytes", "(I)V"⟩
def dkwX10_bytes_1 : List UInt8 := [89, 180, 0, 112, 4, 96, 181, 0, 112, 132, 2, 248, 167, 255, 223, 177]
abbrev dktX10_bytes_1 : List UInt8 := dkwX10_bytes_1 ++ []
def dkwX10_bytes_0 : List UInt8 := [16, 24, 61, 28, 155, 0, 35, 42, 180, 0, 79, 42, 180, 0, 112, 27, 28, 122, 17, 0, 255, 126, 79, 42]
abbrev dktX10_bytes_0 : List UInt8 := dkwX10_bytes_0 ++ dktX10_bytes_1
theorem dksX10_bytes_0 : cX10_bytes.data.toList.drop 0 = dktX10_bytes_0 := by decide +kernel
theorem dksX10_bytes_1 : cX10_bytes.data.toList.drop 24 = dktX10_bytes_1 := dk_seg dksX10_bytes_0 24 rfl rfl
theorem dX10_bytes_0 : decode cX10_bytes 0 = .ok (.bipush 24, 2) := dk_16 24 (dk_at dksX10_bytes_0 0 rfl rfl)
theorem dX10_bytes_2 : decode cX10_bytes 2 = .ok (.istore_n 2, 1) := dk_61 (dk_at dksX10_bytes_0 2 rfl rfl)
theorem dX10_bytes_3 : decode cX10_bytes 3 = .ok (.iload_n 2, 1) := dk_28 (dk_at dksX10_bytes_0 3 rfl rfl)
theorem dX10_bytes_4 : decode cX10_bytes 4 = .ok (.ifCond .lt 35, 3) := dk_155 0 35 (dk_at dksX10_bytes_0 4 rfl rfl)
theorem dX10_bytes_7 : decode cX10_bytes 7 = .ok (.aload_n 0, 1) := dk_42 (dk_at dksX10_bytes_0 7 rfl rfl)
theorem dX10_bytes_8 : decode cX10_bytes 8 = .ok (.getfield 79, 3) := dk_180 0 79 (dk_at dksX10_bytes_0 8 rfl rfl)
theorem dX10_bytes_11 : decode cX10_bytes 11 = .ok (.aload_n 0, 1) := dk_42 (dk_at dksX10_bytes_0 11 rfl rfl)
theorem dX10_bytes_12 : decode cX10_bytes 12 = .ok (.getfield 112, 3) := dk_180 0 112 (dk_at dksX10_bytes_0 12 rfl rfl)
theorem dX10_bytes_15 : decode cX10_bytes 15 = .ok (.iload_n 1, 1) := dk_27 (dk_at dksX10_bytes_0 15 rfl rfl)
theorem dX10_bytes_16 : decode cX10_bytes 16 = .ok (.iload_n 2, 1) := dk_28 (dk_at dksX10_bytes_0 16 rfl rfl)
theorem dX10_bytes_17 : decode cX10_bytes 17 = .ok (.ishr, 1) := dk_122 (dk_at dksX10_bytes_0 17 rfl rfl)
theorem dX10_bytes_18 : decode cX10_bytes 18 = .ok (.sipush 255, 3) := dk_17 0 255 (dk_at dksX10_bytes_0 18 rfl rfl)
theorem dX10_bytes_21 : decode cX10_bytes 21 = .ok (.iand, 1) := dk_126 (dk_at dksX10_bytes_0 21 rfl rfl)
theorem dX10_bytes_22 : decode cX10_bytes 22 = .ok (.iastore, 1) := dk_79 (dk_at dksX10_bytes_0 22 rfl rfl)
theorem dX10_bytes_23 : decode cX10_bytes 23 = .ok (.aload_n 0, 1) := dk_42 (dk_at dksX10_bytes_0 23 rfl rfl)
theorem dX10_bytes_24 : decode cX10_bytes 24 = .ok (.dup, 1) := dk_89 (dk_at dksX10_bytes_1 0 rfl rfl)
theorem dX10_bytes_25 : decode cX10_bytes 25 = .ok (.getfield 112, 3) := dk_180 0 112 (dk_at dksX10_bytes_1 1 rfl rfl)
theorem dX10_bytes_28 : decode cX10_bytes 28 = .ok (.iconst 1, 1) := dk_4 (dk_at dksX10_bytes_1 4 rfl rfl)
theorem dX10_bytes_29 : decode cX10_bytes 29 = .ok (.iadd, 1) := dk_96 (dk_at dksX10_bytes_1 5 rfl rfl)
theorem dX10_bytes_30 : decode cX10_bytes 30 = .ok (.putfield 112, 3) := dk_181 0 112 (dk_at dksX10_bytes_1 6 rfl rfl)
theorem dX10_bytes_33 : decode cX10_bytes 33 = .ok (.iinc 2 (-8), 3) := dk_132 2 248 (dk_at dksX10_bytes_1 9 rfl rfl)
theorem dX10_bytes_36 : decode cX10_bytes 36 = .ok (.goto (-33), 3) := dk_167 255 223 (dk_at dksX10_bytes_1 12 rfl rfl)
theorem dX10_bytes_39 : decode cX10_bytes 39 = .ok (.return_, 1) := dk_177 (dk_at dksX10_bytes_1 15 rfl rfl)
abbrev cX10_errorPosition : ByteArray := prog_28_method_54_code
def yX10_errorPosition : MethodName := ⟨RX10, "errorPosition", "()I"⟩
def dkwX10_errorPosition_0 : List UInt8 := [42, 3, 181, 0, 1, 42, 180, 0, 82, 172]
abbrev dktX10_errorPosition_0 : List UInt8 := dkwX10_errorPosition_0 ++ []
theorem dksX10_errorPosition_0 : cX10_errorPosition.data.toList.drop 0 = dktX10_errorPosition_0 := by decide +kernel
theorem dX10_errorPosition_0 : decode cX10_errorPosition 0 = .ok (.aload_n 0, 1) := dk_42 (dk_at dksX10_errorPosition_0 0 rfl rfl)
theorem dX10_errorPosition_1 : decode cX10_errorPosition 1 = .ok (.iconst 0, 1) := dk_3 (dk_at dksX10_errorPosition_0 1 rfl rfl)
theorem dX10_errorPosition_2 : decode cX10_errorPosition 2 = .ok (.putfield 1, 3) := dk_181 0 1 (dk_at dksX10_errorPosition_0 2 rfl rfl)
theorem dX10_errorPosition_5 : decode cX10_errorPosition 5 = .ok (.aload_n 0, 1) := dk_42 (dk_at dksX10_errorPosition_0 5 rfl rfl)
theorem dX10_errorPosition_6 : decode cX10_errorPosition 6 = .ok (.getfield 82, 3) := dk_180 0 82 (dk_at dksX10_errorPosition_0 6 rfl rfl)
theorem dX10_errorPosition_9 : decode cX10_errorPosition 9 = .ok (.ireturn, 1) := dk_172 (dk_at dksX10_errorPosition_0 9 rfl rfl)
abbrev cX10_size : ByteArray := prog_28_method_76_code
def yX10_size : MethodName := ⟨RX10, "size", "(I)I"⟩
def dkwX10_size_3 : List UInt8 := [42, 182, 0, 210, 172, 42, 182, 1, 62, 172, 42, 182, 1, 65, 172, 42, 27, 182, 0, 118, 172]
abbrev dktX10_size_3 : List UInt8 := dkwX10_size_3 ++ []
def dkwX10_size_2 : List UInt8 := [170, 0, 0, 0, 0, 0, 42, 0, 0, 0, 5, 0, 0, 0, 7, 0, 0, 0, 27, 0, 0, 0, 32, 0, 0, 0, 37]
abbrev dktX10_size_2 : List UInt8 := dkwX10_size_2 ++ dktX10_size_3
def dkwX10_size_1 : List UInt8 := [27]
abbrev dktX10_size_1 : List UInt8 := dkwX10_size_1 ++ dktX10_size_2
def dkwX10_size_0 : List UInt8 := [42, 3, 181, 0, 1, 42, 27, 133, 9, 20, 1, 60, 184, 0, 50, 4, 182, 1, 43, 153, 0, 5, 3, 172]
abbrev dktX10_size_0 : List UInt8 := dkwX10_size_0 ++ dktX10_size_1
theorem dksX10_size_0 : cX10_size.data.toList.drop 0 = dktX10_size_0 := by decide +kernel
theorem dksX10_size_1 : cX10_size.data.toList.drop 24 = dktX10_size_1 := dk_seg dksX10_size_0 24 rfl rfl
theorem dksX10_size_2 : cX10_size.data.toList.drop 25 = dktX10_size_2 := dk_seg dksX10_size_1 1 rfl rfl
theorem dksX10_size_3 : cX10_size.data.toList.drop 52 = dktX10_size_3 := dk_seg dksX10_size_2 27 rfl rfl
theorem dX10_size_0 : decode cX10_size 0 = .ok (.aload_n 0, 1) := dk_42 (dk_at dksX10_size_0 0 rfl rfl)
theorem dX10_size_1 : decode cX10_size 1 = .ok (.iconst 0, 1) := dk_3 (dk_at dksX10_size_0 1 rfl rfl)
theorem dX10_size_2 : decode cX10_size 2 = .ok (.putfield 1, 3) := dk_181 0 1 (dk_at dksX10_size_0 2 rfl rfl)
theorem dX10_size_5 : decode cX10_size 5 = .ok (.aload_n 0, 1) := dk_42 (dk_at dksX10_size_0 5 rfl rfl)
theorem dX10_size_6 : decode cX10_size 6 = .ok (.iload_n 1, 1) := dk_27 (dk_at dksX10_size_0 6 rfl rfl)
theorem dX10_size_7 : decode cX10_size 7 = .ok (.i2l, 1) := dk_133 (dk_at dksX10_size_0 7 rfl rfl)
theorem dX10_size_8 : decode cX10_size 8 = .ok (.lconst 0, 1) := dk_9 (dk_at dksX10_size_0 8 rfl rfl)
theorem dX10_size_9 : decode cX10_size 9 = .ok (.ldc2_w 316, 3) := dk_20 1 60 (dk_at dksX10_size_0 9 rfl rfl)
theorem dX10_size_12 : decode cX10_size 12 = .ok (.invokestatic 50, 3) := dk_184 0 50 (dk_at dksX10_size_0 12 rfl rfl)
theorem dX10_size_15 : decode cX10_size 15 = .ok (.iconst 1, 1) := dk_4 (dk_at dksX10_size_0 15 rfl rfl)
theorem dX10_size_16 : decode cX10_size 16 = .ok (.invokevirtual 299, 3) := dk_182 1 43 (dk_at dksX10_size_0 16 rfl rfl)
theorem dX10_size_19 : decode cX10_size 19 = .ok (.ifCond .eq 5, 3) := dk_153 0 5 (dk_at dksX10_size_0 19 rfl rfl)
theorem dX10_size_22 : decode cX10_size 22 = .ok (.iconst 0, 1) := dk_3 (dk_at dksX10_size_0 22 rfl rfl)
theorem dX10_size_23 : decode cX10_size 23 = .ok (.ireturn, 1) := dk_172 (dk_at dksX10_size_0 23 rfl rfl)
theorem dX10_size_24 : decode cX10_size 24 = .ok (.iload_n 1, 1) := dk_27 (dk_at dksX10_size_1 0 rfl rfl)
theorem dX10_size_25 : decode cX10_size 25 = .ok (.tableswitch 42 5 7 #[27, 32, 37], 27) := by decide +kernel
theorem dX10_size_52 : decode cX10_size 52 = .ok (.aload_n 0, 1) := dk_42 (dk_at dksX10_size_3 0 rfl rfl)
theorem dX10_size_53 : decode cX10_size 53 = .ok (.invokevirtual 210, 3) := dk_182 0 210 (dk_at dksX10_size_3 1 rfl rfl)
theorem dX10_size_56 : decode cX10_size 56 = .ok (.ireturn, 1) := dk_172 (dk_at dksX10_size_3 4 rfl rfl)
theorem dX10_size_57 : decode cX10_size 57 = .ok (.aload_n 0, 1) := dk_42 (dk_at dksX10_size_3 5 rfl rfl)
theorem dX10_size_58 : decode cX10_size 58 = .ok (.invokevirtual 318, 3) := dk_182 1 62 (dk_at dksX10_size_3 6 rfl rfl)
theorem dX10_size_61 : decode cX10_size 61 = .ok (.ireturn, 1) := dk_172 (dk_at dksX10_size_3 9 rfl rfl)
theorem dX10_size_62 : decode cX10_size 62 = .ok (.aload_n 0, 1) := dk_42 (dk_at dksX10_size_3 10 rfl rfl)
theorem dX10_size_63 : decode cX10_size 63 = .ok (.invokevirtual 321, 3) := dk_182 1 65 (dk_at dksX10_size_3 11 rfl rfl)
theorem dX10_size_66 : decode cX10_size 66 = .ok (.ireturn, 1) := dk_172 (dk_at dksX10_size_3 14 rfl rfl)
theorem dX10_size_67 : decode cX10_size 67 = .ok (.aload_n 0, 1) := dk_42 (dk_at dksX10_size_3 15 rfl rfl)
theorem dX10_size_68 : decode cX10_size 68 = .ok (.iload_n 1, 1) := dk_27 (dk_at dksX10_size_3 16 rfl rfl)
theorem dX10_size_69 : decode cX10_size 69 = .ok (.invokevirtual 118, 3) := dk_182 0 118 (dk_at dksX10_size_3 17 rfl rfl)
theorem dX10_size_72 : decode cX10_size 72 = .ok (.ireturn, 1) := dk_172 (dk_at dksX10_size_3 20 rfl rfl)
abbrev cX10_over : ByteArray := prog_28_method_44_code
def yX10_over : MethodName := ⟨RX10, "over", "()I"⟩
def dkwX10_over_1 : List UInt8 := [164, 0, 6, 132, 1, 1, 132, 2, 1, 167, 255, 228, 27, 172]
abbrev dktX10_over_1 : List UInt8 := dkwX10_over_1 ++ []
def dkwX10_over_0 : List UInt8 := [3, 60, 3, 61, 28, 42, 3, 182, 0, 118, 162, 0, 25, 42, 28, 182, 0, 196, 42, 4, 182, 0, 118]
abbrev dktX10_over_0 : List UInt8 := dkwX10_over_0 ++ dktX10_over_1
theorem dksX10_over_0 : cX10_over.data.toList.drop 0 = dktX10_over_0 := by decide +kernel
theorem dksX10_over_1 : cX10_over.data.toList.drop 23 = dktX10_over_1 := dk_seg dksX10_over_0 23 rfl rfl
theorem dX10_over_0 : decode cX10_over 0 = .ok (.iconst 0, 1) := dk_3 (dk_at dksX10_over_0 0 rfl rfl)
theorem dX10_over_1 : decode cX10_over 1 = .ok (.istore_n 1, 1) := dk_60 (dk_at dksX10_over_0 1 rfl rfl)
theorem dX10_over_2 : decode cX10_over 2 = .ok (.iconst 0, 1) := dk_3 (dk_at dksX10_over_0 2 rfl rfl)
theorem dX10_over_3 : decode cX10_over 3 = .ok (.istore_n 2, 1) := dk_61 (dk_at dksX10_over_0 3 rfl rfl)
theorem dX10_over_4 : decode cX10_over 4 = .ok (.iload_n 2, 1) := dk_28 (dk_at dksX10_over_0 4 rfl rfl)
theorem dX10_over_5 : decode cX10_over 5 = .ok (.aload_n 0, 1) := dk_42 (dk_at dksX10_over_0 5 rfl rfl)
theorem dX10_over_6 : decode cX10_over 6 = .ok (.iconst 0, 1) := dk_3 (dk_at dksX10_over_0 6 rfl rfl)
theorem dX10_over_7 : decode cX10_over 7 = .ok (.invokevirtual 118, 3) := dk_182 0 118 (dk_at dksX10_over_0 7 rfl rfl)
theorem dX10_over_10 : decode cX10_over 10 = .ok (.if_icmp .ge 25, 3) := dk_162 0 25 (dk_at dksX10_over_0 10 rfl rfl)
theorem dX10_over_13 : decode cX10_over 13 = .ok (.aload_n 0, 1) := dk_42 (dk_at dksX10_over_0 13 rfl rfl)
theorem dX10_over_14 : decode cX10_over 14 = .ok (.iload_n 2, 1) := dk_28 (dk_at dksX10_over_0 14 rfl rfl)
theorem dX10_over_15 : decode cX10_over 15 = .ok (.invokevirtual 196, 3) := dk_182 0 196 (dk_at dksX10_over_0 15 rfl rfl)
theorem dX10_over_18 : decode cX10_over 18 = .ok (.aload_n 0, 1) := dk_42 (dk_at dksX10_over_0 18 rfl rfl)
theorem dX10_over_19 : decode cX10_over 19 = .ok (.iconst 1, 1) := dk_4 (dk_at dksX10_over_0 19 rfl rfl)
theorem dX10_over_20 : decode cX10_over 20 = .ok (.invokevirtual 118, 3) := dk_182 0 118 (dk_at dksX10_over_0 20 rfl rfl)
theorem dX10_over_23 : decode cX10_over 23 = .ok (.if_icmp .le 6, 3) := dk_164 0 6 (dk_at dksX10_over_1 0 rfl rfl)
theorem dX10_over_26 : decode cX10_over 26 = .ok (.iinc 1 1, 3) := dk_132 1 1 (dk_at dksX10_over_1 3 rfl rfl)
theorem dX10_over_29 : decode cX10_over 29 = .ok (.iinc 2 1, 3) := dk_132 2 1 (dk_at dksX10_over_1 6 rfl rfl)
theorem dX10_over_32 : decode cX10_over 32 = .ok (.goto (-28), 3) := dk_167 255 228 (dk_at dksX10_over_1 9 rfl rfl)
theorem dX10_over_35 : decode cX10_over 35 = .ok (.iload_n 1, 1) := dk_27 (dk_at dksX10_over_1 12 rfl rfl)
theorem dX10_over_36 : decode cX10_over 36 = .ok (.ireturn, 1) := dk_172 (dk_at dksX10_over_1 13 rfl rfl)
abbrev cX10_widthOn : ByteArray := prog_28_method_43_code
def yX10_widthOn : MethodName := ⟨RX10, "widthOn", "(I)I"⟩
def dkwX10_widthOn_1 : List UInt8 := [29, 4, 182, 0, 129, 96, 61, 132, 3, 1, 167, 255, 226, 28, 172]
abbrev dktX10_widthOn_1 : List UInt8 := dkwX10_widthOn_1 ++ []
def dkwX10_widthOn_0 : List UInt8 := [3, 61, 3, 62, 29, 42, 5, 182, 0, 118, 162, 0, 27, 42, 29, 27, 182, 0, 192, 153, 0, 12, 28, 42]
abbrev dktX10_widthOn_0 : List UInt8 := dkwX10_widthOn_0 ++ dktX10_widthOn_1
theorem dksX10_widthOn_0 : cX10_widthOn.data.toList.drop 0 = dktX10_widthOn_0 := by decide +kernel
theorem dksX10_widthOn_1 : cX10_widthOn.data.toList.drop 24 = dktX10_widthOn_1 := dk_seg dksX10_widthOn_0 24 rfl rfl
theorem dX10_widthOn_0 : decode cX10_widthOn 0 = .ok (.iconst 0, 1) := dk_3 (dk_at dksX10_widthOn_0 0 rfl rfl)
theorem dX10_widthOn_1 : decode cX10_widthOn 1 = .ok (.istore_n 2, 1) := dk_61 (dk_at dksX10_widthOn_0 1 rfl rfl)
theorem dX10_widthOn_2 : decode cX10_widthOn 2 = .ok (.iconst 0, 1) := dk_3 (dk_at dksX10_widthOn_0 2 rfl rfl)
theorem dX10_widthOn_3 : decode cX10_widthOn 3 = .ok (.istore_n 3, 1) := dk_62 (dk_at dksX10_widthOn_0 3 rfl rfl)
theorem dX10_widthOn_4 : decode cX10_widthOn 4 = .ok (.iload_n 3, 1) := dk_29 (dk_at dksX10_widthOn_0 4 rfl rfl)
theorem dX10_widthOn_5 : decode cX10_widthOn 5 = .ok (.aload_n 0, 1) := dk_42 (dk_at dksX10_widthOn_0 5 rfl rfl)
theorem dX10_widthOn_6 : decode cX10_widthOn 6 = .ok (.iconst 2, 1) := dk_5 (dk_at dksX10_widthOn_0 6 rfl rfl)
theorem dX10_widthOn_7 : decode cX10_widthOn 7 = .ok (.invokevirtual 118, 3) := dk_182 0 118 (dk_at dksX10_widthOn_0 7 rfl rfl)
theorem dX10_widthOn_10 : decode cX10_widthOn 10 = .ok (.if_icmp .ge 27, 3) := dk_162 0 27 (dk_at dksX10_widthOn_0 10 rfl rfl)
theorem dX10_widthOn_13 : decode cX10_widthOn 13 = .ok (.aload_n 0, 1) := dk_42 (dk_at dksX10_widthOn_0 13 rfl rfl)
theorem dX10_widthOn_14 : decode cX10_widthOn 14 = .ok (.iload_n 3, 1) := dk_29 (dk_at dksX10_widthOn_0 14 rfl rfl)
theorem dX10_widthOn_15 : decode cX10_widthOn 15 = .ok (.iload_n 1, 1) := dk_27 (dk_at dksX10_widthOn_0 15 rfl rfl)
theorem dX10_widthOn_16 : decode cX10_widthOn 16 = .ok (.invokevirtual 192, 3) := dk_182 0 192 (dk_at dksX10_widthOn_0 16 rfl rfl)
theorem dX10_widthOn_19 : decode cX10_widthOn 19 = .ok (.ifCond .eq 12, 3) := dk_153 0 12 (dk_at dksX10_widthOn_0 19 rfl rfl)
theorem dX10_widthOn_22 : decode cX10_widthOn 22 = .ok (.iload_n 2, 1) := dk_28 (dk_at dksX10_widthOn_0 22 rfl rfl)
theorem dX10_widthOn_23 : decode cX10_widthOn 23 = .ok (.aload_n 0, 1) := dk_42 (dk_at dksX10_widthOn_0 23 rfl rfl)
theorem dX10_widthOn_24 : decode cX10_widthOn 24 = .ok (.iload_n 3, 1) := dk_29 (dk_at dksX10_widthOn_1 0 rfl rfl)
theorem dX10_widthOn_25 : decode cX10_widthOn 25 = .ok (.iconst 1, 1) := dk_4 (dk_at dksX10_widthOn_1 1 rfl rfl)
theorem dX10_widthOn_26 : decode cX10_widthOn 26 = .ok (.invokevirtual 129, 3) := dk_182 0 129 (dk_at dksX10_widthOn_1 2 rfl rfl)
theorem dX10_widthOn_29 : decode cX10_widthOn 29 = .ok (.iadd, 1) := dk_96 (dk_at dksX10_widthOn_1 5 rfl rfl)
theorem dX10_widthOn_30 : decode cX10_widthOn 30 = .ok (.istore_n 2, 1) := dk_61 (dk_at dksX10_widthOn_1 6 rfl rfl)
theorem dX10_widthOn_31 : decode cX10_widthOn 31 = .ok (.iinc 3 1, 3) := dk_132 3 1 (dk_at dksX10_widthOn_1 7 rfl rfl)
theorem dX10_widthOn_34 : decode cX10_widthOn 34 = .ok (.goto (-30), 3) := dk_167 255 226 (dk_at dksX10_widthOn_1 10 rfl rfl)
theorem dX10_widthOn_37 : decode cX10_widthOn 37 = .ok (.iload_n 2, 1) := dk_28 (dk_at dksX10_widthOn_1 13 rfl rfl)
theorem dX10_widthOn_38 : decode cX10_widthOn 38 = .ok (.ireturn, 1) := dk_172 (dk_at dksX10_widthOn_1 14 rfl rfl)
abbrev cX10_isOn : ByteArray := prog_28_method_41_code
def yX10_isOn : MethodName := ⟨RX10, "isOn", "(II)Z"⟩
def dkwX10_isOn_1 : List UInt8 := [182, 0, 189, 162, 0, 7, 4, 167, 0, 4, 3, 172]
abbrev dktX10_isOn_1 : List UInt8 := dkwX10_isOn_1 ++ []
def dkwX10_isOn_0 : List UInt8 := [42, 27, 5, 182, 0, 129, 42, 28, 182, 0, 189, 161, 0, 23, 42, 27, 5, 182, 0, 129, 42, 28, 4, 96]
abbrev dktX10_isOn_0 : List UInt8 := dkwX10_isOn_0 ++ dktX10_isOn_1
theorem dksX10_isOn_0 : cX10_isOn.data.toList.drop 0 = dktX10_isOn_0 := by decide +kernel
theorem dksX10_isOn_1 : cX10_isOn.data.toList.drop 24 = dktX10_isOn_1 := dk_seg dksX10_isOn_0 24 rfl rfl
theorem dX10_isOn_0 : decode cX10_isOn 0 = .ok (.aload_n 0, 1) := dk_42 (dk_at dksX10_isOn_0 0 rfl rfl)
theorem dX10_isOn_1 : decode cX10_isOn 1 = .ok (.iload_n 1, 1) := dk_27 (dk_at dksX10_isOn_0 1 rfl rfl)
theorem dX10_isOn_2 : decode cX10_isOn 2 = .ok (.iconst 2, 1) := dk_5 (dk_at dksX10_isOn_0 2 rfl rfl)
theorem dX10_isOn_3 : decode cX10_isOn 3 = .ok (.invokevirtual 129, 3) := dk_182 0 129 (dk_at dksX10_isOn_0 3 rfl rfl)
theorem dX10_isOn_6 : decode cX10_isOn 6 = .ok (.aload_n 0, 1) := dk_42 (dk_at dksX10_isOn_0 6 rfl rfl)
theorem dX10_isOn_7 : decode cX10_isOn 7 = .ok (.iload_n 2, 1) := dk_28 (dk_at dksX10_isOn_0 7 rfl rfl)
theorem dX10_isOn_8 : decode cX10_isOn 8 = .ok (.invokevirtual 189, 3) := dk_182 0 189 (dk_at dksX10_isOn_0 8 rfl rfl)
theorem dX10_isOn_11 : decode cX10_isOn 11 = .ok (.if_icmp .lt 23, 3) := dk_161 0 23 (dk_at dksX10_isOn_0 11 rfl rfl)
theorem dX10_isOn_14 : decode cX10_isOn 14 = .ok (.aload_n 0, 1) := dk_42 (dk_at dksX10_isOn_0 14 rfl rfl)
theorem dX10_isOn_15 : decode cX10_isOn 15 = .ok (.iload_n 1, 1) := dk_27 (dk_at dksX10_isOn_0 15 rfl rfl)
theorem dX10_isOn_16 : decode cX10_isOn 16 = .ok (.iconst 2, 1) := dk_5 (dk_at dksX10_isOn_0 16 rfl rfl)
theorem dX10_isOn_17 : decode cX10_isOn 17 = .ok (.invokevirtual 129, 3) := dk_182 0 129 (dk_at dksX10_isOn_0 17 rfl rfl)
theorem dX10_isOn_20 : decode cX10_isOn 20 = .ok (.aload_n 0, 1) := dk_42 (dk_at dksX10_isOn_0 20 rfl rfl)
theorem dX10_isOn_21 : decode cX10_isOn 21 = .ok (.iload_n 2, 1) := dk_28 (dk_at dksX10_isOn_0 21 rfl rfl)
theorem dX10_isOn_22 : decode cX10_isOn 22 = .ok (.iconst 1, 1) := dk_4 (dk_at dksX10_isOn_0 22 rfl rfl)
theorem dX10_isOn_23 : decode cX10_isOn 23 = .ok (.iadd, 1) := dk_96 (dk_at dksX10_isOn_0 23 rfl rfl)
theorem dX10_isOn_24 : decode cX10_isOn 24 = .ok (.invokevirtual 189, 3) := dk_182 0 189 (dk_at dksX10_isOn_1 0 rfl rfl)
theorem dX10_isOn_27 : decode cX10_isOn 27 = .ok (.if_icmp .ge 7, 3) := dk_162 0 7 (dk_at dksX10_isOn_1 3 rfl rfl)
theorem dX10_isOn_30 : decode cX10_isOn 30 = .ok (.iconst 1, 1) := dk_4 (dk_at dksX10_isOn_1 6 rfl rfl)
theorem dX10_isOn_31 : decode cX10_isOn 31 = .ok (.goto 4, 3) := dk_167 0 4 (dk_at dksX10_isOn_1 7 rfl rfl)
theorem dX10_isOn_34 : decode cX10_isOn 34 = .ok (.iconst 0, 1) := dk_3 (dk_at dksX10_isOn_1 10 rfl rfl)
theorem dX10_isOn_35 : decode cX10_isOn 35 = .ok (.ireturn, 1) := dk_172 (dk_at dksX10_isOn_1 11 rfl rfl)
abbrev cX10_bound : ByteArray := prog_28_method_40_code
def yX10_bound : MethodName := ⟨RX10, "bound", "(I)I"⟩
def dkwX10_bound_0 : List UInt8 := [27, 42, 3, 182, 0, 118, 161, 0, 9, 17, 39, 16, 167, 0, 11, 42, 16, 8, 27, 96, 182, 0, 118, 172]
abbrev dktX10_bound_0 : List UInt8 := dkwX10_bound_0 ++ []
theorem dksX10_bound_0 : cX10_bound.data.toList.drop 0 = dktX10_bound_0 := by decide +kernel
theorem dX10_bound_0 : decode cX10_bound 0 = .ok (.iload_n 1, 1) := dk_27 (dk_at dksX10_bound_0 0 rfl rfl)
theorem dX10_bound_1 : decode cX10_bound 1 = .ok (.aload_n 0, 1) := dk_42 (dk_at dksX10_bound_0 1 rfl rfl)
theorem dX10_bound_2 : decode cX10_bound 2 = .ok (.iconst 0, 1) := dk_3 (dk_at dksX10_bound_0 2 rfl rfl)
theorem dX10_bound_3 : decode cX10_bound 3 = .ok (.invokevirtual 118, 3) := dk_182 0 118 (dk_at dksX10_bound_0 3 rfl rfl)
theorem dX10_bound_6 : decode cX10_bound 6 = .ok (.if_icmp .lt 9, 3) := dk_161 0 9 (dk_at dksX10_bound_0 6 rfl rfl)
theorem dX10_bound_9 : decode cX10_bound 9 = .ok (.sipush 10000, 3) := dk_17 39 16 (dk_at dksX10_bound_0 9 rfl rfl)
theorem dX10_bound_12 : decode cX10_bound 12 = .ok (.goto 11, 3) := dk_167 0 11 (dk_at dksX10_bound_0 12 rfl rfl)
theorem dX10_bound_15 : decode cX10_bound 15 = .ok (.aload_n 0, 1) := dk_42 (dk_at dksX10_bound_0 15 rfl rfl)
theorem dX10_bound_16 : decode cX10_bound 16 = .ok (.bipush 8, 2) := dk_16 8 (dk_at dksX10_bound_0 16 rfl rfl)
theorem dX10_bound_18 : decode cX10_bound 18 = .ok (.iload_n 1, 1) := dk_27 (dk_at dksX10_bound_0 18 rfl rfl)
theorem dX10_bound_19 : decode cX10_bound 19 = .ok (.iadd, 1) := dk_96 (dk_at dksX10_bound_0 19 rfl rfl)
theorem dX10_bound_20 : decode cX10_bound 20 = .ok (.invokevirtual 118, 3) := dk_182 0 118 (dk_at dksX10_bound_0 20 rfl rfl)
theorem dX10_bound_23 : decode cX10_bound 23 = .ok (.ireturn, 1) := dk_172 (dk_at dksX10_bound_0 23 rfl rfl)
abbrev cX10_allWidths : ByteArray := prog_28_method_74_code
def yX10_allWidths : MethodName := ⟨RX10, "allWidths", "()I"⟩
def dkwX10_allWidths_1 : List UInt8 := [132, 2, 1, 167, 255, 235, 27, 172]
abbrev dktX10_allWidths_1 : List UInt8 := dkwX10_allWidths_1 ++ []
def dkwX10_allWidths_0 : List UInt8 := [3, 60, 3, 61, 28, 42, 5, 182, 0, 118, 162, 0, 18, 27, 42, 28, 4, 182, 0, 129, 96, 60]
abbrev dktX10_allWidths_0 : List UInt8 := dkwX10_allWidths_0 ++ dktX10_allWidths_1
theorem dksX10_allWidths_0 : cX10_allWidths.data.toList.drop 0 = dktX10_allWidths_0 := by decide +kernel
theorem dksX10_allWidths_1 : cX10_allWidths.data.toList.drop 22 = dktX10_allWidths_1 := dk_seg dksX10_allWidths_0 22 rfl rfl
theorem dX10_allWidths_0 : decode cX10_allWidths 0 = .ok (.iconst 0, 1) := dk_3 (dk_at dksX10_allWidths_0 0 rfl rfl)
theorem dX10_allWidths_1 : decode cX10_allWidths 1 = .ok (.istore_n 1, 1) := dk_60 (dk_at dksX10_allWidths_0 1 rfl rfl)
theorem dX10_allWidths_2 : decode cX10_allWidths 2 = .ok (.iconst 0, 1) := dk_3 (dk_at dksX10_allWidths_0 2 rfl rfl)
theorem dX10_allWidths_3 : decode cX10_allWidths 3 = .ok (.istore_n 2, 1) := dk_61 (dk_at dksX10_allWidths_0 3 rfl rfl)
theorem dX10_allWidths_4 : decode cX10_allWidths 4 = .ok (.iload_n 2, 1) := dk_28 (dk_at dksX10_allWidths_0 4 rfl rfl)
theorem dX10_allWidths_5 : decode cX10_allWidths 5 = .ok (.aload_n 0, 1) := dk_42 (dk_at dksX10_allWidths_0 5 rfl rfl)
theorem dX10_allWidths_6 : decode cX10_allWidths 6 = .ok (.iconst 2, 1) := dk_5 (dk_at dksX10_allWidths_0 6 rfl rfl)
theorem dX10_allWidths_7 : decode cX10_allWidths 7 = .ok (.invokevirtual 118, 3) := dk_182 0 118 (dk_at dksX10_allWidths_0 7 rfl rfl)
theorem dX10_allWidths_10 : decode cX10_allWidths 10 = .ok (.if_icmp .ge 18, 3) := dk_162 0 18 (dk_at dksX10_allWidths_0 10 rfl rfl)
theorem dX10_allWidths_13 : decode cX10_allWidths 13 = .ok (.iload_n 1, 1) := dk_27 (dk_at dksX10_allWidths_0 13 rfl rfl)
theorem dX10_allWidths_14 : decode cX10_allWidths 14 = .ok (.aload_n 0, 1) := dk_42 (dk_at dksX10_allWidths_0 14 rfl rfl)
theorem dX10_allWidths_15 : decode cX10_allWidths 15 = .ok (.iload_n 2, 1) := dk_28 (dk_at dksX10_allWidths_0 15 rfl rfl)
theorem dX10_allWidths_16 : decode cX10_allWidths 16 = .ok (.iconst 1, 1) := dk_4 (dk_at dksX10_allWidths_0 16 rfl rfl)
theorem dX10_allWidths_17 : decode cX10_allWidths 17 = .ok (.invokevirtual 129, 3) := dk_182 0 129 (dk_at dksX10_allWidths_0 17 rfl rfl)
theorem dX10_allWidths_20 : decode cX10_allWidths 20 = .ok (.iadd, 1) := dk_96 (dk_at dksX10_allWidths_0 20 rfl rfl)
theorem dX10_allWidths_21 : decode cX10_allWidths 21 = .ok (.istore_n 1, 1) := dk_60 (dk_at dksX10_allWidths_0 21 rfl rfl)
theorem dX10_allWidths_22 : decode cX10_allWidths 22 = .ok (.iinc 2 1, 3) := dk_132 2 1 (dk_at dksX10_allWidths_1 0 rfl rfl)
theorem dX10_allWidths_25 : decode cX10_allWidths 25 = .ok (.goto (-21), 3) := dk_167 255 235 (dk_at dksX10_allWidths_1 3 rfl rfl)
theorem dX10_allWidths_28 : decode cX10_allWidths 28 = .ok (.iload_n 1, 1) := dk_27 (dk_at dksX10_allWidths_1 6 rfl rfl)
theorem dX10_allWidths_29 : decode cX10_allWidths 29 = .ok (.ireturn, 1) := dk_172 (dk_at dksX10_allWidths_1 7 rfl rfl)
abbrev cX10_closest : ByteArray := prog_28_method_75_code
def yX10_closest : MethodName := ⟨RX10, "closest", "()I"⟩
def dkwX10_closest_2 : List UInt8 := [167, 255, 213, 27, 172]
abbrev dktX10_closest_2 : List UInt8 := dkwX10_closest_2 ++ []
def dkwX10_closest_1 : List UInt8 := [182, 0, 129, 100, 62, 27, 153, 0, 8, 29, 27, 162, 0, 7, 29, 167, 0, 4, 27, 60, 132, 2, 1]
abbrev dktX10_closest_1 : List UInt8 := dkwX10_closest_1 ++ dktX10_closest_2
def dkwX10_closest_0 : List UInt8 := [3, 60, 4, 61, 28, 42, 5, 182, 0, 118, 162, 0, 40, 42, 28, 5, 182, 0, 129, 42, 28, 4, 100, 5]
abbrev dktX10_closest_0 : List UInt8 := dkwX10_closest_0 ++ dktX10_closest_1
theorem dksX10_closest_0 : cX10_closest.data.toList.drop 0 = dktX10_closest_0 := by decide +kernel
theorem dksX10_closest_1 : cX10_closest.data.toList.drop 24 = dktX10_closest_1 := dk_seg dksX10_closest_0 24 rfl rfl
theorem dksX10_closest_2 : cX10_closest.data.toList.drop 47 = dktX10_closest_2 := dk_seg dksX10_closest_1 23 rfl rfl
theorem dX10_closest_0 : decode cX10_closest 0 = .ok (.iconst 0, 1) := dk_3 (dk_at dksX10_closest_0 0 rfl rfl)
theorem dX10_closest_1 : decode cX10_closest 1 = .ok (.istore_n 1, 1) := dk_60 (dk_at dksX10_closest_0 1 rfl rfl)
theorem dX10_closest_2 : decode cX10_closest 2 = .ok (.iconst 1, 1) := dk_4 (dk_at dksX10_closest_0 2 rfl rfl)
theorem dX10_closest_3 : decode cX10_closest 3 = .ok (.istore_n 2, 1) := dk_61 (dk_at dksX10_closest_0 3 rfl rfl)
theorem dX10_closest_4 : decode cX10_closest 4 = .ok (.iload_n 2, 1) := dk_28 (dk_at dksX10_closest_0 4 rfl rfl)
theorem dX10_closest_5 : decode cX10_closest 5 = .ok (.aload_n 0, 1) := dk_42 (dk_at dksX10_closest_0 5 rfl rfl)
theorem dX10_closest_6 : decode cX10_closest 6 = .ok (.iconst 2, 1) := dk_5 (dk_at dksX10_closest_0 6 rfl rfl)
theorem dX10_closest_7 : decode cX10_closest 7 = .ok (.invokevirtual 118, 3) := dk_182 0 118 (dk_at dksX10_closest_0 7 rfl rfl)
theorem dX10_closest_10 : decode cX10_closest 10 = .ok (.if_icmp .ge 40, 3) := dk_162 0 40 (dk_at dksX10_closest_0 10 rfl rfl)
theorem dX10_closest_13 : decode cX10_closest 13 = .ok (.aload_n 0, 1) := dk_42 (dk_at dksX10_closest_0 13 rfl rfl)
theorem dX10_closest_14 : decode cX10_closest 14 = .ok (.iload_n 2, 1) := dk_28 (dk_at dksX10_closest_0 14 rfl rfl)
theorem dX10_closest_15 : decode cX10_closest 15 = .ok (.iconst 2, 1) := dk_5 (dk_at dksX10_closest_0 15 rfl rfl)
theorem dX10_closest_16 : decode cX10_closest 16 = .ok (.invokevirtual 129, 3) := dk_182 0 129 (dk_at dksX10_closest_0 16 rfl rfl)
theorem dX10_closest_19 : decode cX10_closest 19 = .ok (.aload_n 0, 1) := dk_42 (dk_at dksX10_closest_0 19 rfl rfl)
theorem dX10_closest_20 : decode cX10_closest 20 = .ok (.iload_n 2, 1) := dk_28 (dk_at dksX10_closest_0 20 rfl rfl)
theorem dX10_closest_21 : decode cX10_closest 21 = .ok (.iconst 1, 1) := dk_4 (dk_at dksX10_closest_0 21 rfl rfl)
theorem dX10_closest_22 : decode cX10_closest 22 = .ok (.isub, 1) := dk_100 (dk_at dksX10_closest_0 22 rfl rfl)
theorem dX10_closest_23 : decode cX10_closest 23 = .ok (.iconst 2, 1) := dk_5 (dk_at dksX10_closest_0 23 rfl rfl)
theorem dX10_closest_24 : decode cX10_closest 24 = .ok (.invokevirtual 129, 3) := dk_182 0 129 (dk_at dksX10_closest_1 0 rfl rfl)
theorem dX10_closest_27 : decode cX10_closest 27 = .ok (.isub, 1) := dk_100 (dk_at dksX10_closest_1 3 rfl rfl)
theorem dX10_closest_28 : decode cX10_closest 28 = .ok (.istore_n 3, 1) := dk_62 (dk_at dksX10_closest_1 4 rfl rfl)
theorem dX10_closest_29 : decode cX10_closest 29 = .ok (.iload_n 1, 1) := dk_27 (dk_at dksX10_closest_1 5 rfl rfl)
theorem dX10_closest_30 : decode cX10_closest 30 = .ok (.ifCond .eq 8, 3) := dk_153 0 8 (dk_at dksX10_closest_1 6 rfl rfl)
theorem dX10_closest_33 : decode cX10_closest 33 = .ok (.iload_n 3, 1) := dk_29 (dk_at dksX10_closest_1 9 rfl rfl)
theorem dX10_closest_34 : decode cX10_closest 34 = .ok (.iload_n 1, 1) := dk_27 (dk_at dksX10_closest_1 10 rfl rfl)
theorem dX10_closest_35 : decode cX10_closest 35 = .ok (.if_icmp .ge 7, 3) := dk_162 0 7 (dk_at dksX10_closest_1 11 rfl rfl)
theorem dX10_closest_38 : decode cX10_closest 38 = .ok (.iload_n 3, 1) := dk_29 (dk_at dksX10_closest_1 14 rfl rfl)
theorem dX10_closest_39 : decode cX10_closest 39 = .ok (.goto 4, 3) := dk_167 0 4 (dk_at dksX10_closest_1 15 rfl rfl)
theorem dX10_closest_42 : decode cX10_closest 42 = .ok (.iload_n 1, 1) := dk_27 (dk_at dksX10_closest_1 18 rfl rfl)
theorem dX10_closest_43 : decode cX10_closest 43 = .ok (.istore_n 1, 1) := dk_60 (dk_at dksX10_closest_1 19 rfl rfl)
theorem dX10_closest_44 : decode cX10_closest 44 = .ok (.iinc 2 1, 3) := dk_132 2 1 (dk_at dksX10_closest_1 20 rfl rfl)
theorem dX10_closest_47 : decode cX10_closest 47 = .ok (.goto (-43), 3) := dk_167 255 213 (dk_at dksX10_closest_2 0 rfl rfl)
theorem dX10_closest_50 : decode cX10_closest 50 = .ok (.iload_n 1, 1) := dk_27 (dk_at dksX10_closest_2 3 rfl rfl)
theorem dX10_closest_51 : decode cX10_closest 51 = .ok (.ireturn, 1) := dk_172 (dk_at dksX10_closest_2 4 rfl rfl)
abbrev cX10_account : ByteArray := prog_28_method_77_code
def yX10_account : MethodName := ⟨RX10, "account", "(I)I"⟩
def dkwX10_account_2 : List UInt8 := [167, 0, 19, 27, 4, 160, 0, 10, 42, 180, 1, 73, 167, 0, 7, 42, 180, 1, 76, 172]
abbrev dktX10_account_2 : List UInt8 := dkwX10_account_2 ++ []
def dkwX10_account_1 : List UInt8 := [27, 5, 164, 0, 13, 42, 8, 27, 96, 6, 100, 182, 0, 118, 172, 27, 154, 0, 10, 42, 180, 1, 70]
abbrev dktX10_account_1 : List UInt8 := dkwX10_account_1 ++ dktX10_account_2
def dkwX10_account_0 : List UInt8 := [42, 3, 181, 0, 1, 42, 27, 133, 9, 20, 1, 68, 184, 0, 50, 4, 182, 1, 43, 153, 0, 5, 3, 172]
abbrev dktX10_account_0 : List UInt8 := dkwX10_account_0 ++ dktX10_account_1
theorem dksX10_account_0 : cX10_account.data.toList.drop 0 = dktX10_account_0 := by decide +kernel
theorem dksX10_account_1 : cX10_account.data.toList.drop 24 = dktX10_account_1 := dk_seg dksX10_account_0 24 rfl rfl
theorem dksX10_account_2 : cX10_account.data.toList.drop 47 = dktX10_account_2 := dk_seg dksX10_account_1 23 rfl rfl
theorem dX10_account_0 : decode cX10_account 0 = .ok (.aload_n 0, 1) := dk_42 (dk_at dksX10_account_0 0 rfl rfl)
theorem dX10_account_1 : decode cX10_account 1 = .ok (.iconst 0, 1) := dk_3 (dk_at dksX10_account_0 1 rfl rfl)
theorem dX10_account_2 : decode cX10_account 2 = .ok (.putfield 1, 3) := dk_181 0 1 (dk_at dksX10_account_0 2 rfl rfl)
theorem dX10_account_5 : decode cX10_account 5 = .ok (.aload_n 0, 1) := dk_42 (dk_at dksX10_account_0 5 rfl rfl)
theorem dX10_account_6 : decode cX10_account 6 = .ok (.iload_n 1, 1) := dk_27 (dk_at dksX10_account_0 6 rfl rfl)
theorem dX10_account_7 : decode cX10_account 7 = .ok (.i2l, 1) := dk_133 (dk_at dksX10_account_0 7 rfl rfl)
theorem dX10_account_8 : decode cX10_account 8 = .ok (.lconst 0, 1) := dk_9 (dk_at dksX10_account_0 8 rfl rfl)
theorem dX10_account_9 : decode cX10_account 9 = .ok (.ldc2_w 324, 3) := dk_20 1 68 (dk_at dksX10_account_0 9 rfl rfl)
theorem dX10_account_12 : decode cX10_account 12 = .ok (.invokestatic 50, 3) := dk_184 0 50 (dk_at dksX10_account_0 12 rfl rfl)
theorem dX10_account_15 : decode cX10_account 15 = .ok (.iconst 1, 1) := dk_4 (dk_at dksX10_account_0 15 rfl rfl)
theorem dX10_account_16 : decode cX10_account 16 = .ok (.invokevirtual 299, 3) := dk_182 1 43 (dk_at dksX10_account_0 16 rfl rfl)
theorem dX10_account_19 : decode cX10_account 19 = .ok (.ifCond .eq 5, 3) := dk_153 0 5 (dk_at dksX10_account_0 19 rfl rfl)
theorem dX10_account_22 : decode cX10_account 22 = .ok (.iconst 0, 1) := dk_3 (dk_at dksX10_account_0 22 rfl rfl)
theorem dX10_account_23 : decode cX10_account 23 = .ok (.ireturn, 1) := dk_172 (dk_at dksX10_account_0 23 rfl rfl)
theorem dX10_account_24 : decode cX10_account 24 = .ok (.iload_n 1, 1) := dk_27 (dk_at dksX10_account_1 0 rfl rfl)
theorem dX10_account_25 : decode cX10_account 25 = .ok (.iconst 2, 1) := dk_5 (dk_at dksX10_account_1 1 rfl rfl)
theorem dX10_account_26 : decode cX10_account 26 = .ok (.if_icmp .le 13, 3) := dk_164 0 13 (dk_at dksX10_account_1 2 rfl rfl)
theorem dX10_account_29 : decode cX10_account 29 = .ok (.aload_n 0, 1) := dk_42 (dk_at dksX10_account_1 5 rfl rfl)
theorem dX10_account_30 : decode cX10_account 30 = .ok (.iconst 5, 1) := dk_8 (dk_at dksX10_account_1 6 rfl rfl)
theorem dX10_account_31 : decode cX10_account 31 = .ok (.iload_n 1, 1) := dk_27 (dk_at dksX10_account_1 7 rfl rfl)
theorem dX10_account_32 : decode cX10_account 32 = .ok (.iadd, 1) := dk_96 (dk_at dksX10_account_1 8 rfl rfl)
theorem dX10_account_33 : decode cX10_account 33 = .ok (.iconst 3, 1) := dk_6 (dk_at dksX10_account_1 9 rfl rfl)
theorem dX10_account_34 : decode cX10_account 34 = .ok (.isub, 1) := dk_100 (dk_at dksX10_account_1 10 rfl rfl)
theorem dX10_account_35 : decode cX10_account 35 = .ok (.invokevirtual 118, 3) := dk_182 0 118 (dk_at dksX10_account_1 11 rfl rfl)
theorem dX10_account_38 : decode cX10_account 38 = .ok (.ireturn, 1) := dk_172 (dk_at dksX10_account_1 14 rfl rfl)
theorem dX10_account_39 : decode cX10_account 39 = .ok (.iload_n 1, 1) := dk_27 (dk_at dksX10_account_1 15 rfl rfl)
theorem dX10_account_40 : decode cX10_account 40 = .ok (.ifCond .ne 10, 3) := dk_154 0 10 (dk_at dksX10_account_1 16 rfl rfl)
theorem dX10_account_43 : decode cX10_account 43 = .ok (.aload_n 0, 1) := dk_42 (dk_at dksX10_account_1 19 rfl rfl)
theorem dX10_account_44 : decode cX10_account 44 = .ok (.getfield 326, 3) := dk_180 1 70 (dk_at dksX10_account_1 20 rfl rfl)
theorem dX10_account_47 : decode cX10_account 47 = .ok (.goto 19, 3) := dk_167 0 19 (dk_at dksX10_account_2 0 rfl rfl)
theorem dX10_account_50 : decode cX10_account 50 = .ok (.iload_n 1, 1) := dk_27 (dk_at dksX10_account_2 3 rfl rfl)
theorem dX10_account_51 : decode cX10_account 51 = .ok (.iconst 1, 1) := dk_4 (dk_at dksX10_account_2 4 rfl rfl)
theorem dX10_account_52 : decode cX10_account 52 = .ok (.if_icmp .ne 10, 3) := dk_160 0 10 (dk_at dksX10_account_2 5 rfl rfl)
theorem dX10_account_55 : decode cX10_account 55 = .ok (.aload_n 0, 1) := dk_42 (dk_at dksX10_account_2 8 rfl rfl)
theorem dX10_account_56 : decode cX10_account 56 = .ok (.getfield 329, 3) := dk_180 1 73 (dk_at dksX10_account_2 9 rfl rfl)
theorem dX10_account_59 : decode cX10_account 59 = .ok (.goto 7, 3) := dk_167 0 7 (dk_at dksX10_account_2 12 rfl rfl)
theorem dX10_account_62 : decode cX10_account 62 = .ok (.aload_n 0, 1) := dk_42 (dk_at dksX10_account_2 15 rfl rfl)
theorem dX10_account_63 : decode cX10_account 63 = .ok (.getfield 332, 3) := dk_180 1 76 (dk_at dksX10_account_2 16 rfl rfl)
theorem dX10_account_66 : decode cX10_account 66 = .ok (.ireturn, 1) := dk_172 (dk_at dksX10_account_2 19 rfl rfl)
abbrev cX10_at : ByteArray := prog_28_method_78_code
def yX10_at : MethodName := ⟨RX10, "at", "(I)I"⟩
def dkwX10_at_1 : List UInt8 := [3, 182, 0, 129, 167, 0, 4, 2, 172]
abbrev dktX10_at_1 : List UInt8 := dkwX10_at_1 ++ []
def dkwX10_at_0 : List UInt8 := [42, 3, 181, 0, 1, 27, 133, 9, 42, 5, 182, 0, 118, 4, 100, 133, 184, 0, 50, 153, 0, 12, 42, 27]
abbrev dktX10_at_0 : List UInt8 := dkwX10_at_0 ++ dktX10_at_1
theorem dksX10_at_0 : cX10_at.data.toList.drop 0 = dktX10_at_0 := by decide +kernel
theorem dksX10_at_1 : cX10_at.data.toList.drop 24 = dktX10_at_1 := dk_seg dksX10_at_0 24 rfl rfl
theorem dX10_at_0 : decode cX10_at 0 = .ok (.aload_n 0, 1) := dk_42 (dk_at dksX10_at_0 0 rfl rfl)
theorem dX10_at_1 : decode cX10_at 1 = .ok (.iconst 0, 1) := dk_3 (dk_at dksX10_at_0 1 rfl rfl)
theorem dX10_at_2 : decode cX10_at 2 = .ok (.putfield 1, 3) := dk_181 0 1 (dk_at dksX10_at_0 2 rfl rfl)
theorem dX10_at_5 : decode cX10_at 5 = .ok (.iload_n 1, 1) := dk_27 (dk_at dksX10_at_0 5 rfl rfl)
theorem dX10_at_6 : decode cX10_at 6 = .ok (.i2l, 1) := dk_133 (dk_at dksX10_at_0 6 rfl rfl)
theorem dX10_at_7 : decode cX10_at 7 = .ok (.lconst 0, 1) := dk_9 (dk_at dksX10_at_0 7 rfl rfl)
theorem dX10_at_8 : decode cX10_at 8 = .ok (.aload_n 0, 1) := dk_42 (dk_at dksX10_at_0 8 rfl rfl)
theorem dX10_at_9 : decode cX10_at 9 = .ok (.iconst 2, 1) := dk_5 (dk_at dksX10_at_0 9 rfl rfl)
theorem dX10_at_10 : decode cX10_at 10 = .ok (.invokevirtual 118, 3) := dk_182 0 118 (dk_at dksX10_at_0 10 rfl rfl)
theorem dX10_at_13 : decode cX10_at 13 = .ok (.iconst 1, 1) := dk_4 (dk_at dksX10_at_0 13 rfl rfl)
theorem dX10_at_14 : decode cX10_at 14 = .ok (.isub, 1) := dk_100 (dk_at dksX10_at_0 14 rfl rfl)
theorem dX10_at_15 : decode cX10_at 15 = .ok (.i2l, 1) := dk_133 (dk_at dksX10_at_0 15 rfl rfl)
theorem dX10_at_16 : decode cX10_at 16 = .ok (.invokestatic 50, 3) := dk_184 0 50 (dk_at dksX10_at_0 16 rfl rfl)
theorem dX10_at_19 : decode cX10_at 19 = .ok (.ifCond .eq 12, 3) := dk_153 0 12 (dk_at dksX10_at_0 19 rfl rfl)
theorem dX10_at_22 : decode cX10_at 22 = .ok (.aload_n 0, 1) := dk_42 (dk_at dksX10_at_0 22 rfl rfl)
theorem dX10_at_23 : decode cX10_at 23 = .ok (.iload_n 1, 1) := dk_27 (dk_at dksX10_at_0 23 rfl rfl)
theorem dX10_at_24 : decode cX10_at 24 = .ok (.iconst 0, 1) := dk_3 (dk_at dksX10_at_1 0 rfl rfl)
theorem dX10_at_25 : decode cX10_at 25 = .ok (.invokevirtual 129, 3) := dk_182 0 129 (dk_at dksX10_at_1 1 rfl rfl)
theorem dX10_at_28 : decode cX10_at 28 = .ok (.goto 4, 3) := dk_167 0 4 (dk_at dksX10_at_1 4 rfl rfl)
theorem dX10_at_31 : decode cX10_at 31 = .ok (.iconst (-1), 1) := dk_2 (dk_at dksX10_at_1 7 rfl rfl)
theorem dX10_at_32 : decode cX10_at 32 = .ok (.ireturn, 1) := dk_172 (dk_at dksX10_at_1 8 rfl rfl)
abbrev cX10_mark : ByteArray := prog_28_method_81_code
def yX10_mark : MethodName := ⟨RX10, "mark", "(II)I"⟩
def dkwX10_mark_4 : List UInt8 := [29, 182, 1, 85, 172, 42, 29, 182, 1, 88, 172]
abbrev dktX10_mark_4 : List UInt8 := dkwX10_mark_4 ++ []
def dkwX10_mark_3 : List UInt8 := [29, 172, 42, 29, 5, 182, 0, 129, 172, 42, 29, 4, 182, 0, 129, 172, 42, 29, 6, 182, 0, 129, 172, 42]
abbrev dktX10_mark_3 : List UInt8 := dkwX10_mark_3 ++ dktX10_mark_4
def dkwX10_mark_2 : List UInt8 := [170, 0, 0, 0, 62, 0, 0, 0, 0, 0, 0, 0, 4, 0, 0, 0, 33, 0, 0, 0, 35, 0, 0, 0, 42, 0, 0, 0, 49, 0, 0, 0, 56]
abbrev dktX10_mark_2 : List UInt8 := dkwX10_mark_2 ++ dktX10_mark_3
def dkwX10_mark_1 : List UInt8 := [182, 1, 43, 153, 0, 5, 3, 172, 42, 27, 182, 1, 79, 62, 28]
abbrev dktX10_mark_1 : List UInt8 := dkwX10_mark_1 ++ dktX10_mark_2
def dkwX10_mark_0 : List UInt8 := [42, 3, 181, 0, 1, 42, 27, 182, 1, 82, 154, 0, 20, 42, 28, 133, 9, 20, 1, 68, 184, 0, 50, 5]
abbrev dktX10_mark_0 : List UInt8 := dkwX10_mark_0 ++ dktX10_mark_1
theorem dksX10_mark_0 : cX10_mark.data.toList.drop 0 = dktX10_mark_0 := by decide +kernel
theorem dksX10_mark_1 : cX10_mark.data.toList.drop 24 = dktX10_mark_1 := dk_seg dksX10_mark_0 24 rfl rfl
theorem dksX10_mark_2 : cX10_mark.data.toList.drop 39 = dktX10_mark_2 := dk_seg dksX10_mark_1 15 rfl rfl
theorem dksX10_mark_3 : cX10_mark.data.toList.drop 72 = dktX10_mark_3 := dk_seg dksX10_mark_2 33 rfl rfl
theorem dksX10_mark_4 : cX10_mark.data.toList.drop 96 = dktX10_mark_4 := dk_seg dksX10_mark_3 24 rfl rfl
theorem dX10_mark_0 : decode cX10_mark 0 = .ok (.aload_n 0, 1) := dk_42 (dk_at dksX10_mark_0 0 rfl rfl)
theorem dX10_mark_1 : decode cX10_mark 1 = .ok (.iconst 0, 1) := dk_3 (dk_at dksX10_mark_0 1 rfl rfl)
theorem dX10_mark_2 : decode cX10_mark 2 = .ok (.putfield 1, 3) := dk_181 0 1 (dk_at dksX10_mark_0 2 rfl rfl)
theorem dX10_mark_5 : decode cX10_mark 5 = .ok (.aload_n 0, 1) := dk_42 (dk_at dksX10_mark_0 5 rfl rfl)
theorem dX10_mark_6 : decode cX10_mark 6 = .ok (.iload_n 1, 1) := dk_27 (dk_at dksX10_mark_0 6 rfl rfl)
theorem dX10_mark_7 : decode cX10_mark 7 = .ok (.invokevirtual 338, 3) := dk_182 1 82 (dk_at dksX10_mark_0 7 rfl rfl)
theorem dX10_mark_10 : decode cX10_mark 10 = .ok (.ifCond .ne 20, 3) := dk_154 0 20 (dk_at dksX10_mark_0 10 rfl rfl)
theorem dX10_mark_13 : decode cX10_mark 13 = .ok (.aload_n 0, 1) := dk_42 (dk_at dksX10_mark_0 13 rfl rfl)
theorem dX10_mark_14 : decode cX10_mark 14 = .ok (.iload_n 2, 1) := dk_28 (dk_at dksX10_mark_0 14 rfl rfl)
theorem dX10_mark_15 : decode cX10_mark 15 = .ok (.i2l, 1) := dk_133 (dk_at dksX10_mark_0 15 rfl rfl)
theorem dX10_mark_16 : decode cX10_mark 16 = .ok (.lconst 0, 1) := dk_9 (dk_at dksX10_mark_0 16 rfl rfl)
theorem dX10_mark_17 : decode cX10_mark 17 = .ok (.ldc2_w 324, 3) := dk_20 1 68 (dk_at dksX10_mark_0 17 rfl rfl)
theorem dX10_mark_20 : decode cX10_mark 20 = .ok (.invokestatic 50, 3) := dk_184 0 50 (dk_at dksX10_mark_0 20 rfl rfl)
theorem dX10_mark_23 : decode cX10_mark 23 = .ok (.iconst 2, 1) := dk_5 (dk_at dksX10_mark_0 23 rfl rfl)
theorem dX10_mark_24 : decode cX10_mark 24 = .ok (.invokevirtual 299, 3) := dk_182 1 43 (dk_at dksX10_mark_1 0 rfl rfl)
theorem dX10_mark_27 : decode cX10_mark 27 = .ok (.ifCond .eq 5, 3) := dk_153 0 5 (dk_at dksX10_mark_1 3 rfl rfl)
theorem dX10_mark_30 : decode cX10_mark 30 = .ok (.iconst 0, 1) := dk_3 (dk_at dksX10_mark_1 6 rfl rfl)
theorem dX10_mark_31 : decode cX10_mark 31 = .ok (.ireturn, 1) := dk_172 (dk_at dksX10_mark_1 7 rfl rfl)
theorem dX10_mark_32 : decode cX10_mark 32 = .ok (.aload_n 0, 1) := dk_42 (dk_at dksX10_mark_1 8 rfl rfl)
theorem dX10_mark_33 : decode cX10_mark 33 = .ok (.iload_n 1, 1) := dk_27 (dk_at dksX10_mark_1 9 rfl rfl)
theorem dX10_mark_34 : decode cX10_mark 34 = .ok (.invokevirtual 335, 3) := dk_182 1 79 (dk_at dksX10_mark_1 10 rfl rfl)
theorem dX10_mark_37 : decode cX10_mark 37 = .ok (.istore_n 3, 1) := dk_62 (dk_at dksX10_mark_1 13 rfl rfl)
theorem dX10_mark_38 : decode cX10_mark 38 = .ok (.iload_n 2, 1) := dk_28 (dk_at dksX10_mark_1 14 rfl rfl)
theorem dX10_mark_39 : decode cX10_mark 39 = .ok (.tableswitch 62 0 4 #[33, 35, 42, 49, 56], 33) := by decide +kernel
theorem dX10_mark_72 : decode cX10_mark 72 = .ok (.iload_n 3, 1) := dk_29 (dk_at dksX10_mark_3 0 rfl rfl)
theorem dX10_mark_73 : decode cX10_mark 73 = .ok (.ireturn, 1) := dk_172 (dk_at dksX10_mark_3 1 rfl rfl)
theorem dX10_mark_74 : decode cX10_mark 74 = .ok (.aload_n 0, 1) := dk_42 (dk_at dksX10_mark_3 2 rfl rfl)
theorem dX10_mark_75 : decode cX10_mark 75 = .ok (.iload_n 3, 1) := dk_29 (dk_at dksX10_mark_3 3 rfl rfl)
theorem dX10_mark_76 : decode cX10_mark 76 = .ok (.iconst 2, 1) := dk_5 (dk_at dksX10_mark_3 4 rfl rfl)
theorem dX10_mark_77 : decode cX10_mark 77 = .ok (.invokevirtual 129, 3) := dk_182 0 129 (dk_at dksX10_mark_3 5 rfl rfl)
theorem dX10_mark_80 : decode cX10_mark 80 = .ok (.ireturn, 1) := dk_172 (dk_at dksX10_mark_3 8 rfl rfl)
theorem dX10_mark_81 : decode cX10_mark 81 = .ok (.aload_n 0, 1) := dk_42 (dk_at dksX10_mark_3 9 rfl rfl)
theorem dX10_mark_82 : decode cX10_mark 82 = .ok (.iload_n 3, 1) := dk_29 (dk_at dksX10_mark_3 10 rfl rfl)
theorem dX10_mark_83 : decode cX10_mark 83 = .ok (.iconst 1, 1) := dk_4 (dk_at dksX10_mark_3 11 rfl rfl)
theorem dX10_mark_84 : decode cX10_mark 84 = .ok (.invokevirtual 129, 3) := dk_182 0 129 (dk_at dksX10_mark_3 12 rfl rfl)
theorem dX10_mark_87 : decode cX10_mark 87 = .ok (.ireturn, 1) := dk_172 (dk_at dksX10_mark_3 15 rfl rfl)
theorem dX10_mark_88 : decode cX10_mark 88 = .ok (.aload_n 0, 1) := dk_42 (dk_at dksX10_mark_3 16 rfl rfl)
theorem dX10_mark_89 : decode cX10_mark 89 = .ok (.iload_n 3, 1) := dk_29 (dk_at dksX10_mark_3 17 rfl rfl)
theorem dX10_mark_90 : decode cX10_mark 90 = .ok (.iconst 3, 1) := dk_6 (dk_at dksX10_mark_3 18 rfl rfl)
theorem dX10_mark_91 : decode cX10_mark 91 = .ok (.invokevirtual 129, 3) := dk_182 0 129 (dk_at dksX10_mark_3 19 rfl rfl)
theorem dX10_mark_94 : decode cX10_mark 94 = .ok (.ireturn, 1) := dk_172 (dk_at dksX10_mark_3 22 rfl rfl)
theorem dX10_mark_95 : decode cX10_mark 95 = .ok (.aload_n 0, 1) := dk_42 (dk_at dksX10_mark_3 23 rfl rfl)
theorem dX10_mark_96 : decode cX10_mark 96 = .ok (.iload_n 3, 1) := dk_29 (dk_at dksX10_mark_4 0 rfl rfl)
theorem dX10_mark_97 : decode cX10_mark 97 = .ok (.invokevirtual 341, 3) := dk_182 1 85 (dk_at dksX10_mark_4 1 rfl rfl)
theorem dX10_mark_100 : decode cX10_mark 100 = .ok (.ireturn, 1) := dk_172 (dk_at dksX10_mark_4 4 rfl rfl)
theorem dX10_mark_101 : decode cX10_mark 101 = .ok (.aload_n 0, 1) := dk_42 (dk_at dksX10_mark_4 5 rfl rfl)
theorem dX10_mark_102 : decode cX10_mark 102 = .ok (.iload_n 3, 1) := dk_29 (dk_at dksX10_mark_4 6 rfl rfl)
theorem dX10_mark_103 : decode cX10_mark 103 = .ok (.invokevirtual 344, 3) := dk_182 1 88 (dk_at dksX10_mark_4 7 rfl rfl)
theorem dX10_mark_106 : decode cX10_mark 106 = .ok (.ireturn, 1) := dk_172 (dk_at dksX10_mark_4 10 rfl rfl)
abbrev cX10_noMark : ByteArray := prog_28_method_79_code
def yX10_noMark : MethodName := ⟨RX10, "noMark", "(I)Z"⟩
def dkwX10_noMark_0 : List UInt8 := [42, 42, 27, 182, 1, 79, 2, 159, 0, 7, 4, 167, 0, 4, 3, 4, 182, 1, 43, 172]
abbrev dktX10_noMark_0 : List UInt8 := dkwX10_noMark_0 ++ []
theorem dksX10_noMark_0 : cX10_noMark.data.toList.drop 0 = dktX10_noMark_0 := by decide +kernel
theorem dX10_noMark_0 : decode cX10_noMark 0 = .ok (.aload_n 0, 1) := dk_42 (dk_at dksX10_noMark_0 0 rfl rfl)
theorem dX10_noMark_1 : decode cX10_noMark 1 = .ok (.aload_n 0, 1) := dk_42 (dk_at dksX10_noMark_0 1 rfl rfl)
theorem dX10_noMark_2 : decode cX10_noMark 2 = .ok (.iload_n 1, 1) := dk_27 (dk_at dksX10_noMark_0 2 rfl rfl)
theorem dX10_noMark_3 : decode cX10_noMark 3 = .ok (.invokevirtual 335, 3) := dk_182 1 79 (dk_at dksX10_noMark_0 3 rfl rfl)
theorem dX10_noMark_6 : decode cX10_noMark 6 = .ok (.iconst (-1), 1) := dk_2 (dk_at dksX10_noMark_0 6 rfl rfl)
theorem dX10_noMark_7 : decode cX10_noMark 7 = .ok (.if_icmp .eq 7, 3) := dk_159 0 7 (dk_at dksX10_noMark_0 7 rfl rfl)
theorem dX10_noMark_10 : decode cX10_noMark 10 = .ok (.iconst 1, 1) := dk_4 (dk_at dksX10_noMark_0 10 rfl rfl)
theorem dX10_noMark_11 : decode cX10_noMark 11 = .ok (.goto 4, 3) := dk_167 0 4 (dk_at dksX10_noMark_0 11 rfl rfl)
theorem dX10_noMark_14 : decode cX10_noMark 14 = .ok (.iconst 0, 1) := dk_3 (dk_at dksX10_noMark_0 14 rfl rfl)
theorem dX10_noMark_15 : decode cX10_noMark 15 = .ok (.iconst 1, 1) := dk_4 (dk_at dksX10_noMark_0 15 rfl rfl)
theorem dX10_noMark_16 : decode cX10_noMark 16 = .ok (.invokevirtual 299, 3) := dk_182 1 43 (dk_at dksX10_noMark_0 16 rfl rfl)
theorem dX10_noMark_19 : decode cX10_noMark 19 = .ok (.ireturn, 1) := dk_172 (dk_at dksX10_noMark_0 19 rfl rfl)
abbrev cX10_rankOf : ByteArray := prog_28_method_24_code
def yX10_rankOf : MethodName := ⟨RX10, "rankOf", "(I)I"⟩
def dkwX10_rankOf_1 : List UInt8 := [132, 2, 1, 167, 255, 232, 2, 172]
abbrev dktX10_rankOf_1 : List UInt8 := dkwX10_rankOf_1 ++ []
def dkwX10_rankOf_0 : List UInt8 := [3, 61, 28, 42, 5, 182, 0, 118, 162, 0, 21, 42, 28, 3, 182, 0, 129, 27, 160, 0, 5, 28, 172]
abbrev dktX10_rankOf_0 : List UInt8 := dkwX10_rankOf_0 ++ dktX10_rankOf_1
theorem dksX10_rankOf_0 : cX10_rankOf.data.toList.drop 0 = dktX10_rankOf_0 := by decide +kernel
theorem dksX10_rankOf_1 : cX10_rankOf.data.toList.drop 23 = dktX10_rankOf_1 := dk_seg dksX10_rankOf_0 23 rfl rfl
theorem dX10_rankOf_0 : decode cX10_rankOf 0 = .ok (.iconst 0, 1) := dk_3 (dk_at dksX10_rankOf_0 0 rfl rfl)
theorem dX10_rankOf_1 : decode cX10_rankOf 1 = .ok (.istore_n 2, 1) := dk_61 (dk_at dksX10_rankOf_0 1 rfl rfl)
theorem dX10_rankOf_2 : decode cX10_rankOf 2 = .ok (.iload_n 2, 1) := dk_28 (dk_at dksX10_rankOf_0 2 rfl rfl)
theorem dX10_rankOf_3 : decode cX10_rankOf 3 = .ok (.aload_n 0, 1) := dk_42 (dk_at dksX10_rankOf_0 3 rfl rfl)
theorem dX10_rankOf_4 : decode cX10_rankOf 4 = .ok (.iconst 2, 1) := dk_5 (dk_at dksX10_rankOf_0 4 rfl rfl)
theorem dX10_rankOf_5 : decode cX10_rankOf 5 = .ok (.invokevirtual 118, 3) := dk_182 0 118 (dk_at dksX10_rankOf_0 5 rfl rfl)
theorem dX10_rankOf_8 : decode cX10_rankOf 8 = .ok (.if_icmp .ge 21, 3) := dk_162 0 21 (dk_at dksX10_rankOf_0 8 rfl rfl)
theorem dX10_rankOf_11 : decode cX10_rankOf 11 = .ok (.aload_n 0, 1) := dk_42 (dk_at dksX10_rankOf_0 11 rfl rfl)
theorem dX10_rankOf_12 : decode cX10_rankOf 12 = .ok (.iload_n 2, 1) := dk_28 (dk_at dksX10_rankOf_0 12 rfl rfl)
theorem dX10_rankOf_13 : decode cX10_rankOf 13 = .ok (.iconst 0, 1) := dk_3 (dk_at dksX10_rankOf_0 13 rfl rfl)
theorem dX10_rankOf_14 : decode cX10_rankOf 14 = .ok (.invokevirtual 129, 3) := dk_182 0 129 (dk_at dksX10_rankOf_0 14 rfl rfl)
theorem dX10_rankOf_17 : decode cX10_rankOf 17 = .ok (.iload_n 1, 1) := dk_27 (dk_at dksX10_rankOf_0 17 rfl rfl)
theorem dX10_rankOf_18 : decode cX10_rankOf 18 = .ok (.if_icmp .ne 5, 3) := dk_160 0 5 (dk_at dksX10_rankOf_0 18 rfl rfl)
theorem dX10_rankOf_21 : decode cX10_rankOf 21 = .ok (.iload_n 2, 1) := dk_28 (dk_at dksX10_rankOf_0 21 rfl rfl)
theorem dX10_rankOf_22 : decode cX10_rankOf 22 = .ok (.ireturn, 1) := dk_172 (dk_at dksX10_rankOf_0 22 rfl rfl)
theorem dX10_rankOf_23 : decode cX10_rankOf 23 = .ok (.iinc 2 1, 3) := dk_132 2 1 (dk_at dksX10_rankOf_1 0 rfl rfl)
theorem dX10_rankOf_26 : decode cX10_rankOf 26 = .ok (.goto (-24), 3) := dk_167 255 232 (dk_at dksX10_rankOf_1 3 rfl rfl)
theorem dX10_rankOf_29 : decode cX10_rankOf 29 = .ok (.iconst (-1), 1) := dk_2 (dk_at dksX10_rankOf_1 6 rfl rfl)
theorem dX10_rankOf_30 : decode cX10_rankOf 30 = .ok (.ireturn, 1) := dk_172 (dk_at dksX10_rankOf_1 7 rfl rfl)
abbrev cX10_shelfOf : ByteArray := prog_28_method_42_code
def yX10_shelfOf : MethodName := ⟨RX10, "shelfOf", "(I)I"⟩
def dkwX10_shelfOf_0 : List UInt8 := [3, 61, 42, 27, 28, 182, 0, 192, 154, 0, 9, 132, 2, 1, 167, 255, 244, 28, 172]
abbrev dktX10_shelfOf_0 : List UInt8 := dkwX10_shelfOf_0 ++ []
theorem dksX10_shelfOf_0 : cX10_shelfOf.data.toList.drop 0 = dktX10_shelfOf_0 := by decide +kernel
theorem dX10_shelfOf_0 : decode cX10_shelfOf 0 = .ok (.iconst 0, 1) := dk_3 (dk_at dksX10_shelfOf_0 0 rfl rfl)
theorem dX10_shelfOf_1 : decode cX10_shelfOf 1 = .ok (.istore_n 2, 1) := dk_61 (dk_at dksX10_shelfOf_0 1 rfl rfl)
theorem dX10_shelfOf_2 : decode cX10_shelfOf 2 = .ok (.aload_n 0, 1) := dk_42 (dk_at dksX10_shelfOf_0 2 rfl rfl)
theorem dX10_shelfOf_3 : decode cX10_shelfOf 3 = .ok (.iload_n 1, 1) := dk_27 (dk_at dksX10_shelfOf_0 3 rfl rfl)
theorem dX10_shelfOf_4 : decode cX10_shelfOf 4 = .ok (.iload_n 2, 1) := dk_28 (dk_at dksX10_shelfOf_0 4 rfl rfl)
theorem dX10_shelfOf_5 : decode cX10_shelfOf 5 = .ok (.invokevirtual 192, 3) := dk_182 0 192 (dk_at dksX10_shelfOf_0 5 rfl rfl)
theorem dX10_shelfOf_8 : decode cX10_shelfOf 8 = .ok (.ifCond .ne 9, 3) := dk_154 0 9 (dk_at dksX10_shelfOf_0 8 rfl rfl)
theorem dX10_shelfOf_11 : decode cX10_shelfOf 11 = .ok (.iinc 2 1, 3) := dk_132 2 1 (dk_at dksX10_shelfOf_0 11 rfl rfl)
theorem dX10_shelfOf_14 : decode cX10_shelfOf 14 = .ok (.goto (-12), 3) := dk_167 255 244 (dk_at dksX10_shelfOf_0 14 rfl rfl)
theorem dX10_shelfOf_17 : decode cX10_shelfOf 17 = .ok (.iload_n 2, 1) := dk_28 (dk_at dksX10_shelfOf_0 17 rfl rfl)
theorem dX10_shelfOf_18 : decode cX10_shelfOf 18 = .ok (.ireturn, 1) := dk_172 (dk_at dksX10_shelfOf_0 18 rfl rfl)
abbrev cX10_wordsOf : ByteArray := prog_28_method_80_code
def yX10_wordsOf : MethodName := ⟨RX10, "wordsOf", "(I)I"⟩
def dkwX10_wordsOf_1 : List UInt8 := [153, 0, 6, 132, 2, 1, 132, 3, 1, 167, 255, 228, 28, 172]
abbrev dktX10_wordsOf_1 : List UInt8 := dkwX10_wordsOf_1 ++ []
def dkwX10_wordsOf_0 : List UInt8 := [3, 61, 3, 62, 29, 42, 27, 6, 182, 0, 129, 162, 0, 24, 42, 27, 29, 182, 0, 137, 184, 0, 26]
abbrev dktX10_wordsOf_0 : List UInt8 := dkwX10_wordsOf_0 ++ dktX10_wordsOf_1
theorem dksX10_wordsOf_0 : cX10_wordsOf.data.toList.drop 0 = dktX10_wordsOf_0 := by decide +kernel
theorem dksX10_wordsOf_1 : cX10_wordsOf.data.toList.drop 23 = dktX10_wordsOf_1 := dk_seg dksX10_wordsOf_0 23 rfl rfl
theorem dX10_wordsOf_0 : decode cX10_wordsOf 0 = .ok (.iconst 0, 1) := dk_3 (dk_at dksX10_wordsOf_0 0 rfl rfl)
theorem dX10_wordsOf_1 : decode cX10_wordsOf 1 = .ok (.istore_n 2, 1) := dk_61 (dk_at dksX10_wordsOf_0 1 rfl rfl)
theorem dX10_wordsOf_2 : decode cX10_wordsOf 2 = .ok (.iconst 0, 1) := dk_3 (dk_at dksX10_wordsOf_0 2 rfl rfl)
theorem dX10_wordsOf_3 : decode cX10_wordsOf 3 = .ok (.istore_n 3, 1) := dk_62 (dk_at dksX10_wordsOf_0 3 rfl rfl)
theorem dX10_wordsOf_4 : decode cX10_wordsOf 4 = .ok (.iload_n 3, 1) := dk_29 (dk_at dksX10_wordsOf_0 4 rfl rfl)
theorem dX10_wordsOf_5 : decode cX10_wordsOf 5 = .ok (.aload_n 0, 1) := dk_42 (dk_at dksX10_wordsOf_0 5 rfl rfl)
theorem dX10_wordsOf_6 : decode cX10_wordsOf 6 = .ok (.iload_n 1, 1) := dk_27 (dk_at dksX10_wordsOf_0 6 rfl rfl)
theorem dX10_wordsOf_7 : decode cX10_wordsOf 7 = .ok (.iconst 3, 1) := dk_6 (dk_at dksX10_wordsOf_0 7 rfl rfl)
theorem dX10_wordsOf_8 : decode cX10_wordsOf 8 = .ok (.invokevirtual 129, 3) := dk_182 0 129 (dk_at dksX10_wordsOf_0 8 rfl rfl)
theorem dX10_wordsOf_11 : decode cX10_wordsOf 11 = .ok (.if_icmp .ge 24, 3) := dk_162 0 24 (dk_at dksX10_wordsOf_0 11 rfl rfl)
theorem dX10_wordsOf_14 : decode cX10_wordsOf 14 = .ok (.aload_n 0, 1) := dk_42 (dk_at dksX10_wordsOf_0 14 rfl rfl)
theorem dX10_wordsOf_15 : decode cX10_wordsOf 15 = .ok (.iload_n 1, 1) := dk_27 (dk_at dksX10_wordsOf_0 15 rfl rfl)
theorem dX10_wordsOf_16 : decode cX10_wordsOf 16 = .ok (.iload_n 3, 1) := dk_29 (dk_at dksX10_wordsOf_0 16 rfl rfl)
theorem dX10_wordsOf_17 : decode cX10_wordsOf 17 = .ok (.invokevirtual 137, 3) := dk_182 0 137 (dk_at dksX10_wordsOf_0 17 rfl rfl)
theorem dX10_wordsOf_20 : decode cX10_wordsOf 20 = .ok (.invokestatic 26, 3) := dk_184 0 26 (dk_at dksX10_wordsOf_0 20 rfl rfl)
theorem dX10_wordsOf_23 : decode cX10_wordsOf 23 = .ok (.ifCond .eq 6, 3) := dk_153 0 6 (dk_at dksX10_wordsOf_1 0 rfl rfl)
theorem dX10_wordsOf_26 : decode cX10_wordsOf 26 = .ok (.iinc 2 1, 3) := dk_132 2 1 (dk_at dksX10_wordsOf_1 3 rfl rfl)
theorem dX10_wordsOf_29 : decode cX10_wordsOf 29 = .ok (.iinc 3 1, 3) := dk_132 3 1 (dk_at dksX10_wordsOf_1 6 rfl rfl)
theorem dX10_wordsOf_32 : decode cX10_wordsOf 32 = .ok (.goto (-28), 3) := dk_167 255 228 (dk_at dksX10_wordsOf_1 9 rfl rfl)
theorem dX10_wordsOf_35 : decode cX10_wordsOf 35 = .ok (.iload_n 2, 1) := dk_28 (dk_at dksX10_wordsOf_1 12 rfl rfl)
theorem dX10_wordsOf_36 : decode cX10_wordsOf 36 = .ok (.ireturn, 1) := dk_172 (dk_at dksX10_wordsOf_1 13 rfl rfl)
abbrev cX10_number : ByteArray := prog_28_method_83_code
def yX10_number : MethodName := ⟨RX10, "number", "(II)I"⟩
def dkwX10_number_1 : List UInt8 := [182, 0, 137, 66, 33, 184, 0, 26, 153, 0, 7, 2, 167, 0, 5, 33, 136, 172]
abbrev dktX10_number_1 : List UInt8 := dkwX10_number_1 ++ []
def dkwX10_number_0 : List UInt8 := [42, 3, 181, 0, 1, 42, 27, 28, 182, 1, 91, 153, 0, 5, 3, 172, 42, 42, 27, 182, 1, 79, 28]
abbrev dktX10_number_0 : List UInt8 := dkwX10_number_0 ++ dktX10_number_1
theorem dksX10_number_0 : cX10_number.data.toList.drop 0 = dktX10_number_0 := by decide +kernel
theorem dksX10_number_1 : cX10_number.data.toList.drop 23 = dktX10_number_1 := dk_seg dksX10_number_0 23 rfl rfl
theorem dX10_number_0 : decode cX10_number 0 = .ok (.aload_n 0, 1) := dk_42 (dk_at dksX10_number_0 0 rfl rfl)
theorem dX10_number_1 : decode cX10_number 1 = .ok (.iconst 0, 1) := dk_3 (dk_at dksX10_number_0 1 rfl rfl)
theorem dX10_number_2 : decode cX10_number 2 = .ok (.putfield 1, 3) := dk_181 0 1 (dk_at dksX10_number_0 2 rfl rfl)
theorem dX10_number_5 : decode cX10_number 5 = .ok (.aload_n 0, 1) := dk_42 (dk_at dksX10_number_0 5 rfl rfl)
theorem dX10_number_6 : decode cX10_number 6 = .ok (.iload_n 1, 1) := dk_27 (dk_at dksX10_number_0 6 rfl rfl)
theorem dX10_number_7 : decode cX10_number 7 = .ok (.iload_n 2, 1) := dk_28 (dk_at dksX10_number_0 7 rfl rfl)
theorem dX10_number_8 : decode cX10_number 8 = .ok (.invokevirtual 347, 3) := dk_182 1 91 (dk_at dksX10_number_0 8 rfl rfl)
theorem dX10_number_11 : decode cX10_number 11 = .ok (.ifCond .eq 5, 3) := dk_153 0 5 (dk_at dksX10_number_0 11 rfl rfl)
theorem dX10_number_14 : decode cX10_number 14 = .ok (.iconst 0, 1) := dk_3 (dk_at dksX10_number_0 14 rfl rfl)
theorem dX10_number_15 : decode cX10_number 15 = .ok (.ireturn, 1) := dk_172 (dk_at dksX10_number_0 15 rfl rfl)
theorem dX10_number_16 : decode cX10_number 16 = .ok (.aload_n 0, 1) := dk_42 (dk_at dksX10_number_0 16 rfl rfl)
theorem dX10_number_17 : decode cX10_number 17 = .ok (.aload_n 0, 1) := dk_42 (dk_at dksX10_number_0 17 rfl rfl)
theorem dX10_number_18 : decode cX10_number 18 = .ok (.iload_n 1, 1) := dk_27 (dk_at dksX10_number_0 18 rfl rfl)
theorem dX10_number_19 : decode cX10_number 19 = .ok (.invokevirtual 335, 3) := dk_182 1 79 (dk_at dksX10_number_0 19 rfl rfl)
theorem dX10_number_22 : decode cX10_number 22 = .ok (.iload_n 2, 1) := dk_28 (dk_at dksX10_number_0 22 rfl rfl)
theorem dX10_number_23 : decode cX10_number 23 = .ok (.invokevirtual 137, 3) := dk_182 0 137 (dk_at dksX10_number_1 0 rfl rfl)
theorem dX10_number_26 : decode cX10_number 26 = .ok (.lstore_n 3, 1) := dk_66 (dk_at dksX10_number_1 3 rfl rfl)
theorem dX10_number_27 : decode cX10_number 27 = .ok (.lload_n 3, 1) := dk_33 (dk_at dksX10_number_1 4 rfl rfl)
theorem dX10_number_28 : decode cX10_number 28 = .ok (.invokestatic 26, 3) := dk_184 0 26 (dk_at dksX10_number_1 5 rfl rfl)
theorem dX10_number_31 : decode cX10_number 31 = .ok (.ifCond .eq 7, 3) := dk_153 0 7 (dk_at dksX10_number_1 8 rfl rfl)
theorem dX10_number_34 : decode cX10_number 34 = .ok (.iconst (-1), 1) := dk_2 (dk_at dksX10_number_1 11 rfl rfl)
theorem dX10_number_35 : decode cX10_number 35 = .ok (.goto 5, 3) := dk_167 0 5 (dk_at dksX10_number_1 12 rfl rfl)
theorem dX10_number_38 : decode cX10_number 38 = .ok (.lload_n 3, 1) := dk_33 (dk_at dksX10_number_1 15 rfl rfl)
theorem dX10_number_39 : decode cX10_number 39 = .ok (.l2i, 1) := dk_136 (dk_at dksX10_number_1 16 rfl rfl)
theorem dX10_number_40 : decode cX10_number 40 = .ok (.ireturn, 1) := dk_172 (dk_at dksX10_number_1 17 rfl rfl)
abbrev cX10_noPart : ByteArray := prog_28_method_82_code
def yX10_noPart : MethodName := ⟨RX10, "noPart", "(II)Z"⟩
def dkwX10_noPart_1 : List UInt8 := [133, 184, 0, 50, 4, 182, 1, 43, 153, 0, 7, 4, 167, 0, 4, 3, 172]
abbrev dktX10_noPart_1 : List UInt8 := dkwX10_noPart_1 ++ []
def dkwX10_noPart_0 : List UInt8 := [42, 27, 182, 1, 82, 154, 0, 30, 42, 28, 133, 9, 42, 42, 27, 182, 1, 79, 6, 182, 0, 129, 4, 100]
abbrev dktX10_noPart_0 : List UInt8 := dkwX10_noPart_0 ++ dktX10_noPart_1
theorem dksX10_noPart_0 : cX10_noPart.data.toList.drop 0 = dktX10_noPart_0 := by decide +kernel
theorem dksX10_noPart_1 : cX10_noPart.data.toList.drop 24 = dktX10_noPart_1 := dk_seg dksX10_noPart_0 24 rfl rfl
theorem dX10_noPart_0 : decode cX10_noPart 0 = .ok (.aload_n 0, 1) := dk_42 (dk_at dksX10_noPart_0 0 rfl rfl)
theorem dX10_noPart_1 : decode cX10_noPart 1 = .ok (.iload_n 1, 1) := dk_27 (dk_at dksX10_noPart_0 1 rfl rfl)
theorem dX10_noPart_2 : decode cX10_noPart 2 = .ok (.invokevirtual 338, 3) := dk_182 1 82 (dk_at dksX10_noPart_0 2 rfl rfl)
theorem dX10_noPart_5 : decode cX10_noPart 5 = .ok (.ifCond .ne 30, 3) := dk_154 0 30 (dk_at dksX10_noPart_0 5 rfl rfl)
theorem dX10_noPart_8 : decode cX10_noPart 8 = .ok (.aload_n 0, 1) := dk_42 (dk_at dksX10_noPart_0 8 rfl rfl)
theorem dX10_noPart_9 : decode cX10_noPart 9 = .ok (.iload_n 2, 1) := dk_28 (dk_at dksX10_noPart_0 9 rfl rfl)
theorem dX10_noPart_10 : decode cX10_noPart 10 = .ok (.i2l, 1) := dk_133 (dk_at dksX10_noPart_0 10 rfl rfl)
theorem dX10_noPart_11 : decode cX10_noPart 11 = .ok (.lconst 0, 1) := dk_9 (dk_at dksX10_noPart_0 11 rfl rfl)
theorem dX10_noPart_12 : decode cX10_noPart 12 = .ok (.aload_n 0, 1) := dk_42 (dk_at dksX10_noPart_0 12 rfl rfl)
theorem dX10_noPart_13 : decode cX10_noPart 13 = .ok (.aload_n 0, 1) := dk_42 (dk_at dksX10_noPart_0 13 rfl rfl)
theorem dX10_noPart_14 : decode cX10_noPart 14 = .ok (.iload_n 1, 1) := dk_27 (dk_at dksX10_noPart_0 14 rfl rfl)
theorem dX10_noPart_15 : decode cX10_noPart 15 = .ok (.invokevirtual 335, 3) := dk_182 1 79 (dk_at dksX10_noPart_0 15 rfl rfl)
theorem dX10_noPart_18 : decode cX10_noPart 18 = .ok (.iconst 3, 1) := dk_6 (dk_at dksX10_noPart_0 18 rfl rfl)
theorem dX10_noPart_19 : decode cX10_noPart 19 = .ok (.invokevirtual 129, 3) := dk_182 0 129 (dk_at dksX10_noPart_0 19 rfl rfl)
theorem dX10_noPart_22 : decode cX10_noPart 22 = .ok (.iconst 1, 1) := dk_4 (dk_at dksX10_noPart_0 22 rfl rfl)
theorem dX10_noPart_23 : decode cX10_noPart 23 = .ok (.isub, 1) := dk_100 (dk_at dksX10_noPart_0 23 rfl rfl)
theorem dX10_noPart_24 : decode cX10_noPart 24 = .ok (.i2l, 1) := dk_133 (dk_at dksX10_noPart_1 0 rfl rfl)
theorem dX10_noPart_25 : decode cX10_noPart 25 = .ok (.invokestatic 50, 3) := dk_184 0 50 (dk_at dksX10_noPart_1 1 rfl rfl)
theorem dX10_noPart_28 : decode cX10_noPart 28 = .ok (.iconst 1, 1) := dk_4 (dk_at dksX10_noPart_1 4 rfl rfl)
theorem dX10_noPart_29 : decode cX10_noPart 29 = .ok (.invokevirtual 299, 3) := dk_182 1 43 (dk_at dksX10_noPart_1 5 rfl rfl)
theorem dX10_noPart_32 : decode cX10_noPart 32 = .ok (.ifCond .eq 7, 3) := dk_153 0 7 (dk_at dksX10_noPart_1 8 rfl rfl)
theorem dX10_noPart_35 : decode cX10_noPart 35 = .ok (.iconst 1, 1) := dk_4 (dk_at dksX10_noPart_1 11 rfl rfl)
theorem dX10_noPart_36 : decode cX10_noPart 36 = .ok (.goto 4, 3) := dk_167 0 4 (dk_at dksX10_noPart_1 12 rfl rfl)
theorem dX10_noPart_39 : decode cX10_noPart 39 = .ok (.iconst 0, 1) := dk_3 (dk_at dksX10_noPart_1 15 rfl rfl)
theorem dX10_noPart_40 : decode cX10_noPart 40 = .ok (.ireturn, 1) := dk_172 (dk_at dksX10_noPart_1 16 rfl rfl)
abbrev cX10_letter_2 : ByteArray := prog_28_method_84_code
def yX10_letter_2 : MethodName := ⟨RX10, "letter", "(IIZI)I"⟩
def dkwX10_letter_2_2 : List UInt8 := [182, 1, 97, 172]
abbrev dktX10_letter_2_2 : List UInt8 := dkwX10_letter_2_2 ++ []
def dkwX10_letter_2_1 : List UInt8 := [182, 1, 79, 28, 182, 1, 94, 167, 0, 13, 42, 42, 27, 182, 1, 79, 28, 182, 0, 137, 21, 4]
abbrev dktX10_letter_2_1 : List UInt8 := dkwX10_letter_2_1 ++ dktX10_letter_2_2
def dkwX10_letter_2_0 : List UInt8 := [42, 3, 181, 0, 1, 42, 27, 28, 182, 1, 91, 153, 0, 5, 3, 172, 42, 29, 153, 0, 16, 42, 42, 27]
abbrev dktX10_letter_2_0 : List UInt8 := dkwX10_letter_2_0 ++ dktX10_letter_2_1
theorem dksX10_letter_2_0 : cX10_letter_2.data.toList.drop 0 = dktX10_letter_2_0 := by decide +kernel
theorem dksX10_letter_2_1 : cX10_letter_2.data.toList.drop 24 = dktX10_letter_2_1 := dk_seg dksX10_letter_2_0 24 rfl rfl
theorem dksX10_letter_2_2 : cX10_letter_2.data.toList.drop 46 = dktX10_letter_2_2 := dk_seg dksX10_letter_2_1 22 rfl rfl
theorem dX10_letter_2_0 : decode cX10_letter_2 0 = .ok (.aload_n 0, 1) := dk_42 (dk_at dksX10_letter_2_0 0 rfl rfl)
theorem dX10_letter_2_1 : decode cX10_letter_2 1 = .ok (.iconst 0, 1) := dk_3 (dk_at dksX10_letter_2_0 1 rfl rfl)
theorem dX10_letter_2_2 : decode cX10_letter_2 2 = .ok (.putfield 1, 3) := dk_181 0 1 (dk_at dksX10_letter_2_0 2 rfl rfl)
theorem dX10_letter_2_5 : decode cX10_letter_2 5 = .ok (.aload_n 0, 1) := dk_42 (dk_at dksX10_letter_2_0 5 rfl rfl)
theorem dX10_letter_2_6 : decode cX10_letter_2 6 = .ok (.iload_n 1, 1) := dk_27 (dk_at dksX10_letter_2_0 6 rfl rfl)
theorem dX10_letter_2_7 : decode cX10_letter_2 7 = .ok (.iload_n 2, 1) := dk_28 (dk_at dksX10_letter_2_0 7 rfl rfl)
theorem dX10_letter_2_8 : decode cX10_letter_2 8 = .ok (.invokevirtual 347, 3) := dk_182 1 91 (dk_at dksX10_letter_2_0 8 rfl rfl)
theorem dX10_letter_2_11 : decode cX10_letter_2 11 = .ok (.ifCond .eq 5, 3) := dk_153 0 5 (dk_at dksX10_letter_2_0 11 rfl rfl)
theorem dX10_letter_2_14 : decode cX10_letter_2 14 = .ok (.iconst 0, 1) := dk_3 (dk_at dksX10_letter_2_0 14 rfl rfl)
theorem dX10_letter_2_15 : decode cX10_letter_2 15 = .ok (.ireturn, 1) := dk_172 (dk_at dksX10_letter_2_0 15 rfl rfl)
theorem dX10_letter_2_16 : decode cX10_letter_2 16 = .ok (.aload_n 0, 1) := dk_42 (dk_at dksX10_letter_2_0 16 rfl rfl)
theorem dX10_letter_2_17 : decode cX10_letter_2 17 = .ok (.iload_n 3, 1) := dk_29 (dk_at dksX10_letter_2_0 17 rfl rfl)
theorem dX10_letter_2_18 : decode cX10_letter_2 18 = .ok (.ifCond .eq 16, 3) := dk_153 0 16 (dk_at dksX10_letter_2_0 18 rfl rfl)
theorem dX10_letter_2_21 : decode cX10_letter_2 21 = .ok (.aload_n 0, 1) := dk_42 (dk_at dksX10_letter_2_0 21 rfl rfl)
theorem dX10_letter_2_22 : decode cX10_letter_2 22 = .ok (.aload_n 0, 1) := dk_42 (dk_at dksX10_letter_2_0 22 rfl rfl)
theorem dX10_letter_2_23 : decode cX10_letter_2 23 = .ok (.iload_n 1, 1) := dk_27 (dk_at dksX10_letter_2_0 23 rfl rfl)
theorem dX10_letter_2_24 : decode cX10_letter_2 24 = .ok (.invokevirtual 335, 3) := dk_182 1 79 (dk_at dksX10_letter_2_1 0 rfl rfl)
theorem dX10_letter_2_27 : decode cX10_letter_2 27 = .ok (.iload_n 2, 1) := dk_28 (dk_at dksX10_letter_2_1 3 rfl rfl)
theorem dX10_letter_2_28 : decode cX10_letter_2 28 = .ok (.invokevirtual 350, 3) := dk_182 1 94 (dk_at dksX10_letter_2_1 4 rfl rfl)
theorem dX10_letter_2_31 : decode cX10_letter_2 31 = .ok (.goto 13, 3) := dk_167 0 13 (dk_at dksX10_letter_2_1 7 rfl rfl)
theorem dX10_letter_2_34 : decode cX10_letter_2 34 = .ok (.aload_n 0, 1) := dk_42 (dk_at dksX10_letter_2_1 10 rfl rfl)
theorem dX10_letter_2_35 : decode cX10_letter_2 35 = .ok (.aload_n 0, 1) := dk_42 (dk_at dksX10_letter_2_1 11 rfl rfl)
theorem dX10_letter_2_36 : decode cX10_letter_2 36 = .ok (.iload_n 1, 1) := dk_27 (dk_at dksX10_letter_2_1 12 rfl rfl)
theorem dX10_letter_2_37 : decode cX10_letter_2 37 = .ok (.invokevirtual 335, 3) := dk_182 1 79 (dk_at dksX10_letter_2_1 13 rfl rfl)
theorem dX10_letter_2_40 : decode cX10_letter_2 40 = .ok (.iload_n 2, 1) := dk_28 (dk_at dksX10_letter_2_1 16 rfl rfl)
theorem dX10_letter_2_41 : decode cX10_letter_2 41 = .ok (.invokevirtual 137, 3) := dk_182 0 137 (dk_at dksX10_letter_2_1 17 rfl rfl)
theorem dX10_letter_2_44 : decode cX10_letter_2 44 = .ok (.iload 4, 2) := dk_21 4 (dk_at dksX10_letter_2_1 20 rfl rfl)
theorem dX10_letter_2_46 : decode cX10_letter_2 46 = .ok (.invokevirtual 353, 3) := dk_182 1 97 (dk_at dksX10_letter_2_2 0 rfl rfl)
theorem dX10_letter_2_49 : decode cX10_letter_2 49 = .ok (.ireturn, 1) := dk_172 (dk_at dksX10_letter_2_2 3 rfl rfl)
abbrev cX10_earOf : ByteArray := prog_28_method_18_code
def yX10_earOf : MethodName := ⟨RX10, "earOf", "(II)J"⟩
def dkwX10_earOf_0 : List UInt8 := [42, 180, 0, 60, 16, 32, 16, 14, 27, 104, 96, 16, 9, 96, 28, 96, 47, 173]
abbrev dktX10_earOf_0 : List UInt8 := dkwX10_earOf_0 ++ []
theorem dksX10_earOf_0 : cX10_earOf.data.toList.drop 0 = dktX10_earOf_0 := by decide +kernel
theorem dX10_earOf_0 : decode cX10_earOf 0 = .ok (.aload_n 0, 1) := dk_42 (dk_at dksX10_earOf_0 0 rfl rfl)
theorem dX10_earOf_1 : decode cX10_earOf 1 = .ok (.getfield 60, 3) := dk_180 0 60 (dk_at dksX10_earOf_0 1 rfl rfl)
theorem dX10_earOf_4 : decode cX10_earOf 4 = .ok (.bipush 32, 2) := dk_16 32 (dk_at dksX10_earOf_0 4 rfl rfl)
theorem dX10_earOf_6 : decode cX10_earOf 6 = .ok (.bipush 14, 2) := dk_16 14 (dk_at dksX10_earOf_0 6 rfl rfl)
theorem dX10_earOf_8 : decode cX10_earOf 8 = .ok (.iload_n 1, 1) := dk_27 (dk_at dksX10_earOf_0 8 rfl rfl)
theorem dX10_earOf_9 : decode cX10_earOf 9 = .ok (.imul, 1) := dk_104 (dk_at dksX10_earOf_0 9 rfl rfl)
theorem dX10_earOf_10 : decode cX10_earOf 10 = .ok (.iadd, 1) := dk_96 (dk_at dksX10_earOf_0 10 rfl rfl)
theorem dX10_earOf_11 : decode cX10_earOf 11 = .ok (.bipush 9, 2) := dk_16 9 (dk_at dksX10_earOf_0 11 rfl rfl)
theorem dX10_earOf_13 : decode cX10_earOf 13 = .ok (.iadd, 1) := dk_96 (dk_at dksX10_earOf_0 13 rfl rfl)
theorem dX10_earOf_14 : decode cX10_earOf 14 = .ok (.iload_n 2, 1) := dk_28 (dk_at dksX10_earOf_0 14 rfl rfl)
theorem dX10_earOf_15 : decode cX10_earOf 15 = .ok (.iadd, 1) := dk_96 (dk_at dksX10_earOf_0 15 rfl rfl)
theorem dX10_earOf_16 : decode cX10_earOf 16 = .ok (.laload, 1) := dk_47 (dk_at dksX10_earOf_0 16 rfl rfl)
theorem dX10_earOf_17 : decode cX10_earOf 17 = .ok (.lreturn, 1) := dk_173 (dk_at dksX10_earOf_0 17 rfl rfl)
abbrev cX10_letterOf : ByteArray := prog_28_method_12_code
def yX10_letterOf : MethodName := ⟨RX10, "letterOf", "(JI)I"⟩
def dkwX10_letterOf_1 : List UInt8 := [184, 0, 50, 153, 0, 15, 16, 96, 42, 180, 0, 9, 29, 46, 96, 167, 0, 4, 2, 172]
abbrev dktX10_letterOf_1 : List UInt8 := dkwX10_letterOf_1 ++ []
def dkwX10_letterOf_0 : List UInt8 := [31, 184, 0, 26, 154, 0, 5, 2, 172, 42, 31, 182, 0, 34, 29, 133, 9, 42, 180, 0, 15, 4, 100, 133]
abbrev dktX10_letterOf_0 : List UInt8 := dkwX10_letterOf_0 ++ dktX10_letterOf_1
theorem dksX10_letterOf_0 : cX10_letterOf.data.toList.drop 0 = dktX10_letterOf_0 := by decide +kernel
theorem dksX10_letterOf_1 : cX10_letterOf.data.toList.drop 24 = dktX10_letterOf_1 := dk_seg dksX10_letterOf_0 24 rfl rfl
theorem dX10_letterOf_0 : decode cX10_letterOf 0 = .ok (.lload_n 1, 1) := dk_31 (dk_at dksX10_letterOf_0 0 rfl rfl)
theorem dX10_letterOf_1 : decode cX10_letterOf 1 = .ok (.invokestatic 26, 3) := dk_184 0 26 (dk_at dksX10_letterOf_0 1 rfl rfl)
theorem dX10_letterOf_4 : decode cX10_letterOf 4 = .ok (.ifCond .ne 5, 3) := dk_154 0 5 (dk_at dksX10_letterOf_0 4 rfl rfl)
theorem dX10_letterOf_7 : decode cX10_letterOf 7 = .ok (.iconst (-1), 1) := dk_2 (dk_at dksX10_letterOf_0 7 rfl rfl)
theorem dX10_letterOf_8 : decode cX10_letterOf 8 = .ok (.ireturn, 1) := dk_172 (dk_at dksX10_letterOf_0 8 rfl rfl)
theorem dX10_letterOf_9 : decode cX10_letterOf 9 = .ok (.aload_n 0, 1) := dk_42 (dk_at dksX10_letterOf_0 9 rfl rfl)
theorem dX10_letterOf_10 : decode cX10_letterOf 10 = .ok (.lload_n 1, 1) := dk_31 (dk_at dksX10_letterOf_0 10 rfl rfl)
theorem dX10_letterOf_11 : decode cX10_letterOf 11 = .ok (.invokevirtual 34, 3) := dk_182 0 34 (dk_at dksX10_letterOf_0 11 rfl rfl)
theorem dX10_letterOf_14 : decode cX10_letterOf 14 = .ok (.iload_n 3, 1) := dk_29 (dk_at dksX10_letterOf_0 14 rfl rfl)
theorem dX10_letterOf_15 : decode cX10_letterOf 15 = .ok (.i2l, 1) := dk_133 (dk_at dksX10_letterOf_0 15 rfl rfl)
theorem dX10_letterOf_16 : decode cX10_letterOf 16 = .ok (.lconst 0, 1) := dk_9 (dk_at dksX10_letterOf_0 16 rfl rfl)
theorem dX10_letterOf_17 : decode cX10_letterOf 17 = .ok (.aload_n 0, 1) := dk_42 (dk_at dksX10_letterOf_0 17 rfl rfl)
theorem dX10_letterOf_18 : decode cX10_letterOf 18 = .ok (.getfield 15, 3) := dk_180 0 15 (dk_at dksX10_letterOf_0 18 rfl rfl)
theorem dX10_letterOf_21 : decode cX10_letterOf 21 = .ok (.iconst 1, 1) := dk_4 (dk_at dksX10_letterOf_0 21 rfl rfl)
theorem dX10_letterOf_22 : decode cX10_letterOf 22 = .ok (.isub, 1) := dk_100 (dk_at dksX10_letterOf_0 22 rfl rfl)
theorem dX10_letterOf_23 : decode cX10_letterOf 23 = .ok (.i2l, 1) := dk_133 (dk_at dksX10_letterOf_0 23 rfl rfl)
theorem dX10_letterOf_24 : decode cX10_letterOf 24 = .ok (.invokestatic 50, 3) := dk_184 0 50 (dk_at dksX10_letterOf_1 0 rfl rfl)
theorem dX10_letterOf_27 : decode cX10_letterOf 27 = .ok (.ifCond .eq 15, 3) := dk_153 0 15 (dk_at dksX10_letterOf_1 3 rfl rfl)
theorem dX10_letterOf_30 : decode cX10_letterOf 30 = .ok (.bipush 96, 2) := dk_16 96 (dk_at dksX10_letterOf_1 6 rfl rfl)
theorem dX10_letterOf_32 : decode cX10_letterOf 32 = .ok (.aload_n 0, 1) := dk_42 (dk_at dksX10_letterOf_1 8 rfl rfl)
theorem dX10_letterOf_33 : decode cX10_letterOf 33 = .ok (.getfield 9, 3) := dk_180 0 9 (dk_at dksX10_letterOf_1 9 rfl rfl)
theorem dX10_letterOf_36 : decode cX10_letterOf 36 = .ok (.iload_n 3, 1) := dk_29 (dk_at dksX10_letterOf_1 12 rfl rfl)
theorem dX10_letterOf_37 : decode cX10_letterOf 37 = .ok (.iaload, 1) := dk_46 (dk_at dksX10_letterOf_1 13 rfl rfl)
theorem dX10_letterOf_38 : decode cX10_letterOf 38 = .ok (.iadd, 1) := dk_96 (dk_at dksX10_letterOf_1 14 rfl rfl)
theorem dX10_letterOf_39 : decode cX10_letterOf 39 = .ok (.goto 4, 3) := dk_167 0 4 (dk_at dksX10_letterOf_1 15 rfl rfl)
theorem dX10_letterOf_42 : decode cX10_letterOf 42 = .ok (.iconst (-1), 1) := dk_2 (dk_at dksX10_letterOf_1 18 rfl rfl)
theorem dX10_letterOf_43 : decode cX10_letterOf 43 = .ok (.ireturn, 1) := dk_172 (dk_at dksX10_letterOf_1 19 rfl rfl)
abbrev cX10_ruleLetter : ByteArray := prog_28_method_86_code
def yX10_ruleLetter : MethodName := ⟨RX10, "ruleLetter", "(IZI)I"⟩
def dkwX10_ruleLetter_1 : List UInt8 := [4, 167, 0, 4, 3, 182, 0, 121, 29, 182, 1, 97, 172]
abbrev dktX10_ruleLetter_1 : List UInt8 := dkwX10_ruleLetter_1 ++ []
def dkwX10_ruleLetter_0 : List UInt8 := [42, 3, 181, 0, 1, 42, 27, 182, 1, 101, 153, 0, 7, 3, 167, 0, 22, 42, 42, 27, 28, 153, 0, 7]
abbrev dktX10_ruleLetter_0 : List UInt8 := dkwX10_ruleLetter_0 ++ dktX10_ruleLetter_1
theorem dksX10_ruleLetter_0 : cX10_ruleLetter.data.toList.drop 0 = dktX10_ruleLetter_0 := by decide +kernel
theorem dksX10_ruleLetter_1 : cX10_ruleLetter.data.toList.drop 24 = dktX10_ruleLetter_1 := dk_seg dksX10_ruleLetter_0 24 rfl rfl
theorem dX10_ruleLetter_0 : decode cX10_ruleLetter 0 = .ok (.aload_n 0, 1) := dk_42 (dk_at dksX10_ruleLetter_0 0 rfl rfl)
theorem dX10_ruleLetter_1 : decode cX10_ruleLetter 1 = .ok (.iconst 0, 1) := dk_3 (dk_at dksX10_ruleLetter_0 1 rfl rfl)
theorem dX10_ruleLetter_2 : decode cX10_ruleLetter 2 = .ok (.putfield 1, 3) := dk_181 0 1 (dk_at dksX10_ruleLetter_0 2 rfl rfl)
theorem dX10_ruleLetter_5 : decode cX10_ruleLetter 5 = .ok (.aload_n 0, 1) := dk_42 (dk_at dksX10_ruleLetter_0 5 rfl rfl)
theorem dX10_ruleLetter_6 : decode cX10_ruleLetter 6 = .ok (.iload_n 1, 1) := dk_27 (dk_at dksX10_ruleLetter_0 6 rfl rfl)
theorem dX10_ruleLetter_7 : decode cX10_ruleLetter 7 = .ok (.invokevirtual 357, 3) := dk_182 1 101 (dk_at dksX10_ruleLetter_0 7 rfl rfl)
theorem dX10_ruleLetter_10 : decode cX10_ruleLetter 10 = .ok (.ifCond .eq 7, 3) := dk_153 0 7 (dk_at dksX10_ruleLetter_0 10 rfl rfl)
theorem dX10_ruleLetter_13 : decode cX10_ruleLetter 13 = .ok (.iconst 0, 1) := dk_3 (dk_at dksX10_ruleLetter_0 13 rfl rfl)
theorem dX10_ruleLetter_14 : decode cX10_ruleLetter 14 = .ok (.goto 22, 3) := dk_167 0 22 (dk_at dksX10_ruleLetter_0 14 rfl rfl)
theorem dX10_ruleLetter_17 : decode cX10_ruleLetter 17 = .ok (.aload_n 0, 1) := dk_42 (dk_at dksX10_ruleLetter_0 17 rfl rfl)
theorem dX10_ruleLetter_18 : decode cX10_ruleLetter 18 = .ok (.aload_n 0, 1) := dk_42 (dk_at dksX10_ruleLetter_0 18 rfl rfl)
theorem dX10_ruleLetter_19 : decode cX10_ruleLetter 19 = .ok (.iload_n 1, 1) := dk_27 (dk_at dksX10_ruleLetter_0 19 rfl rfl)
theorem dX10_ruleLetter_20 : decode cX10_ruleLetter 20 = .ok (.iload_n 2, 1) := dk_28 (dk_at dksX10_ruleLetter_0 20 rfl rfl)
theorem dX10_ruleLetter_21 : decode cX10_ruleLetter 21 = .ok (.ifCond .eq 7, 3) := dk_153 0 7 (dk_at dksX10_ruleLetter_0 21 rfl rfl)
theorem dX10_ruleLetter_24 : decode cX10_ruleLetter 24 = .ok (.iconst 1, 1) := dk_4 (dk_at dksX10_ruleLetter_1 0 rfl rfl)
theorem dX10_ruleLetter_25 : decode cX10_ruleLetter 25 = .ok (.goto 4, 3) := dk_167 0 4 (dk_at dksX10_ruleLetter_1 1 rfl rfl)
theorem dX10_ruleLetter_28 : decode cX10_ruleLetter 28 = .ok (.iconst 0, 1) := dk_3 (dk_at dksX10_ruleLetter_1 4 rfl rfl)
theorem dX10_ruleLetter_29 : decode cX10_ruleLetter 29 = .ok (.invokevirtual 121, 3) := dk_182 0 121 (dk_at dksX10_ruleLetter_1 5 rfl rfl)
theorem dX10_ruleLetter_32 : decode cX10_ruleLetter 32 = .ok (.iload_n 3, 1) := dk_29 (dk_at dksX10_ruleLetter_1 8 rfl rfl)
theorem dX10_ruleLetter_33 : decode cX10_ruleLetter 33 = .ok (.invokevirtual 353, 3) := dk_182 1 97 (dk_at dksX10_ruleLetter_1 9 rfl rfl)
theorem dX10_ruleLetter_36 : decode cX10_ruleLetter 36 = .ok (.ireturn, 1) := dk_172 (dk_at dksX10_ruleLetter_1 12 rfl rfl)
abbrev cX10_noRule : ByteArray := prog_28_method_85_code
def yX10_noRule : MethodName := ⟨RX10, "noRule", "(I)Z"⟩
def dkwX10_noRule_0 : List UInt8 := [42, 27, 133, 9, 42, 6, 182, 0, 118, 4, 100, 133, 184, 0, 50, 4, 182, 1, 43, 172]
abbrev dktX10_noRule_0 : List UInt8 := dkwX10_noRule_0 ++ []
theorem dksX10_noRule_0 : cX10_noRule.data.toList.drop 0 = dktX10_noRule_0 := by decide +kernel
theorem dX10_noRule_0 : decode cX10_noRule 0 = .ok (.aload_n 0, 1) := dk_42 (dk_at dksX10_noRule_0 0 rfl rfl)
theorem dX10_noRule_1 : decode cX10_noRule 1 = .ok (.iload_n 1, 1) := dk_27 (dk_at dksX10_noRule_0 1 rfl rfl)
theorem dX10_noRule_2 : decode cX10_noRule 2 = .ok (.i2l, 1) := dk_133 (dk_at dksX10_noRule_0 2 rfl rfl)
theorem dX10_noRule_3 : decode cX10_noRule 3 = .ok (.lconst 0, 1) := dk_9 (dk_at dksX10_noRule_0 3 rfl rfl)
theorem dX10_noRule_4 : decode cX10_noRule 4 = .ok (.aload_n 0, 1) := dk_42 (dk_at dksX10_noRule_0 4 rfl rfl)
theorem dX10_noRule_5 : decode cX10_noRule 5 = .ok (.iconst 3, 1) := dk_6 (dk_at dksX10_noRule_0 5 rfl rfl)
theorem dX10_noRule_6 : decode cX10_noRule 6 = .ok (.invokevirtual 118, 3) := dk_182 0 118 (dk_at dksX10_noRule_0 6 rfl rfl)
theorem dX10_noRule_9 : decode cX10_noRule 9 = .ok (.iconst 1, 1) := dk_4 (dk_at dksX10_noRule_0 9 rfl rfl)
theorem dX10_noRule_10 : decode cX10_noRule 10 = .ok (.isub, 1) := dk_100 (dk_at dksX10_noRule_0 10 rfl rfl)
theorem dX10_noRule_11 : decode cX10_noRule 11 = .ok (.i2l, 1) := dk_133 (dk_at dksX10_noRule_0 11 rfl rfl)
theorem dX10_noRule_12 : decode cX10_noRule 12 = .ok (.invokestatic 50, 3) := dk_184 0 50 (dk_at dksX10_noRule_0 12 rfl rfl)
theorem dX10_noRule_15 : decode cX10_noRule 15 = .ok (.iconst 1, 1) := dk_4 (dk_at dksX10_noRule_0 15 rfl rfl)
theorem dX10_noRule_16 : decode cX10_noRule 16 = .ok (.invokevirtual 299, 3) := dk_182 1 43 (dk_at dksX10_noRule_0 16 rfl rfl)
theorem dX10_noRule_19 : decode cX10_noRule 19 = .ok (.ireturn, 1) := dk_172 (dk_at dksX10_noRule_0 19 rfl rfl)
abbrev cX10_shelf : ByteArray := prog_28_method_90_code
def yX10_shelf : MethodName := ⟨RX10, "shelf", "(II)I"⟩
def dkwX10_shelf_5 : List UInt8 := [27, 3, 182, 1, 110, 172, 42, 27, 4, 182, 1, 110, 172]
abbrev dktX10_shelf_5 : List UInt8 := dkwX10_shelf_5 ++ []
def dkwX10_shelf_4 : List UInt8 := [4, 182, 0, 118, 164, 0, 17, 42, 27, 182, 0, 196, 42, 4, 182, 0, 118, 100, 167, 0, 4, 3, 172, 42]
abbrev dktX10_shelf_4 : List UInt8 := dkwX10_shelf_4 ++ dktX10_shelf_5
def dkwX10_shelf_3 : List UInt8 := [42, 27, 182, 0, 189, 172, 42, 27, 182, 1, 107, 172, 42, 27, 182, 0, 196, 172, 42, 27, 182, 0, 196, 42]
abbrev dktX10_shelf_3 : List UInt8 := dkwX10_shelf_3 ++ dktX10_shelf_4
def dkwX10_shelf_2 : List UInt8 := [170, 0, 0, 0, 0, 0, 89, 0, 0, 0, 0, 0, 0, 0, 4, 0, 0, 0, 35, 0, 0, 0, 41, 0, 0, 0, 47, 0, 0, 0, 53, 0, 0, 0, 82]
abbrev dktX10_shelf_2 : List UInt8 := dkwX10_shelf_2 ++ dktX10_shelf_3
def dkwX10_shelf_1 : List UInt8 := [182, 1, 43, 153, 0, 5, 3, 172, 28]
abbrev dktX10_shelf_1 : List UInt8 := dkwX10_shelf_1 ++ dktX10_shelf_2
def dkwX10_shelf_0 : List UInt8 := [42, 3, 181, 0, 1, 42, 27, 182, 1, 104, 154, 0, 20, 42, 28, 133, 9, 20, 1, 68, 184, 0, 50, 5]
abbrev dktX10_shelf_0 : List UInt8 := dkwX10_shelf_0 ++ dktX10_shelf_1
theorem dksX10_shelf_0 : cX10_shelf.data.toList.drop 0 = dktX10_shelf_0 := by decide +kernel
theorem dksX10_shelf_1 : cX10_shelf.data.toList.drop 24 = dktX10_shelf_1 := dk_seg dksX10_shelf_0 24 rfl rfl
theorem dksX10_shelf_2 : cX10_shelf.data.toList.drop 33 = dktX10_shelf_2 := dk_seg dksX10_shelf_1 9 rfl rfl
theorem dksX10_shelf_3 : cX10_shelf.data.toList.drop 68 = dktX10_shelf_3 := dk_seg dksX10_shelf_2 35 rfl rfl
theorem dksX10_shelf_4 : cX10_shelf.data.toList.drop 92 = dktX10_shelf_4 := dk_seg dksX10_shelf_3 24 rfl rfl
theorem dksX10_shelf_5 : cX10_shelf.data.toList.drop 116 = dktX10_shelf_5 := dk_seg dksX10_shelf_4 24 rfl rfl
theorem dX10_shelf_0 : decode cX10_shelf 0 = .ok (.aload_n 0, 1) := dk_42 (dk_at dksX10_shelf_0 0 rfl rfl)
theorem dX10_shelf_1 : decode cX10_shelf 1 = .ok (.iconst 0, 1) := dk_3 (dk_at dksX10_shelf_0 1 rfl rfl)
theorem dX10_shelf_2 : decode cX10_shelf 2 = .ok (.putfield 1, 3) := dk_181 0 1 (dk_at dksX10_shelf_0 2 rfl rfl)
theorem dX10_shelf_5 : decode cX10_shelf 5 = .ok (.aload_n 0, 1) := dk_42 (dk_at dksX10_shelf_0 5 rfl rfl)
theorem dX10_shelf_6 : decode cX10_shelf 6 = .ok (.iload_n 1, 1) := dk_27 (dk_at dksX10_shelf_0 6 rfl rfl)
theorem dX10_shelf_7 : decode cX10_shelf 7 = .ok (.invokevirtual 360, 3) := dk_182 1 104 (dk_at dksX10_shelf_0 7 rfl rfl)
theorem dX10_shelf_10 : decode cX10_shelf 10 = .ok (.ifCond .ne 20, 3) := dk_154 0 20 (dk_at dksX10_shelf_0 10 rfl rfl)
theorem dX10_shelf_13 : decode cX10_shelf 13 = .ok (.aload_n 0, 1) := dk_42 (dk_at dksX10_shelf_0 13 rfl rfl)
theorem dX10_shelf_14 : decode cX10_shelf 14 = .ok (.iload_n 2, 1) := dk_28 (dk_at dksX10_shelf_0 14 rfl rfl)
theorem dX10_shelf_15 : decode cX10_shelf 15 = .ok (.i2l, 1) := dk_133 (dk_at dksX10_shelf_0 15 rfl rfl)
theorem dX10_shelf_16 : decode cX10_shelf 16 = .ok (.lconst 0, 1) := dk_9 (dk_at dksX10_shelf_0 16 rfl rfl)
theorem dX10_shelf_17 : decode cX10_shelf 17 = .ok (.ldc2_w 324, 3) := dk_20 1 68 (dk_at dksX10_shelf_0 17 rfl rfl)
theorem dX10_shelf_20 : decode cX10_shelf 20 = .ok (.invokestatic 50, 3) := dk_184 0 50 (dk_at dksX10_shelf_0 20 rfl rfl)
theorem dX10_shelf_23 : decode cX10_shelf 23 = .ok (.iconst 2, 1) := dk_5 (dk_at dksX10_shelf_0 23 rfl rfl)
theorem dX10_shelf_24 : decode cX10_shelf 24 = .ok (.invokevirtual 299, 3) := dk_182 1 43 (dk_at dksX10_shelf_1 0 rfl rfl)
theorem dX10_shelf_27 : decode cX10_shelf 27 = .ok (.ifCond .eq 5, 3) := dk_153 0 5 (dk_at dksX10_shelf_1 3 rfl rfl)
theorem dX10_shelf_30 : decode cX10_shelf 30 = .ok (.iconst 0, 1) := dk_3 (dk_at dksX10_shelf_1 6 rfl rfl)
theorem dX10_shelf_31 : decode cX10_shelf 31 = .ok (.ireturn, 1) := dk_172 (dk_at dksX10_shelf_1 7 rfl rfl)
theorem dX10_shelf_32 : decode cX10_shelf 32 = .ok (.iload_n 2, 1) := dk_28 (dk_at dksX10_shelf_1 8 rfl rfl)
theorem dX10_shelf_33 : decode cX10_shelf 33 = .ok (.tableswitch 89 0 4 #[35, 41, 47, 53, 82], 35) := by decide +kernel
theorem dX10_shelf_68 : decode cX10_shelf 68 = .ok (.aload_n 0, 1) := dk_42 (dk_at dksX10_shelf_3 0 rfl rfl)
theorem dX10_shelf_69 : decode cX10_shelf 69 = .ok (.iload_n 1, 1) := dk_27 (dk_at dksX10_shelf_3 1 rfl rfl)
theorem dX10_shelf_70 : decode cX10_shelf 70 = .ok (.invokevirtual 189, 3) := dk_182 0 189 (dk_at dksX10_shelf_3 2 rfl rfl)
theorem dX10_shelf_73 : decode cX10_shelf 73 = .ok (.ireturn, 1) := dk_172 (dk_at dksX10_shelf_3 5 rfl rfl)
theorem dX10_shelf_74 : decode cX10_shelf 74 = .ok (.aload_n 0, 1) := dk_42 (dk_at dksX10_shelf_3 6 rfl rfl)
theorem dX10_shelf_75 : decode cX10_shelf 75 = .ok (.iload_n 1, 1) := dk_27 (dk_at dksX10_shelf_3 7 rfl rfl)
theorem dX10_shelf_76 : decode cX10_shelf 76 = .ok (.invokevirtual 363, 3) := dk_182 1 107 (dk_at dksX10_shelf_3 8 rfl rfl)
theorem dX10_shelf_79 : decode cX10_shelf 79 = .ok (.ireturn, 1) := dk_172 (dk_at dksX10_shelf_3 11 rfl rfl)
theorem dX10_shelf_80 : decode cX10_shelf 80 = .ok (.aload_n 0, 1) := dk_42 (dk_at dksX10_shelf_3 12 rfl rfl)
theorem dX10_shelf_81 : decode cX10_shelf 81 = .ok (.iload_n 1, 1) := dk_27 (dk_at dksX10_shelf_3 13 rfl rfl)
theorem dX10_shelf_82 : decode cX10_shelf 82 = .ok (.invokevirtual 196, 3) := dk_182 0 196 (dk_at dksX10_shelf_3 14 rfl rfl)
theorem dX10_shelf_85 : decode cX10_shelf 85 = .ok (.ireturn, 1) := dk_172 (dk_at dksX10_shelf_3 17 rfl rfl)
theorem dX10_shelf_86 : decode cX10_shelf 86 = .ok (.aload_n 0, 1) := dk_42 (dk_at dksX10_shelf_3 18 rfl rfl)
theorem dX10_shelf_87 : decode cX10_shelf 87 = .ok (.iload_n 1, 1) := dk_27 (dk_at dksX10_shelf_3 19 rfl rfl)
theorem dX10_shelf_88 : decode cX10_shelf 88 = .ok (.invokevirtual 196, 3) := dk_182 0 196 (dk_at dksX10_shelf_3 20 rfl rfl)
theorem dX10_shelf_91 : decode cX10_shelf 91 = .ok (.aload_n 0, 1) := dk_42 (dk_at dksX10_shelf_3 23 rfl rfl)
theorem dX10_shelf_92 : decode cX10_shelf 92 = .ok (.iconst 1, 1) := dk_4 (dk_at dksX10_shelf_4 0 rfl rfl)
theorem dX10_shelf_93 : decode cX10_shelf 93 = .ok (.invokevirtual 118, 3) := dk_182 0 118 (dk_at dksX10_shelf_4 1 rfl rfl)
theorem dX10_shelf_96 : decode cX10_shelf 96 = .ok (.if_icmp .le 17, 3) := dk_164 0 17 (dk_at dksX10_shelf_4 4 rfl rfl)
theorem dX10_shelf_99 : decode cX10_shelf 99 = .ok (.aload_n 0, 1) := dk_42 (dk_at dksX10_shelf_4 7 rfl rfl)
theorem dX10_shelf_100 : decode cX10_shelf 100 = .ok (.iload_n 1, 1) := dk_27 (dk_at dksX10_shelf_4 8 rfl rfl)
theorem dX10_shelf_101 : decode cX10_shelf 101 = .ok (.invokevirtual 196, 3) := dk_182 0 196 (dk_at dksX10_shelf_4 9 rfl rfl)
theorem dX10_shelf_104 : decode cX10_shelf 104 = .ok (.aload_n 0, 1) := dk_42 (dk_at dksX10_shelf_4 12 rfl rfl)
theorem dX10_shelf_105 : decode cX10_shelf 105 = .ok (.iconst 1, 1) := dk_4 (dk_at dksX10_shelf_4 13 rfl rfl)
theorem dX10_shelf_106 : decode cX10_shelf 106 = .ok (.invokevirtual 118, 3) := dk_182 0 118 (dk_at dksX10_shelf_4 14 rfl rfl)
theorem dX10_shelf_109 : decode cX10_shelf 109 = .ok (.isub, 1) := dk_100 (dk_at dksX10_shelf_4 17 rfl rfl)
theorem dX10_shelf_110 : decode cX10_shelf 110 = .ok (.goto 4, 3) := dk_167 0 4 (dk_at dksX10_shelf_4 18 rfl rfl)
theorem dX10_shelf_113 : decode cX10_shelf 113 = .ok (.iconst 0, 1) := dk_3 (dk_at dksX10_shelf_4 21 rfl rfl)
theorem dX10_shelf_114 : decode cX10_shelf 114 = .ok (.ireturn, 1) := dk_172 (dk_at dksX10_shelf_4 22 rfl rfl)
theorem dX10_shelf_115 : decode cX10_shelf 115 = .ok (.aload_n 0, 1) := dk_42 (dk_at dksX10_shelf_4 23 rfl rfl)
theorem dX10_shelf_116 : decode cX10_shelf 116 = .ok (.iload_n 1, 1) := dk_27 (dk_at dksX10_shelf_5 0 rfl rfl)
theorem dX10_shelf_117 : decode cX10_shelf 117 = .ok (.iconst 0, 1) := dk_3 (dk_at dksX10_shelf_5 1 rfl rfl)
theorem dX10_shelf_118 : decode cX10_shelf 118 = .ok (.invokevirtual 366, 3) := dk_182 1 110 (dk_at dksX10_shelf_5 2 rfl rfl)
theorem dX10_shelf_121 : decode cX10_shelf 121 = .ok (.ireturn, 1) := dk_172 (dk_at dksX10_shelf_5 5 rfl rfl)
theorem dX10_shelf_122 : decode cX10_shelf 122 = .ok (.aload_n 0, 1) := dk_42 (dk_at dksX10_shelf_5 6 rfl rfl)
theorem dX10_shelf_123 : decode cX10_shelf 123 = .ok (.iload_n 1, 1) := dk_27 (dk_at dksX10_shelf_5 7 rfl rfl)
theorem dX10_shelf_124 : decode cX10_shelf 124 = .ok (.iconst 1, 1) := dk_4 (dk_at dksX10_shelf_5 8 rfl rfl)
theorem dX10_shelf_125 : decode cX10_shelf 125 = .ok (.invokevirtual 366, 3) := dk_182 1 110 (dk_at dksX10_shelf_5 9 rfl rfl)
theorem dX10_shelf_128 : decode cX10_shelf 128 = .ok (.ireturn, 1) := dk_172 (dk_at dksX10_shelf_5 12 rfl rfl)
abbrev cX10_noShelf : ByteArray := prog_28_method_87_code
def yX10_noShelf : MethodName := ⟨RX10, "noShelf", "(I)Z"⟩
def dkwX10_noShelf_0 : List UInt8 := [42, 27, 133, 9, 42, 3, 182, 0, 118, 4, 100, 133, 184, 0, 50, 4, 182, 1, 43, 172]
abbrev dktX10_noShelf_0 : List UInt8 := dkwX10_noShelf_0 ++ []
theorem dksX10_noShelf_0 : cX10_noShelf.data.toList.drop 0 = dktX10_noShelf_0 := by decide +kernel
theorem dX10_noShelf_0 : decode cX10_noShelf 0 = .ok (.aload_n 0, 1) := dk_42 (dk_at dksX10_noShelf_0 0 rfl rfl)
theorem dX10_noShelf_1 : decode cX10_noShelf 1 = .ok (.iload_n 1, 1) := dk_27 (dk_at dksX10_noShelf_0 1 rfl rfl)
theorem dX10_noShelf_2 : decode cX10_noShelf 2 = .ok (.i2l, 1) := dk_133 (dk_at dksX10_noShelf_0 2 rfl rfl)
theorem dX10_noShelf_3 : decode cX10_noShelf 3 = .ok (.lconst 0, 1) := dk_9 (dk_at dksX10_noShelf_0 3 rfl rfl)
theorem dX10_noShelf_4 : decode cX10_noShelf 4 = .ok (.aload_n 0, 1) := dk_42 (dk_at dksX10_noShelf_0 4 rfl rfl)
theorem dX10_noShelf_5 : decode cX10_noShelf 5 = .ok (.iconst 0, 1) := dk_3 (dk_at dksX10_noShelf_0 5 rfl rfl)
theorem dX10_noShelf_6 : decode cX10_noShelf 6 = .ok (.invokevirtual 118, 3) := dk_182 0 118 (dk_at dksX10_noShelf_0 6 rfl rfl)
theorem dX10_noShelf_9 : decode cX10_noShelf 9 = .ok (.iconst 1, 1) := dk_4 (dk_at dksX10_noShelf_0 9 rfl rfl)
theorem dX10_noShelf_10 : decode cX10_noShelf 10 = .ok (.isub, 1) := dk_100 (dk_at dksX10_noShelf_0 10 rfl rfl)
theorem dX10_noShelf_11 : decode cX10_noShelf 11 = .ok (.i2l, 1) := dk_133 (dk_at dksX10_noShelf_0 11 rfl rfl)
theorem dX10_noShelf_12 : decode cX10_noShelf 12 = .ok (.invokestatic 50, 3) := dk_184 0 50 (dk_at dksX10_noShelf_0 12 rfl rfl)
theorem dX10_noShelf_15 : decode cX10_noShelf 15 = .ok (.iconst 1, 1) := dk_4 (dk_at dksX10_noShelf_0 15 rfl rfl)
theorem dX10_noShelf_16 : decode cX10_noShelf 16 = .ok (.invokevirtual 299, 3) := dk_182 1 43 (dk_at dksX10_noShelf_0 16 rfl rfl)
theorem dX10_noShelf_19 : decode cX10_noShelf 19 = .ok (.ireturn, 1) := dk_172 (dk_at dksX10_noShelf_0 19 rfl rfl)
abbrev cX10_marksOn : ByteArray := prog_28_method_88_code
def yX10_marksOn : MethodName := ⟨RX10, "marksOn", "(I)I"⟩
def dkwX10_marksOn_1 : List UInt8 := [132, 2, 1, 132, 3, 1, 167, 255, 232, 28, 172]
abbrev dktX10_marksOn_1 : List UInt8 := dkwX10_marksOn_1 ++ []
def dkwX10_marksOn_0 : List UInt8 := [3, 61, 3, 62, 29, 42, 5, 182, 0, 118, 162, 0, 21, 42, 29, 27, 182, 0, 192, 153, 0, 6]
abbrev dktX10_marksOn_0 : List UInt8 := dkwX10_marksOn_0 ++ dktX10_marksOn_1
theorem dksX10_marksOn_0 : cX10_marksOn.data.toList.drop 0 = dktX10_marksOn_0 := by decide +kernel
theorem dksX10_marksOn_1 : cX10_marksOn.data.toList.drop 22 = dktX10_marksOn_1 := dk_seg dksX10_marksOn_0 22 rfl rfl
theorem dX10_marksOn_0 : decode cX10_marksOn 0 = .ok (.iconst 0, 1) := dk_3 (dk_at dksX10_marksOn_0 0 rfl rfl)
theorem dX10_marksOn_1 : decode cX10_marksOn 1 = .ok (.istore_n 2, 1) := dk_61 (dk_at dksX10_marksOn_0 1 rfl rfl)
theorem dX10_marksOn_2 : decode cX10_marksOn 2 = .ok (.iconst 0, 1) := dk_3 (dk_at dksX10_marksOn_0 2 rfl rfl)
theorem dX10_marksOn_3 : decode cX10_marksOn 3 = .ok (.istore_n 3, 1) := dk_62 (dk_at dksX10_marksOn_0 3 rfl rfl)
theorem dX10_marksOn_4 : decode cX10_marksOn 4 = .ok (.iload_n 3, 1) := dk_29 (dk_at dksX10_marksOn_0 4 rfl rfl)
theorem dX10_marksOn_5 : decode cX10_marksOn 5 = .ok (.aload_n 0, 1) := dk_42 (dk_at dksX10_marksOn_0 5 rfl rfl)
theorem dX10_marksOn_6 : decode cX10_marksOn 6 = .ok (.iconst 2, 1) := dk_5 (dk_at dksX10_marksOn_0 6 rfl rfl)
theorem dX10_marksOn_7 : decode cX10_marksOn 7 = .ok (.invokevirtual 118, 3) := dk_182 0 118 (dk_at dksX10_marksOn_0 7 rfl rfl)
theorem dX10_marksOn_10 : decode cX10_marksOn 10 = .ok (.if_icmp .ge 21, 3) := dk_162 0 21 (dk_at dksX10_marksOn_0 10 rfl rfl)
theorem dX10_marksOn_13 : decode cX10_marksOn 13 = .ok (.aload_n 0, 1) := dk_42 (dk_at dksX10_marksOn_0 13 rfl rfl)
theorem dX10_marksOn_14 : decode cX10_marksOn 14 = .ok (.iload_n 3, 1) := dk_29 (dk_at dksX10_marksOn_0 14 rfl rfl)
theorem dX10_marksOn_15 : decode cX10_marksOn 15 = .ok (.iload_n 1, 1) := dk_27 (dk_at dksX10_marksOn_0 15 rfl rfl)
theorem dX10_marksOn_16 : decode cX10_marksOn 16 = .ok (.invokevirtual 192, 3) := dk_182 0 192 (dk_at dksX10_marksOn_0 16 rfl rfl)
theorem dX10_marksOn_19 : decode cX10_marksOn 19 = .ok (.ifCond .eq 6, 3) := dk_153 0 6 (dk_at dksX10_marksOn_0 19 rfl rfl)
theorem dX10_marksOn_22 : decode cX10_marksOn 22 = .ok (.iinc 2 1, 3) := dk_132 2 1 (dk_at dksX10_marksOn_1 0 rfl rfl)
theorem dX10_marksOn_25 : decode cX10_marksOn 25 = .ok (.iinc 3 1, 3) := dk_132 3 1 (dk_at dksX10_marksOn_1 3 rfl rfl)
theorem dX10_marksOn_28 : decode cX10_marksOn 28 = .ok (.goto (-24), 3) := dk_167 255 232 (dk_at dksX10_marksOn_1 6 rfl rfl)
theorem dX10_marksOn_31 : decode cX10_marksOn 31 = .ok (.iload_n 2, 1) := dk_28 (dk_at dksX10_marksOn_1 9 rfl rfl)
theorem dX10_marksOn_32 : decode cX10_marksOn 32 = .ok (.ireturn, 1) := dk_172 (dk_at dksX10_marksOn_1 10 rfl rfl)
abbrev cX10_endOf : ByteArray := prog_28_method_89_code
def yX10_endOf : MethodName := ⟨RX10, "endOf", "(IZ)I"⟩
def dkwX10_endOf_2 : List UInt8 := [167, 255, 216, 29, 172]
abbrev dktX10_endOf_2 : List UInt8 := dkwX10_endOf_2 ++ []
def dkwX10_endOf_1 : List UInt8 := [153, 0, 20, 28, 154, 0, 8, 29, 2, 160, 0, 11, 42, 21, 4, 3, 182, 0, 129, 62, 132, 4, 1]
abbrev dktX10_endOf_1 : List UInt8 := dkwX10_endOf_1 ++ dktX10_endOf_2
def dkwX10_endOf_0 : List UInt8 := [2, 62, 3, 54, 4, 21, 4, 42, 5, 182, 0, 118, 162, 0, 36, 42, 21, 4, 27, 182, 0, 192]
abbrev dktX10_endOf_0 : List UInt8 := dkwX10_endOf_0 ++ dktX10_endOf_1
theorem dksX10_endOf_0 : cX10_endOf.data.toList.drop 0 = dktX10_endOf_0 := by decide +kernel
theorem dksX10_endOf_1 : cX10_endOf.data.toList.drop 22 = dktX10_endOf_1 := dk_seg dksX10_endOf_0 22 rfl rfl
theorem dksX10_endOf_2 : cX10_endOf.data.toList.drop 45 = dktX10_endOf_2 := dk_seg dksX10_endOf_1 23 rfl rfl
theorem dX10_endOf_0 : decode cX10_endOf 0 = .ok (.iconst (-1), 1) := dk_2 (dk_at dksX10_endOf_0 0 rfl rfl)
theorem dX10_endOf_1 : decode cX10_endOf 1 = .ok (.istore_n 3, 1) := dk_62 (dk_at dksX10_endOf_0 1 rfl rfl)
theorem dX10_endOf_2 : decode cX10_endOf 2 = .ok (.iconst 0, 1) := dk_3 (dk_at dksX10_endOf_0 2 rfl rfl)
theorem dX10_endOf_3 : decode cX10_endOf 3 = .ok (.istore 4, 2) := dk_54 4 (dk_at dksX10_endOf_0 3 rfl rfl)
theorem dX10_endOf_5 : decode cX10_endOf 5 = .ok (.iload 4, 2) := dk_21 4 (dk_at dksX10_endOf_0 5 rfl rfl)
theorem dX10_endOf_7 : decode cX10_endOf 7 = .ok (.aload_n 0, 1) := dk_42 (dk_at dksX10_endOf_0 7 rfl rfl)
theorem dX10_endOf_8 : decode cX10_endOf 8 = .ok (.iconst 2, 1) := dk_5 (dk_at dksX10_endOf_0 8 rfl rfl)
theorem dX10_endOf_9 : decode cX10_endOf 9 = .ok (.invokevirtual 118, 3) := dk_182 0 118 (dk_at dksX10_endOf_0 9 rfl rfl)
theorem dX10_endOf_12 : decode cX10_endOf 12 = .ok (.if_icmp .ge 36, 3) := dk_162 0 36 (dk_at dksX10_endOf_0 12 rfl rfl)
theorem dX10_endOf_15 : decode cX10_endOf 15 = .ok (.aload_n 0, 1) := dk_42 (dk_at dksX10_endOf_0 15 rfl rfl)
theorem dX10_endOf_16 : decode cX10_endOf 16 = .ok (.iload 4, 2) := dk_21 4 (dk_at dksX10_endOf_0 16 rfl rfl)
theorem dX10_endOf_18 : decode cX10_endOf 18 = .ok (.iload_n 1, 1) := dk_27 (dk_at dksX10_endOf_0 18 rfl rfl)
theorem dX10_endOf_19 : decode cX10_endOf 19 = .ok (.invokevirtual 192, 3) := dk_182 0 192 (dk_at dksX10_endOf_0 19 rfl rfl)
theorem dX10_endOf_22 : decode cX10_endOf 22 = .ok (.ifCond .eq 20, 3) := dk_153 0 20 (dk_at dksX10_endOf_1 0 rfl rfl)
theorem dX10_endOf_25 : decode cX10_endOf 25 = .ok (.iload_n 2, 1) := dk_28 (dk_at dksX10_endOf_1 3 rfl rfl)
theorem dX10_endOf_26 : decode cX10_endOf 26 = .ok (.ifCond .ne 8, 3) := dk_154 0 8 (dk_at dksX10_endOf_1 4 rfl rfl)
theorem dX10_endOf_29 : decode cX10_endOf 29 = .ok (.iload_n 3, 1) := dk_29 (dk_at dksX10_endOf_1 7 rfl rfl)
theorem dX10_endOf_30 : decode cX10_endOf 30 = .ok (.iconst (-1), 1) := dk_2 (dk_at dksX10_endOf_1 8 rfl rfl)
theorem dX10_endOf_31 : decode cX10_endOf 31 = .ok (.if_icmp .ne 11, 3) := dk_160 0 11 (dk_at dksX10_endOf_1 9 rfl rfl)
theorem dX10_endOf_34 : decode cX10_endOf 34 = .ok (.aload_n 0, 1) := dk_42 (dk_at dksX10_endOf_1 12 rfl rfl)
theorem dX10_endOf_35 : decode cX10_endOf 35 = .ok (.iload 4, 2) := dk_21 4 (dk_at dksX10_endOf_1 13 rfl rfl)
theorem dX10_endOf_37 : decode cX10_endOf 37 = .ok (.iconst 0, 1) := dk_3 (dk_at dksX10_endOf_1 15 rfl rfl)
theorem dX10_endOf_38 : decode cX10_endOf 38 = .ok (.invokevirtual 129, 3) := dk_182 0 129 (dk_at dksX10_endOf_1 16 rfl rfl)
theorem dX10_endOf_41 : decode cX10_endOf 41 = .ok (.istore_n 3, 1) := dk_62 (dk_at dksX10_endOf_1 19 rfl rfl)
theorem dX10_endOf_42 : decode cX10_endOf 42 = .ok (.iinc 4 1, 3) := dk_132 4 1 (dk_at dksX10_endOf_1 20 rfl rfl)
theorem dX10_endOf_45 : decode cX10_endOf 45 = .ok (.goto (-40), 3) := dk_167 255 216 (dk_at dksX10_endOf_2 0 rfl rfl)
theorem dX10_endOf_48 : decode cX10_endOf 48 = .ok (.iload_n 3, 1) := dk_29 (dk_at dksX10_endOf_2 3 rfl rfl)
theorem dX10_endOf_49 : decode cX10_endOf 49 = .ok (.ireturn, 1) := dk_172 (dk_at dksX10_endOf_2 4 rfl rfl)
abbrev cX10_gap : ByteArray := prog_28_method_91_code
def yX10_gap : MethodName := ⟨RX10, "gap", "()I"⟩
def dkwX10_gap_3 : List UInt8 := [182, 0, 189, 42, 28, 4, 100, 182, 0, 189, 162, 0, 6, 132, 1, 1, 132, 2, 1, 167, 255, 226, 27, 172]
abbrev dktX10_gap_3 : List UInt8 := dkwX10_gap_3 ++ []
def dkwX10_gap_2 : List UInt8 := [132, 1, 1, 132, 2, 1, 167, 255, 213, 4, 61, 28, 42, 3, 182, 0, 118, 162, 0, 27, 42, 28]
abbrev dktX10_gap_2 : List UInt8 := dkwX10_gap_2 ++ dktX10_gap_3
def dkwX10_gap_1 : List UInt8 := [42, 28, 4, 100, 5, 182, 0, 129, 164, 0, 14, 42, 28, 4, 100, 28, 182, 0, 147, 155, 0, 6]
abbrev dktX10_gap_1 : List UInt8 := dkwX10_gap_1 ++ dktX10_gap_2
def dkwX10_gap_0 : List UInt8 := [42, 3, 181, 0, 1, 3, 60, 4, 61, 28, 42, 5, 182, 0, 118, 162, 0, 40, 42, 28, 5, 182, 0, 129]
abbrev dktX10_gap_0 : List UInt8 := dkwX10_gap_0 ++ dktX10_gap_1
theorem dksX10_gap_0 : cX10_gap.data.toList.drop 0 = dktX10_gap_0 := by decide +kernel
theorem dksX10_gap_1 : cX10_gap.data.toList.drop 24 = dktX10_gap_1 := dk_seg dksX10_gap_0 24 rfl rfl
theorem dksX10_gap_2 : cX10_gap.data.toList.drop 46 = dktX10_gap_2 := dk_seg dksX10_gap_1 22 rfl rfl
theorem dksX10_gap_3 : cX10_gap.data.toList.drop 68 = dktX10_gap_3 := dk_seg dksX10_gap_2 22 rfl rfl
theorem dX10_gap_0 : decode cX10_gap 0 = .ok (.aload_n 0, 1) := dk_42 (dk_at dksX10_gap_0 0 rfl rfl)
theorem dX10_gap_1 : decode cX10_gap 1 = .ok (.iconst 0, 1) := dk_3 (dk_at dksX10_gap_0 1 rfl rfl)
theorem dX10_gap_2 : decode cX10_gap 2 = .ok (.putfield 1, 3) := dk_181 0 1 (dk_at dksX10_gap_0 2 rfl rfl)
theorem dX10_gap_5 : decode cX10_gap 5 = .ok (.iconst 0, 1) := dk_3 (dk_at dksX10_gap_0 5 rfl rfl)
theorem dX10_gap_6 : decode cX10_gap 6 = .ok (.istore_n 1, 1) := dk_60 (dk_at dksX10_gap_0 6 rfl rfl)
theorem dX10_gap_7 : decode cX10_gap 7 = .ok (.iconst 1, 1) := dk_4 (dk_at dksX10_gap_0 7 rfl rfl)
theorem dX10_gap_8 : decode cX10_gap 8 = .ok (.istore_n 2, 1) := dk_61 (dk_at dksX10_gap_0 8 rfl rfl)
theorem dX10_gap_9 : decode cX10_gap 9 = .ok (.iload_n 2, 1) := dk_28 (dk_at dksX10_gap_0 9 rfl rfl)
theorem dX10_gap_10 : decode cX10_gap 10 = .ok (.aload_n 0, 1) := dk_42 (dk_at dksX10_gap_0 10 rfl rfl)
theorem dX10_gap_11 : decode cX10_gap 11 = .ok (.iconst 2, 1) := dk_5 (dk_at dksX10_gap_0 11 rfl rfl)
theorem dX10_gap_12 : decode cX10_gap 12 = .ok (.invokevirtual 118, 3) := dk_182 0 118 (dk_at dksX10_gap_0 12 rfl rfl)
theorem dX10_gap_15 : decode cX10_gap 15 = .ok (.if_icmp .ge 40, 3) := dk_162 0 40 (dk_at dksX10_gap_0 15 rfl rfl)
theorem dX10_gap_18 : decode cX10_gap 18 = .ok (.aload_n 0, 1) := dk_42 (dk_at dksX10_gap_0 18 rfl rfl)
theorem dX10_gap_19 : decode cX10_gap 19 = .ok (.iload_n 2, 1) := dk_28 (dk_at dksX10_gap_0 19 rfl rfl)
theorem dX10_gap_20 : decode cX10_gap 20 = .ok (.iconst 2, 1) := dk_5 (dk_at dksX10_gap_0 20 rfl rfl)
theorem dX10_gap_21 : decode cX10_gap 21 = .ok (.invokevirtual 129, 3) := dk_182 0 129 (dk_at dksX10_gap_0 21 rfl rfl)
theorem dX10_gap_24 : decode cX10_gap 24 = .ok (.aload_n 0, 1) := dk_42 (dk_at dksX10_gap_1 0 rfl rfl)
theorem dX10_gap_25 : decode cX10_gap 25 = .ok (.iload_n 2, 1) := dk_28 (dk_at dksX10_gap_1 1 rfl rfl)
theorem dX10_gap_26 : decode cX10_gap 26 = .ok (.iconst 1, 1) := dk_4 (dk_at dksX10_gap_1 2 rfl rfl)
theorem dX10_gap_27 : decode cX10_gap 27 = .ok (.isub, 1) := dk_100 (dk_at dksX10_gap_1 3 rfl rfl)
theorem dX10_gap_28 : decode cX10_gap 28 = .ok (.iconst 2, 1) := dk_5 (dk_at dksX10_gap_1 4 rfl rfl)
theorem dX10_gap_29 : decode cX10_gap 29 = .ok (.invokevirtual 129, 3) := dk_182 0 129 (dk_at dksX10_gap_1 5 rfl rfl)
theorem dX10_gap_32 : decode cX10_gap 32 = .ok (.if_icmp .le 14, 3) := dk_164 0 14 (dk_at dksX10_gap_1 8 rfl rfl)
theorem dX10_gap_35 : decode cX10_gap 35 = .ok (.aload_n 0, 1) := dk_42 (dk_at dksX10_gap_1 11 rfl rfl)
theorem dX10_gap_36 : decode cX10_gap 36 = .ok (.iload_n 2, 1) := dk_28 (dk_at dksX10_gap_1 12 rfl rfl)
theorem dX10_gap_37 : decode cX10_gap 37 = .ok (.iconst 1, 1) := dk_4 (dk_at dksX10_gap_1 13 rfl rfl)
theorem dX10_gap_38 : decode cX10_gap 38 = .ok (.isub, 1) := dk_100 (dk_at dksX10_gap_1 14 rfl rfl)
theorem dX10_gap_39 : decode cX10_gap 39 = .ok (.iload_n 2, 1) := dk_28 (dk_at dksX10_gap_1 15 rfl rfl)
theorem dX10_gap_40 : decode cX10_gap 40 = .ok (.invokevirtual 147, 3) := dk_182 0 147 (dk_at dksX10_gap_1 16 rfl rfl)
theorem dX10_gap_43 : decode cX10_gap 43 = .ok (.ifCond .lt 6, 3) := dk_155 0 6 (dk_at dksX10_gap_1 19 rfl rfl)
theorem dX10_gap_46 : decode cX10_gap 46 = .ok (.iinc 1 1, 3) := dk_132 1 1 (dk_at dksX10_gap_2 0 rfl rfl)
theorem dX10_gap_49 : decode cX10_gap 49 = .ok (.iinc 2 1, 3) := dk_132 2 1 (dk_at dksX10_gap_2 3 rfl rfl)
theorem dX10_gap_52 : decode cX10_gap 52 = .ok (.goto (-43), 3) := dk_167 255 213 (dk_at dksX10_gap_2 6 rfl rfl)
theorem dX10_gap_55 : decode cX10_gap 55 = .ok (.iconst 1, 1) := dk_4 (dk_at dksX10_gap_2 9 rfl rfl)
theorem dX10_gap_56 : decode cX10_gap 56 = .ok (.istore_n 2, 1) := dk_61 (dk_at dksX10_gap_2 10 rfl rfl)
theorem dX10_gap_57 : decode cX10_gap 57 = .ok (.iload_n 2, 1) := dk_28 (dk_at dksX10_gap_2 11 rfl rfl)
theorem dX10_gap_58 : decode cX10_gap 58 = .ok (.aload_n 0, 1) := dk_42 (dk_at dksX10_gap_2 12 rfl rfl)
theorem dX10_gap_59 : decode cX10_gap 59 = .ok (.iconst 0, 1) := dk_3 (dk_at dksX10_gap_2 13 rfl rfl)
theorem dX10_gap_60 : decode cX10_gap 60 = .ok (.invokevirtual 118, 3) := dk_182 0 118 (dk_at dksX10_gap_2 14 rfl rfl)
theorem dX10_gap_63 : decode cX10_gap 63 = .ok (.if_icmp .ge 27, 3) := dk_162 0 27 (dk_at dksX10_gap_2 17 rfl rfl)
theorem dX10_gap_66 : decode cX10_gap 66 = .ok (.aload_n 0, 1) := dk_42 (dk_at dksX10_gap_2 20 rfl rfl)
theorem dX10_gap_67 : decode cX10_gap 67 = .ok (.iload_n 2, 1) := dk_28 (dk_at dksX10_gap_2 21 rfl rfl)
theorem dX10_gap_68 : decode cX10_gap 68 = .ok (.invokevirtual 189, 3) := dk_182 0 189 (dk_at dksX10_gap_3 0 rfl rfl)
theorem dX10_gap_71 : decode cX10_gap 71 = .ok (.aload_n 0, 1) := dk_42 (dk_at dksX10_gap_3 3 rfl rfl)
theorem dX10_gap_72 : decode cX10_gap 72 = .ok (.iload_n 2, 1) := dk_28 (dk_at dksX10_gap_3 4 rfl rfl)
theorem dX10_gap_73 : decode cX10_gap 73 = .ok (.iconst 1, 1) := dk_4 (dk_at dksX10_gap_3 5 rfl rfl)
theorem dX10_gap_74 : decode cX10_gap 74 = .ok (.isub, 1) := dk_100 (dk_at dksX10_gap_3 6 rfl rfl)
theorem dX10_gap_75 : decode cX10_gap 75 = .ok (.invokevirtual 189, 3) := dk_182 0 189 (dk_at dksX10_gap_3 7 rfl rfl)
theorem dX10_gap_78 : decode cX10_gap 78 = .ok (.if_icmp .ge 6, 3) := dk_162 0 6 (dk_at dksX10_gap_3 10 rfl rfl)
theorem dX10_gap_81 : decode cX10_gap 81 = .ok (.iinc 1 1, 3) := dk_132 1 1 (dk_at dksX10_gap_3 13 rfl rfl)
theorem dX10_gap_84 : decode cX10_gap 84 = .ok (.iinc 2 1, 3) := dk_132 2 1 (dk_at dksX10_gap_3 16 rfl rfl)
theorem dX10_gap_87 : decode cX10_gap 87 = .ok (.goto (-30), 3) := dk_167 255 226 (dk_at dksX10_gap_3 19 rfl rfl)
theorem dX10_gap_90 : decode cX10_gap 90 = .ok (.iload_n 1, 1) := dk_27 (dk_at dksX10_gap_3 22 rfl rfl)
theorem dX10_gap_91 : decode cX10_gap 91 = .ok (.ireturn, 1) := dk_172 (dk_at dksX10_gap_3 23 rfl rfl)
abbrev cX10_compare : ByteArray := prog_28_method_92_code
def yX10_compare : MethodName := ⟨RX10, "compare", "(II)I"⟩
def dkwX10_compare_2 : List UInt8 := [167, 0, 4, 3, 172]
abbrev dktX10_compare_2 : List UInt8 := dkwX10_compare_2 ++ []
def dkwX10_compare_1 : List UInt8 := [27, 182, 1, 79, 42, 28, 182, 1, 79, 100, 62, 29, 156, 0, 7, 2, 167, 0, 12, 29, 158, 0, 7, 4]
abbrev dktX10_compare_1 : List UInt8 := dkwX10_compare_1 ++ dktX10_compare_2
def dkwX10_compare_0 : List UInt8 := [42, 3, 181, 0, 1, 42, 27, 182, 1, 82, 154, 0, 11, 42, 28, 182, 1, 82, 153, 0, 5, 3, 172, 42]
abbrev dktX10_compare_0 : List UInt8 := dkwX10_compare_0 ++ dktX10_compare_1
theorem dksX10_compare_0 : cX10_compare.data.toList.drop 0 = dktX10_compare_0 := by decide +kernel
theorem dksX10_compare_1 : cX10_compare.data.toList.drop 24 = dktX10_compare_1 := dk_seg dksX10_compare_0 24 rfl rfl
theorem dksX10_compare_2 : cX10_compare.data.toList.drop 48 = dktX10_compare_2 := dk_seg dksX10_compare_1 24 rfl rfl
theorem dX10_compare_0 : decode cX10_compare 0 = .ok (.aload_n 0, 1) := dk_42 (dk_at dksX10_compare_0 0 rfl rfl)
theorem dX10_compare_1 : decode cX10_compare 1 = .ok (.iconst 0, 1) := dk_3 (dk_at dksX10_compare_0 1 rfl rfl)
theorem dX10_compare_2 : decode cX10_compare 2 = .ok (.putfield 1, 3) := dk_181 0 1 (dk_at dksX10_compare_0 2 rfl rfl)
theorem dX10_compare_5 : decode cX10_compare 5 = .ok (.aload_n 0, 1) := dk_42 (dk_at dksX10_compare_0 5 rfl rfl)
theorem dX10_compare_6 : decode cX10_compare 6 = .ok (.iload_n 1, 1) := dk_27 (dk_at dksX10_compare_0 6 rfl rfl)
theorem dX10_compare_7 : decode cX10_compare 7 = .ok (.invokevirtual 338, 3) := dk_182 1 82 (dk_at dksX10_compare_0 7 rfl rfl)
theorem dX10_compare_10 : decode cX10_compare 10 = .ok (.ifCond .ne 11, 3) := dk_154 0 11 (dk_at dksX10_compare_0 10 rfl rfl)
theorem dX10_compare_13 : decode cX10_compare 13 = .ok (.aload_n 0, 1) := dk_42 (dk_at dksX10_compare_0 13 rfl rfl)
theorem dX10_compare_14 : decode cX10_compare 14 = .ok (.iload_n 2, 1) := dk_28 (dk_at dksX10_compare_0 14 rfl rfl)
theorem dX10_compare_15 : decode cX10_compare 15 = .ok (.invokevirtual 338, 3) := dk_182 1 82 (dk_at dksX10_compare_0 15 rfl rfl)
theorem dX10_compare_18 : decode cX10_compare 18 = .ok (.ifCond .eq 5, 3) := dk_153 0 5 (dk_at dksX10_compare_0 18 rfl rfl)
theorem dX10_compare_21 : decode cX10_compare 21 = .ok (.iconst 0, 1) := dk_3 (dk_at dksX10_compare_0 21 rfl rfl)
theorem dX10_compare_22 : decode cX10_compare 22 = .ok (.ireturn, 1) := dk_172 (dk_at dksX10_compare_0 22 rfl rfl)
theorem dX10_compare_23 : decode cX10_compare 23 = .ok (.aload_n 0, 1) := dk_42 (dk_at dksX10_compare_0 23 rfl rfl)
theorem dX10_compare_24 : decode cX10_compare 24 = .ok (.iload_n 1, 1) := dk_27 (dk_at dksX10_compare_1 0 rfl rfl)
theorem dX10_compare_25 : decode cX10_compare 25 = .ok (.invokevirtual 335, 3) := dk_182 1 79 (dk_at dksX10_compare_1 1 rfl rfl)
theorem dX10_compare_28 : decode cX10_compare 28 = .ok (.aload_n 0, 1) := dk_42 (dk_at dksX10_compare_1 4 rfl rfl)
theorem dX10_compare_29 : decode cX10_compare 29 = .ok (.iload_n 2, 1) := dk_28 (dk_at dksX10_compare_1 5 rfl rfl)
theorem dX10_compare_30 : decode cX10_compare 30 = .ok (.invokevirtual 335, 3) := dk_182 1 79 (dk_at dksX10_compare_1 6 rfl rfl)
theorem dX10_compare_33 : decode cX10_compare 33 = .ok (.isub, 1) := dk_100 (dk_at dksX10_compare_1 9 rfl rfl)
theorem dX10_compare_34 : decode cX10_compare 34 = .ok (.istore_n 3, 1) := dk_62 (dk_at dksX10_compare_1 10 rfl rfl)
theorem dX10_compare_35 : decode cX10_compare 35 = .ok (.iload_n 3, 1) := dk_29 (dk_at dksX10_compare_1 11 rfl rfl)
theorem dX10_compare_36 : decode cX10_compare 36 = .ok (.ifCond .ge 7, 3) := dk_156 0 7 (dk_at dksX10_compare_1 12 rfl rfl)
theorem dX10_compare_39 : decode cX10_compare 39 = .ok (.iconst (-1), 1) := dk_2 (dk_at dksX10_compare_1 15 rfl rfl)
theorem dX10_compare_40 : decode cX10_compare 40 = .ok (.goto 12, 3) := dk_167 0 12 (dk_at dksX10_compare_1 16 rfl rfl)
theorem dX10_compare_43 : decode cX10_compare 43 = .ok (.iload_n 3, 1) := dk_29 (dk_at dksX10_compare_1 19 rfl rfl)
theorem dX10_compare_44 : decode cX10_compare 44 = .ok (.ifCond .le 7, 3) := dk_158 0 7 (dk_at dksX10_compare_1 20 rfl rfl)
theorem dX10_compare_47 : decode cX10_compare 47 = .ok (.iconst 1, 1) := dk_4 (dk_at dksX10_compare_1 23 rfl rfl)
theorem dX10_compare_48 : decode cX10_compare 48 = .ok (.goto 4, 3) := dk_167 0 4 (dk_at dksX10_compare_2 0 rfl rfl)
theorem dX10_compare_51 : decode cX10_compare 51 = .ok (.iconst 0, 1) := dk_3 (dk_at dksX10_compare_2 3 rfl rfl)
theorem dX10_compare_52 : decode cX10_compare 52 = .ok (.ireturn, 1) := dk_172 (dk_at dksX10_compare_2 4 rfl rfl)
abbrev cX10_differ : ByteArray := prog_28_method_94_code
def yX10_differ : MethodName := ⟨RX10, "differ", "(II)I"⟩
def dkwX10_differ_1 : List UInt8 := [167, 0, 17, 42, 42, 27, 182, 1, 79, 42, 28, 182, 1, 79, 182, 1, 114, 172]
abbrev dktX10_differ_1 : List UInt8 := dkwX10_differ_1 ++ []
def dkwX10_differ_0 : List UInt8 := [42, 3, 181, 0, 1, 42, 27, 182, 1, 82, 154, 0, 11, 42, 28, 182, 1, 82, 153, 0, 7, 3]
abbrev dktX10_differ_0 : List UInt8 := dkwX10_differ_0 ++ dktX10_differ_1
theorem dksX10_differ_0 : cX10_differ.data.toList.drop 0 = dktX10_differ_0 := by decide +kernel
theorem dksX10_differ_1 : cX10_differ.data.toList.drop 22 = dktX10_differ_1 := dk_seg dksX10_differ_0 22 rfl rfl
theorem dX10_differ_0 : decode cX10_differ 0 = .ok (.aload_n 0, 1) := dk_42 (dk_at dksX10_differ_0 0 rfl rfl)
theorem dX10_differ_1 : decode cX10_differ 1 = .ok (.iconst 0, 1) := dk_3 (dk_at dksX10_differ_0 1 rfl rfl)
theorem dX10_differ_2 : decode cX10_differ 2 = .ok (.putfield 1, 3) := dk_181 0 1 (dk_at dksX10_differ_0 2 rfl rfl)
theorem dX10_differ_5 : decode cX10_differ 5 = .ok (.aload_n 0, 1) := dk_42 (dk_at dksX10_differ_0 5 rfl rfl)
theorem dX10_differ_6 : decode cX10_differ 6 = .ok (.iload_n 1, 1) := dk_27 (dk_at dksX10_differ_0 6 rfl rfl)
theorem dX10_differ_7 : decode cX10_differ 7 = .ok (.invokevirtual 338, 3) := dk_182 1 82 (dk_at dksX10_differ_0 7 rfl rfl)
theorem dX10_differ_10 : decode cX10_differ 10 = .ok (.ifCond .ne 11, 3) := dk_154 0 11 (dk_at dksX10_differ_0 10 rfl rfl)
theorem dX10_differ_13 : decode cX10_differ 13 = .ok (.aload_n 0, 1) := dk_42 (dk_at dksX10_differ_0 13 rfl rfl)
theorem dX10_differ_14 : decode cX10_differ 14 = .ok (.iload_n 2, 1) := dk_28 (dk_at dksX10_differ_0 14 rfl rfl)
theorem dX10_differ_15 : decode cX10_differ 15 = .ok (.invokevirtual 338, 3) := dk_182 1 82 (dk_at dksX10_differ_0 15 rfl rfl)
theorem dX10_differ_18 : decode cX10_differ 18 = .ok (.ifCond .eq 7, 3) := dk_153 0 7 (dk_at dksX10_differ_0 18 rfl rfl)
theorem dX10_differ_21 : decode cX10_differ 21 = .ok (.iconst 0, 1) := dk_3 (dk_at dksX10_differ_0 21 rfl rfl)
theorem dX10_differ_22 : decode cX10_differ 22 = .ok (.goto 17, 3) := dk_167 0 17 (dk_at dksX10_differ_1 0 rfl rfl)
theorem dX10_differ_25 : decode cX10_differ 25 = .ok (.aload_n 0, 1) := dk_42 (dk_at dksX10_differ_1 3 rfl rfl)
theorem dX10_differ_26 : decode cX10_differ 26 = .ok (.aload_n 0, 1) := dk_42 (dk_at dksX10_differ_1 4 rfl rfl)
theorem dX10_differ_27 : decode cX10_differ 27 = .ok (.iload_n 1, 1) := dk_27 (dk_at dksX10_differ_1 5 rfl rfl)
theorem dX10_differ_28 : decode cX10_differ 28 = .ok (.invokevirtual 335, 3) := dk_182 1 79 (dk_at dksX10_differ_1 6 rfl rfl)
theorem dX10_differ_31 : decode cX10_differ 31 = .ok (.aload_n 0, 1) := dk_42 (dk_at dksX10_differ_1 9 rfl rfl)
theorem dX10_differ_32 : decode cX10_differ 32 = .ok (.iload_n 2, 1) := dk_28 (dk_at dksX10_differ_1 10 rfl rfl)
theorem dX10_differ_33 : decode cX10_differ 33 = .ok (.invokevirtual 335, 3) := dk_182 1 79 (dk_at dksX10_differ_1 11 rfl rfl)
theorem dX10_differ_36 : decode cX10_differ 36 = .ok (.invokevirtual 370, 3) := dk_182 1 114 (dk_at dksX10_differ_1 14 rfl rfl)
theorem dX10_differ_39 : decode cX10_differ 39 = .ok (.ireturn, 1) := dk_172 (dk_at dksX10_differ_1 17 rfl rfl)
abbrev cX10_differs : ByteArray := prog_28_method_93_code
def yX10_differs : MethodName := ⟨RX10, "differs", "(II)I"⟩
def dkwX10_differs_3 : List UInt8 := [182, 1, 94, 148, 153, 0, 5, 29, 172, 132, 3, 1, 167, 255, 174, 2, 172]
abbrev dktX10_differs_3 : List UInt8 := dkwX10_differs_3 ++ []
def dkwX10_differs_2 : List UInt8 := [153, 0, 5, 2, 172, 21, 4, 154, 0, 24, 21, 5, 154, 0, 19, 42, 27, 29, 182, 1, 94, 42, 28, 29]
abbrev dktX10_differs_2 : List UInt8 := dkwX10_differs_2 ++ dktX10_differs_3
def dkwX10_differs_1 : List UInt8 := [29, 42, 28, 6, 182, 0, 129, 161, 0, 7, 4, 167, 0, 4, 3, 54, 5, 21, 4, 153, 0, 10, 21, 5]
abbrev dktX10_differs_1 : List UInt8 := dkwX10_differs_1 ++ dktX10_differs_2
def dkwX10_differs_0 : List UInt8 := [3, 62, 29, 8, 162, 0, 83, 29, 42, 27, 6, 182, 0, 129, 161, 0, 7, 4, 167, 0, 4, 3, 54, 4]
abbrev dktX10_differs_0 : List UInt8 := dkwX10_differs_0 ++ dktX10_differs_1
theorem dksX10_differs_0 : cX10_differs.data.toList.drop 0 = dktX10_differs_0 := by decide +kernel
theorem dksX10_differs_1 : cX10_differs.data.toList.drop 24 = dktX10_differs_1 := dk_seg dksX10_differs_0 24 rfl rfl
theorem dksX10_differs_2 : cX10_differs.data.toList.drop 48 = dktX10_differs_2 := dk_seg dksX10_differs_1 24 rfl rfl
theorem dksX10_differs_3 : cX10_differs.data.toList.drop 72 = dktX10_differs_3 := dk_seg dksX10_differs_2 24 rfl rfl
theorem dX10_differs_0 : decode cX10_differs 0 = .ok (.iconst 0, 1) := dk_3 (dk_at dksX10_differs_0 0 rfl rfl)
theorem dX10_differs_1 : decode cX10_differs 1 = .ok (.istore_n 3, 1) := dk_62 (dk_at dksX10_differs_0 1 rfl rfl)
theorem dX10_differs_2 : decode cX10_differs 2 = .ok (.iload_n 3, 1) := dk_29 (dk_at dksX10_differs_0 2 rfl rfl)
theorem dX10_differs_3 : decode cX10_differs 3 = .ok (.iconst 5, 1) := dk_8 (dk_at dksX10_differs_0 3 rfl rfl)
theorem dX10_differs_4 : decode cX10_differs 4 = .ok (.if_icmp .ge 83, 3) := dk_162 0 83 (dk_at dksX10_differs_0 4 rfl rfl)
theorem dX10_differs_7 : decode cX10_differs 7 = .ok (.iload_n 3, 1) := dk_29 (dk_at dksX10_differs_0 7 rfl rfl)
theorem dX10_differs_8 : decode cX10_differs 8 = .ok (.aload_n 0, 1) := dk_42 (dk_at dksX10_differs_0 8 rfl rfl)
theorem dX10_differs_9 : decode cX10_differs 9 = .ok (.iload_n 1, 1) := dk_27 (dk_at dksX10_differs_0 9 rfl rfl)
theorem dX10_differs_10 : decode cX10_differs 10 = .ok (.iconst 3, 1) := dk_6 (dk_at dksX10_differs_0 10 rfl rfl)
theorem dX10_differs_11 : decode cX10_differs 11 = .ok (.invokevirtual 129, 3) := dk_182 0 129 (dk_at dksX10_differs_0 11 rfl rfl)
theorem dX10_differs_14 : decode cX10_differs 14 = .ok (.if_icmp .lt 7, 3) := dk_161 0 7 (dk_at dksX10_differs_0 14 rfl rfl)
theorem dX10_differs_17 : decode cX10_differs 17 = .ok (.iconst 1, 1) := dk_4 (dk_at dksX10_differs_0 17 rfl rfl)
theorem dX10_differs_18 : decode cX10_differs 18 = .ok (.goto 4, 3) := dk_167 0 4 (dk_at dksX10_differs_0 18 rfl rfl)
theorem dX10_differs_21 : decode cX10_differs 21 = .ok (.iconst 0, 1) := dk_3 (dk_at dksX10_differs_0 21 rfl rfl)
theorem dX10_differs_22 : decode cX10_differs 22 = .ok (.istore 4, 2) := dk_54 4 (dk_at dksX10_differs_0 22 rfl rfl)
theorem dX10_differs_24 : decode cX10_differs 24 = .ok (.iload_n 3, 1) := dk_29 (dk_at dksX10_differs_1 0 rfl rfl)
theorem dX10_differs_25 : decode cX10_differs 25 = .ok (.aload_n 0, 1) := dk_42 (dk_at dksX10_differs_1 1 rfl rfl)
theorem dX10_differs_26 : decode cX10_differs 26 = .ok (.iload_n 2, 1) := dk_28 (dk_at dksX10_differs_1 2 rfl rfl)
theorem dX10_differs_27 : decode cX10_differs 27 = .ok (.iconst 3, 1) := dk_6 (dk_at dksX10_differs_1 3 rfl rfl)
theorem dX10_differs_28 : decode cX10_differs 28 = .ok (.invokevirtual 129, 3) := dk_182 0 129 (dk_at dksX10_differs_1 4 rfl rfl)
theorem dX10_differs_31 : decode cX10_differs 31 = .ok (.if_icmp .lt 7, 3) := dk_161 0 7 (dk_at dksX10_differs_1 7 rfl rfl)
theorem dX10_differs_34 : decode cX10_differs 34 = .ok (.iconst 1, 1) := dk_4 (dk_at dksX10_differs_1 10 rfl rfl)
theorem dX10_differs_35 : decode cX10_differs 35 = .ok (.goto 4, 3) := dk_167 0 4 (dk_at dksX10_differs_1 11 rfl rfl)
theorem dX10_differs_38 : decode cX10_differs 38 = .ok (.iconst 0, 1) := dk_3 (dk_at dksX10_differs_1 14 rfl rfl)
theorem dX10_differs_39 : decode cX10_differs 39 = .ok (.istore 5, 2) := dk_54 5 (dk_at dksX10_differs_1 15 rfl rfl)
theorem dX10_differs_41 : decode cX10_differs 41 = .ok (.iload 4, 2) := dk_21 4 (dk_at dksX10_differs_1 17 rfl rfl)
theorem dX10_differs_43 : decode cX10_differs 43 = .ok (.ifCond .eq 10, 3) := dk_153 0 10 (dk_at dksX10_differs_1 19 rfl rfl)
theorem dX10_differs_46 : decode cX10_differs 46 = .ok (.iload 5, 2) := dk_21 5 (dk_at dksX10_differs_1 22 rfl rfl)
theorem dX10_differs_48 : decode cX10_differs 48 = .ok (.ifCond .eq 5, 3) := dk_153 0 5 (dk_at dksX10_differs_2 0 rfl rfl)
theorem dX10_differs_51 : decode cX10_differs 51 = .ok (.iconst (-1), 1) := dk_2 (dk_at dksX10_differs_2 3 rfl rfl)
theorem dX10_differs_52 : decode cX10_differs 52 = .ok (.ireturn, 1) := dk_172 (dk_at dksX10_differs_2 4 rfl rfl)
theorem dX10_differs_53 : decode cX10_differs 53 = .ok (.iload 4, 2) := dk_21 4 (dk_at dksX10_differs_2 5 rfl rfl)
theorem dX10_differs_55 : decode cX10_differs 55 = .ok (.ifCond .ne 24, 3) := dk_154 0 24 (dk_at dksX10_differs_2 7 rfl rfl)
theorem dX10_differs_58 : decode cX10_differs 58 = .ok (.iload 5, 2) := dk_21 5 (dk_at dksX10_differs_2 10 rfl rfl)
theorem dX10_differs_60 : decode cX10_differs 60 = .ok (.ifCond .ne 19, 3) := dk_154 0 19 (dk_at dksX10_differs_2 12 rfl rfl)
theorem dX10_differs_63 : decode cX10_differs 63 = .ok (.aload_n 0, 1) := dk_42 (dk_at dksX10_differs_2 15 rfl rfl)
theorem dX10_differs_64 : decode cX10_differs 64 = .ok (.iload_n 1, 1) := dk_27 (dk_at dksX10_differs_2 16 rfl rfl)
theorem dX10_differs_65 : decode cX10_differs 65 = .ok (.iload_n 3, 1) := dk_29 (dk_at dksX10_differs_2 17 rfl rfl)
theorem dX10_differs_66 : decode cX10_differs 66 = .ok (.invokevirtual 350, 3) := dk_182 1 94 (dk_at dksX10_differs_2 18 rfl rfl)
theorem dX10_differs_69 : decode cX10_differs 69 = .ok (.aload_n 0, 1) := dk_42 (dk_at dksX10_differs_2 21 rfl rfl)
theorem dX10_differs_70 : decode cX10_differs 70 = .ok (.iload_n 2, 1) := dk_28 (dk_at dksX10_differs_2 22 rfl rfl)
theorem dX10_differs_71 : decode cX10_differs 71 = .ok (.iload_n 3, 1) := dk_29 (dk_at dksX10_differs_2 23 rfl rfl)
theorem dX10_differs_72 : decode cX10_differs 72 = .ok (.invokevirtual 350, 3) := dk_182 1 94 (dk_at dksX10_differs_3 0 rfl rfl)
theorem dX10_differs_75 : decode cX10_differs 75 = .ok (.lcmp, 1) := dk_148 (dk_at dksX10_differs_3 3 rfl rfl)
theorem dX10_differs_76 : decode cX10_differs 76 = .ok (.ifCond .eq 5, 3) := dk_153 0 5 (dk_at dksX10_differs_3 4 rfl rfl)
theorem dX10_differs_79 : decode cX10_differs 79 = .ok (.iload_n 3, 1) := dk_29 (dk_at dksX10_differs_3 7 rfl rfl)
theorem dX10_differs_80 : decode cX10_differs 80 = .ok (.ireturn, 1) := dk_172 (dk_at dksX10_differs_3 8 rfl rfl)
theorem dX10_differs_81 : decode cX10_differs 81 = .ok (.iinc 3 1, 3) := dk_132 3 1 (dk_at dksX10_differs_3 9 rfl rfl)
theorem dX10_differs_84 : decode cX10_differs 84 = .ok (.goto (-82), 3) := dk_167 255 174 (dk_at dksX10_differs_3 12 rfl rfl)
theorem dX10_differs_87 : decode cX10_differs 87 = .ok (.iconst (-1), 1) := dk_2 (dk_at dksX10_differs_3 15 rfl rfl)
theorem dX10_differs_88 : decode cX10_differs 88 = .ok (.ireturn, 1) := dk_172 (dk_at dksX10_differs_3 16 rfl rfl)
abbrev cX10_alike : ByteArray := prog_28_method_95_code
def yX10_alike : MethodName := ⟨RX10, "alike", "()I"⟩
def dkwX10_alike_2 : List UInt8 := [167, 255, 231, 132, 2, 1, 167, 255, 212, 27, 172]
abbrev dktX10_alike_2 : List UInt8 := dkwX10_alike_2 ++ []
def dkwX10_alike_1 : List UInt8 := [5, 182, 0, 118, 162, 0, 22, 42, 28, 29, 182, 1, 114, 2, 160, 0, 6, 132, 1, 1, 132, 3, 1]
abbrev dktX10_alike_1 : List UInt8 := dkwX10_alike_1 ++ dktX10_alike_2
def dkwX10_alike_0 : List UInt8 := [42, 3, 181, 0, 1, 3, 60, 3, 61, 28, 42, 5, 182, 0, 118, 162, 0, 41, 28, 4, 96, 62, 29, 42]
abbrev dktX10_alike_0 : List UInt8 := dkwX10_alike_0 ++ dktX10_alike_1
theorem dksX10_alike_0 : cX10_alike.data.toList.drop 0 = dktX10_alike_0 := by decide +kernel
theorem dksX10_alike_1 : cX10_alike.data.toList.drop 24 = dktX10_alike_1 := dk_seg dksX10_alike_0 24 rfl rfl
theorem dksX10_alike_2 : cX10_alike.data.toList.drop 47 = dktX10_alike_2 := dk_seg dksX10_alike_1 23 rfl rfl
theorem dX10_alike_0 : decode cX10_alike 0 = .ok (.aload_n 0, 1) := dk_42 (dk_at dksX10_alike_0 0 rfl rfl)
theorem dX10_alike_1 : decode cX10_alike 1 = .ok (.iconst 0, 1) := dk_3 (dk_at dksX10_alike_0 1 rfl rfl)
theorem dX10_alike_2 : decode cX10_alike 2 = .ok (.putfield 1, 3) := dk_181 0 1 (dk_at dksX10_alike_0 2 rfl rfl)
theorem dX10_alike_5 : decode cX10_alike 5 = .ok (.iconst 0, 1) := dk_3 (dk_at dksX10_alike_0 5 rfl rfl)
theorem dX10_alike_6 : decode cX10_alike 6 = .ok (.istore_n 1, 1) := dk_60 (dk_at dksX10_alike_0 6 rfl rfl)
theorem dX10_alike_7 : decode cX10_alike 7 = .ok (.iconst 0, 1) := dk_3 (dk_at dksX10_alike_0 7 rfl rfl)
theorem dX10_alike_8 : decode cX10_alike 8 = .ok (.istore_n 2, 1) := dk_61 (dk_at dksX10_alike_0 8 rfl rfl)
theorem dX10_alike_9 : decode cX10_alike 9 = .ok (.iload_n 2, 1) := dk_28 (dk_at dksX10_alike_0 9 rfl rfl)
theorem dX10_alike_10 : decode cX10_alike 10 = .ok (.aload_n 0, 1) := dk_42 (dk_at dksX10_alike_0 10 rfl rfl)
theorem dX10_alike_11 : decode cX10_alike 11 = .ok (.iconst 2, 1) := dk_5 (dk_at dksX10_alike_0 11 rfl rfl)
theorem dX10_alike_12 : decode cX10_alike 12 = .ok (.invokevirtual 118, 3) := dk_182 0 118 (dk_at dksX10_alike_0 12 rfl rfl)
theorem dX10_alike_15 : decode cX10_alike 15 = .ok (.if_icmp .ge 41, 3) := dk_162 0 41 (dk_at dksX10_alike_0 15 rfl rfl)
theorem dX10_alike_18 : decode cX10_alike 18 = .ok (.iload_n 2, 1) := dk_28 (dk_at dksX10_alike_0 18 rfl rfl)
theorem dX10_alike_19 : decode cX10_alike 19 = .ok (.iconst 1, 1) := dk_4 (dk_at dksX10_alike_0 19 rfl rfl)
theorem dX10_alike_20 : decode cX10_alike 20 = .ok (.iadd, 1) := dk_96 (dk_at dksX10_alike_0 20 rfl rfl)
theorem dX10_alike_21 : decode cX10_alike 21 = .ok (.istore_n 3, 1) := dk_62 (dk_at dksX10_alike_0 21 rfl rfl)
theorem dX10_alike_22 : decode cX10_alike 22 = .ok (.iload_n 3, 1) := dk_29 (dk_at dksX10_alike_0 22 rfl rfl)
theorem dX10_alike_23 : decode cX10_alike 23 = .ok (.aload_n 0, 1) := dk_42 (dk_at dksX10_alike_0 23 rfl rfl)
theorem dX10_alike_24 : decode cX10_alike 24 = .ok (.iconst 2, 1) := dk_5 (dk_at dksX10_alike_1 0 rfl rfl)
theorem dX10_alike_25 : decode cX10_alike 25 = .ok (.invokevirtual 118, 3) := dk_182 0 118 (dk_at dksX10_alike_1 1 rfl rfl)
theorem dX10_alike_28 : decode cX10_alike 28 = .ok (.if_icmp .ge 22, 3) := dk_162 0 22 (dk_at dksX10_alike_1 4 rfl rfl)
theorem dX10_alike_31 : decode cX10_alike 31 = .ok (.aload_n 0, 1) := dk_42 (dk_at dksX10_alike_1 7 rfl rfl)
theorem dX10_alike_32 : decode cX10_alike 32 = .ok (.iload_n 2, 1) := dk_28 (dk_at dksX10_alike_1 8 rfl rfl)
theorem dX10_alike_33 : decode cX10_alike 33 = .ok (.iload_n 3, 1) := dk_29 (dk_at dksX10_alike_1 9 rfl rfl)
theorem dX10_alike_34 : decode cX10_alike 34 = .ok (.invokevirtual 370, 3) := dk_182 1 114 (dk_at dksX10_alike_1 10 rfl rfl)
theorem dX10_alike_37 : decode cX10_alike 37 = .ok (.iconst (-1), 1) := dk_2 (dk_at dksX10_alike_1 13 rfl rfl)
theorem dX10_alike_38 : decode cX10_alike 38 = .ok (.if_icmp .ne 6, 3) := dk_160 0 6 (dk_at dksX10_alike_1 14 rfl rfl)
theorem dX10_alike_41 : decode cX10_alike 41 = .ok (.iinc 1 1, 3) := dk_132 1 1 (dk_at dksX10_alike_1 17 rfl rfl)
theorem dX10_alike_44 : decode cX10_alike 44 = .ok (.iinc 3 1, 3) := dk_132 3 1 (dk_at dksX10_alike_1 20 rfl rfl)
theorem dX10_alike_47 : decode cX10_alike 47 = .ok (.goto (-25), 3) := dk_167 255 231 (dk_at dksX10_alike_2 0 rfl rfl)
theorem dX10_alike_50 : decode cX10_alike 50 = .ok (.iinc 2 1, 3) := dk_132 2 1 (dk_at dksX10_alike_2 3 rfl rfl)
theorem dX10_alike_53 : decode cX10_alike 53 = .ok (.goto (-44), 3) := dk_167 255 212 (dk_at dksX10_alike_2 6 rfl rfl)
theorem dX10_alike_56 : decode cX10_alike 56 = .ok (.iload_n 1, 1) := dk_27 (dk_at dksX10_alike_2 9 rfl rfl)
theorem dX10_alike_57 : decode cX10_alike 57 = .ok (.ireturn, 1) := dk_172 (dk_at dksX10_alike_2 10 rfl rfl)
abbrev cX10_free : ByteArray := prog_28_method_96_code
def yX10_free : MethodName := ⟨RX10, "free", "(I)I"⟩
def dkwX10_free_1 : List UInt8 := [96, 182, 0, 153, 42, 28, 5, 182, 0, 129, 100, 4, 100, 172]
abbrev dktX10_free_1 : List UInt8 := dkwX10_free_1 ++ []
def dkwX10_free_0 : List UInt8 := [42, 3, 181, 0, 1, 42, 27, 182, 1, 82, 153, 0, 5, 3, 172, 42, 27, 182, 1, 79, 61, 42, 28, 4]
abbrev dktX10_free_0 : List UInt8 := dkwX10_free_0 ++ dktX10_free_1
theorem dksX10_free_0 : cX10_free.data.toList.drop 0 = dktX10_free_0 := by decide +kernel
theorem dksX10_free_1 : cX10_free.data.toList.drop 24 = dktX10_free_1 := dk_seg dksX10_free_0 24 rfl rfl
theorem dX10_free_0 : decode cX10_free 0 = .ok (.aload_n 0, 1) := dk_42 (dk_at dksX10_free_0 0 rfl rfl)
theorem dX10_free_1 : decode cX10_free 1 = .ok (.iconst 0, 1) := dk_3 (dk_at dksX10_free_0 1 rfl rfl)
theorem dX10_free_2 : decode cX10_free 2 = .ok (.putfield 1, 3) := dk_181 0 1 (dk_at dksX10_free_0 2 rfl rfl)
theorem dX10_free_5 : decode cX10_free 5 = .ok (.aload_n 0, 1) := dk_42 (dk_at dksX10_free_0 5 rfl rfl)
theorem dX10_free_6 : decode cX10_free 6 = .ok (.iload_n 1, 1) := dk_27 (dk_at dksX10_free_0 6 rfl rfl)
theorem dX10_free_7 : decode cX10_free 7 = .ok (.invokevirtual 338, 3) := dk_182 1 82 (dk_at dksX10_free_0 7 rfl rfl)
theorem dX10_free_10 : decode cX10_free 10 = .ok (.ifCond .eq 5, 3) := dk_153 0 5 (dk_at dksX10_free_0 10 rfl rfl)
theorem dX10_free_13 : decode cX10_free 13 = .ok (.iconst 0, 1) := dk_3 (dk_at dksX10_free_0 13 rfl rfl)
theorem dX10_free_14 : decode cX10_free 14 = .ok (.ireturn, 1) := dk_172 (dk_at dksX10_free_0 14 rfl rfl)
theorem dX10_free_15 : decode cX10_free 15 = .ok (.aload_n 0, 1) := dk_42 (dk_at dksX10_free_0 15 rfl rfl)
theorem dX10_free_16 : decode cX10_free 16 = .ok (.iload_n 1, 1) := dk_27 (dk_at dksX10_free_0 16 rfl rfl)
theorem dX10_free_17 : decode cX10_free 17 = .ok (.invokevirtual 335, 3) := dk_182 1 79 (dk_at dksX10_free_0 17 rfl rfl)
theorem dX10_free_20 : decode cX10_free 20 = .ok (.istore_n 2, 1) := dk_61 (dk_at dksX10_free_0 20 rfl rfl)
theorem dX10_free_21 : decode cX10_free 21 = .ok (.aload_n 0, 1) := dk_42 (dk_at dksX10_free_0 21 rfl rfl)
theorem dX10_free_22 : decode cX10_free 22 = .ok (.iload_n 2, 1) := dk_28 (dk_at dksX10_free_0 22 rfl rfl)
theorem dX10_free_23 : decode cX10_free 23 = .ok (.iconst 1, 1) := dk_4 (dk_at dksX10_free_0 23 rfl rfl)
theorem dX10_free_24 : decode cX10_free 24 = .ok (.iadd, 1) := dk_96 (dk_at dksX10_free_1 0 rfl rfl)
theorem dX10_free_25 : decode cX10_free 25 = .ok (.invokevirtual 153, 3) := dk_182 0 153 (dk_at dksX10_free_1 1 rfl rfl)
theorem dX10_free_28 : decode cX10_free 28 = .ok (.aload_n 0, 1) := dk_42 (dk_at dksX10_free_1 4 rfl rfl)
theorem dX10_free_29 : decode cX10_free 29 = .ok (.iload_n 2, 1) := dk_28 (dk_at dksX10_free_1 5 rfl rfl)
theorem dX10_free_30 : decode cX10_free 30 = .ok (.iconst 2, 1) := dk_5 (dk_at dksX10_free_1 6 rfl rfl)
theorem dX10_free_31 : decode cX10_free 31 = .ok (.invokevirtual 129, 3) := dk_182 0 129 (dk_at dksX10_free_1 7 rfl rfl)
theorem dX10_free_34 : decode cX10_free 34 = .ok (.isub, 1) := dk_100 (dk_at dksX10_free_1 10 rfl rfl)
theorem dX10_free_35 : decode cX10_free 35 = .ok (.iconst 1, 1) := dk_4 (dk_at dksX10_free_1 11 rfl rfl)
theorem dX10_free_36 : decode cX10_free 36 = .ok (.isub, 1) := dk_100 (dk_at dksX10_free_1 12 rfl rfl)
theorem dX10_free_37 : decode cX10_free 37 = .ok (.ireturn, 1) := dk_172 (dk_at dksX10_free_1 13 rfl rfl)
abbrev cX10_family : ByteArray := prog_28_method_97_code
def yX10_family : MethodName := ⟨RX10, "family", "(I)I"⟩
def dkwX10_family_2 : List UInt8 := [154, 0, 6, 132, 2, 1, 132, 3, 1, 167, 255, 221, 28, 172]
abbrev dktX10_family_2 : List UInt8 := dkwX10_family_2 ++ []
def dkwX10_family_1 : List UInt8 := [182, 0, 118, 162, 0, 32, 42, 29, 3, 182, 1, 94, 42, 42, 27, 182, 1, 79, 3, 182, 1, 94, 148]
abbrev dktX10_family_1 : List UInt8 := dkwX10_family_1 ++ dktX10_family_2
def dkwX10_family_0 : List UInt8 := [42, 3, 181, 0, 1, 42, 27, 182, 1, 82, 153, 0, 5, 3, 172, 3, 61, 3, 62, 29, 42, 5]
abbrev dktX10_family_0 : List UInt8 := dkwX10_family_0 ++ dktX10_family_1
theorem dksX10_family_0 : cX10_family.data.toList.drop 0 = dktX10_family_0 := by decide +kernel
theorem dksX10_family_1 : cX10_family.data.toList.drop 22 = dktX10_family_1 := dk_seg dksX10_family_0 22 rfl rfl
theorem dksX10_family_2 : cX10_family.data.toList.drop 45 = dktX10_family_2 := dk_seg dksX10_family_1 23 rfl rfl
theorem dX10_family_0 : decode cX10_family 0 = .ok (.aload_n 0, 1) := dk_42 (dk_at dksX10_family_0 0 rfl rfl)
theorem dX10_family_1 : decode cX10_family 1 = .ok (.iconst 0, 1) := dk_3 (dk_at dksX10_family_0 1 rfl rfl)
theorem dX10_family_2 : decode cX10_family 2 = .ok (.putfield 1, 3) := dk_181 0 1 (dk_at dksX10_family_0 2 rfl rfl)
theorem dX10_family_5 : decode cX10_family 5 = .ok (.aload_n 0, 1) := dk_42 (dk_at dksX10_family_0 5 rfl rfl)
theorem dX10_family_6 : decode cX10_family 6 = .ok (.iload_n 1, 1) := dk_27 (dk_at dksX10_family_0 6 rfl rfl)
theorem dX10_family_7 : decode cX10_family 7 = .ok (.invokevirtual 338, 3) := dk_182 1 82 (dk_at dksX10_family_0 7 rfl rfl)
theorem dX10_family_10 : decode cX10_family 10 = .ok (.ifCond .eq 5, 3) := dk_153 0 5 (dk_at dksX10_family_0 10 rfl rfl)
theorem dX10_family_13 : decode cX10_family 13 = .ok (.iconst 0, 1) := dk_3 (dk_at dksX10_family_0 13 rfl rfl)
theorem dX10_family_14 : decode cX10_family 14 = .ok (.ireturn, 1) := dk_172 (dk_at dksX10_family_0 14 rfl rfl)
theorem dX10_family_15 : decode cX10_family 15 = .ok (.iconst 0, 1) := dk_3 (dk_at dksX10_family_0 15 rfl rfl)
theorem dX10_family_16 : decode cX10_family 16 = .ok (.istore_n 2, 1) := dk_61 (dk_at dksX10_family_0 16 rfl rfl)
theorem dX10_family_17 : decode cX10_family 17 = .ok (.iconst 0, 1) := dk_3 (dk_at dksX10_family_0 17 rfl rfl)
theorem dX10_family_18 : decode cX10_family 18 = .ok (.istore_n 3, 1) := dk_62 (dk_at dksX10_family_0 18 rfl rfl)
theorem dX10_family_19 : decode cX10_family 19 = .ok (.iload_n 3, 1) := dk_29 (dk_at dksX10_family_0 19 rfl rfl)
theorem dX10_family_20 : decode cX10_family 20 = .ok (.aload_n 0, 1) := dk_42 (dk_at dksX10_family_0 20 rfl rfl)
theorem dX10_family_21 : decode cX10_family 21 = .ok (.iconst 2, 1) := dk_5 (dk_at dksX10_family_0 21 rfl rfl)
theorem dX10_family_22 : decode cX10_family 22 = .ok (.invokevirtual 118, 3) := dk_182 0 118 (dk_at dksX10_family_1 0 rfl rfl)
theorem dX10_family_25 : decode cX10_family 25 = .ok (.if_icmp .ge 32, 3) := dk_162 0 32 (dk_at dksX10_family_1 3 rfl rfl)
theorem dX10_family_28 : decode cX10_family 28 = .ok (.aload_n 0, 1) := dk_42 (dk_at dksX10_family_1 6 rfl rfl)
theorem dX10_family_29 : decode cX10_family 29 = .ok (.iload_n 3, 1) := dk_29 (dk_at dksX10_family_1 7 rfl rfl)
theorem dX10_family_30 : decode cX10_family 30 = .ok (.iconst 0, 1) := dk_3 (dk_at dksX10_family_1 8 rfl rfl)
theorem dX10_family_31 : decode cX10_family 31 = .ok (.invokevirtual 350, 3) := dk_182 1 94 (dk_at dksX10_family_1 9 rfl rfl)
theorem dX10_family_34 : decode cX10_family 34 = .ok (.aload_n 0, 1) := dk_42 (dk_at dksX10_family_1 12 rfl rfl)
theorem dX10_family_35 : decode cX10_family 35 = .ok (.aload_n 0, 1) := dk_42 (dk_at dksX10_family_1 13 rfl rfl)
theorem dX10_family_36 : decode cX10_family 36 = .ok (.iload_n 1, 1) := dk_27 (dk_at dksX10_family_1 14 rfl rfl)
theorem dX10_family_37 : decode cX10_family 37 = .ok (.invokevirtual 335, 3) := dk_182 1 79 (dk_at dksX10_family_1 15 rfl rfl)
theorem dX10_family_40 : decode cX10_family 40 = .ok (.iconst 0, 1) := dk_3 (dk_at dksX10_family_1 18 rfl rfl)
theorem dX10_family_41 : decode cX10_family 41 = .ok (.invokevirtual 350, 3) := dk_182 1 94 (dk_at dksX10_family_1 19 rfl rfl)
theorem dX10_family_44 : decode cX10_family 44 = .ok (.lcmp, 1) := dk_148 (dk_at dksX10_family_1 22 rfl rfl)
theorem dX10_family_45 : decode cX10_family 45 = .ok (.ifCond .ne 6, 3) := dk_154 0 6 (dk_at dksX10_family_2 0 rfl rfl)
theorem dX10_family_48 : decode cX10_family 48 = .ok (.iinc 2 1, 3) := dk_132 2 1 (dk_at dksX10_family_2 3 rfl rfl)
theorem dX10_family_51 : decode cX10_family 51 = .ok (.iinc 3 1, 3) := dk_132 3 1 (dk_at dksX10_family_2 6 rfl rfl)
theorem dX10_family_54 : decode cX10_family 54 = .ok (.goto (-35), 3) := dk_167 255 221 (dk_at dksX10_family_2 9 rfl rfl)
theorem dX10_family_57 : decode cX10_family 57 = .ok (.iload_n 2, 1) := dk_28 (dk_at dksX10_family_2 12 rfl rfl)
theorem dX10_family_58 : decode cX10_family 58 = .ok (.ireturn, 1) := dk_172 (dk_at dksX10_family_2 13 rfl rfl)
abbrev cX10_soundsLike : ByteArray := prog_28_method_99_code
def yX10_soundsLike : MethodName := ⟨RX10, "soundsLike", "(I)I"⟩
def dkwX10_soundsLike_3 : List UInt8 := [182, 1, 117, 172]
abbrev dktX10_soundsLike_3 : List UInt8 := dkwX10_soundsLike_3 ++ []
def dkwX10_soundsLike_2 : List UInt8 := [42, 180, 0, 244, 153, 0, 13, 16, 246, 42, 180, 0, 244, 100, 167, 0, 12, 42, 42, 32, 182, 0, 140]
abbrev dktX10_soundsLike_2 : List UInt8 := dkwX10_soundsLike_2 ++ dktX10_soundsLike_3
def dkwX10_soundsLike_1 : List UInt8 := [3, 172, 42, 27, 182, 1, 47, 42, 182, 1, 29, 65, 42, 180, 0, 232, 153, 0, 8, 42, 4, 182, 0, 250]
abbrev dktX10_soundsLike_1 : List UInt8 := dkwX10_soundsLike_1 ++ dktX10_soundsLike_2
def dkwX10_soundsLike_0 : List UInt8 := [42, 3, 181, 0, 1, 42, 27, 133, 9, 42, 180, 0, 112, 133, 184, 0, 50, 4, 182, 1, 43, 153, 0, 5]
abbrev dktX10_soundsLike_0 : List UInt8 := dkwX10_soundsLike_0 ++ dktX10_soundsLike_1
theorem dksX10_soundsLike_0 : cX10_soundsLike.data.toList.drop 0 = dktX10_soundsLike_0 := by decide +kernel
theorem dksX10_soundsLike_1 : cX10_soundsLike.data.toList.drop 24 = dktX10_soundsLike_1 := dk_seg dksX10_soundsLike_0 24 rfl rfl
theorem dksX10_soundsLike_2 : cX10_soundsLike.data.toList.drop 48 = dktX10_soundsLike_2 := dk_seg dksX10_soundsLike_1 24 rfl rfl
theorem dksX10_soundsLike_3 : cX10_soundsLike.data.toList.drop 71 = dktX10_soundsLike_3 := dk_seg dksX10_soundsLike_2 23 rfl rfl
theorem dX10_soundsLike_0 : decode cX10_soundsLike 0 = .ok (.aload_n 0, 1) := dk_42 (dk_at dksX10_soundsLike_0 0 rfl rfl)
theorem dX10_soundsLike_1 : decode cX10_soundsLike 1 = .ok (.iconst 0, 1) := dk_3 (dk_at dksX10_soundsLike_0 1 rfl rfl)
theorem dX10_soundsLike_2 : decode cX10_soundsLike 2 = .ok (.putfield 1, 3) := dk_181 0 1 (dk_at dksX10_soundsLike_0 2 rfl rfl)
theorem dX10_soundsLike_5 : decode cX10_soundsLike 5 = .ok (.aload_n 0, 1) := dk_42 (dk_at dksX10_soundsLike_0 5 rfl rfl)
theorem dX10_soundsLike_6 : decode cX10_soundsLike 6 = .ok (.iload_n 1, 1) := dk_27 (dk_at dksX10_soundsLike_0 6 rfl rfl)
theorem dX10_soundsLike_7 : decode cX10_soundsLike 7 = .ok (.i2l, 1) := dk_133 (dk_at dksX10_soundsLike_0 7 rfl rfl)
theorem dX10_soundsLike_8 : decode cX10_soundsLike 8 = .ok (.lconst 0, 1) := dk_9 (dk_at dksX10_soundsLike_0 8 rfl rfl)
theorem dX10_soundsLike_9 : decode cX10_soundsLike 9 = .ok (.aload_n 0, 1) := dk_42 (dk_at dksX10_soundsLike_0 9 rfl rfl)
theorem dX10_soundsLike_10 : decode cX10_soundsLike 10 = .ok (.getfield 112, 3) := dk_180 0 112 (dk_at dksX10_soundsLike_0 10 rfl rfl)
theorem dX10_soundsLike_13 : decode cX10_soundsLike 13 = .ok (.i2l, 1) := dk_133 (dk_at dksX10_soundsLike_0 13 rfl rfl)
theorem dX10_soundsLike_14 : decode cX10_soundsLike 14 = .ok (.invokestatic 50, 3) := dk_184 0 50 (dk_at dksX10_soundsLike_0 14 rfl rfl)
theorem dX10_soundsLike_17 : decode cX10_soundsLike 17 = .ok (.iconst 1, 1) := dk_4 (dk_at dksX10_soundsLike_0 17 rfl rfl)
theorem dX10_soundsLike_18 : decode cX10_soundsLike 18 = .ok (.invokevirtual 299, 3) := dk_182 1 43 (dk_at dksX10_soundsLike_0 18 rfl rfl)
theorem dX10_soundsLike_21 : decode cX10_soundsLike 21 = .ok (.ifCond .eq 5, 3) := dk_153 0 5 (dk_at dksX10_soundsLike_0 21 rfl rfl)
theorem dX10_soundsLike_24 : decode cX10_soundsLike 24 = .ok (.iconst 0, 1) := dk_3 (dk_at dksX10_soundsLike_1 0 rfl rfl)
theorem dX10_soundsLike_25 : decode cX10_soundsLike 25 = .ok (.ireturn, 1) := dk_172 (dk_at dksX10_soundsLike_1 1 rfl rfl)
theorem dX10_soundsLike_26 : decode cX10_soundsLike 26 = .ok (.aload_n 0, 1) := dk_42 (dk_at dksX10_soundsLike_1 2 rfl rfl)
theorem dX10_soundsLike_27 : decode cX10_soundsLike 27 = .ok (.iload_n 1, 1) := dk_27 (dk_at dksX10_soundsLike_1 3 rfl rfl)
theorem dX10_soundsLike_28 : decode cX10_soundsLike 28 = .ok (.invokevirtual 303, 3) := dk_182 1 47 (dk_at dksX10_soundsLike_1 4 rfl rfl)
theorem dX10_soundsLike_31 : decode cX10_soundsLike 31 = .ok (.aload_n 0, 1) := dk_42 (dk_at dksX10_soundsLike_1 7 rfl rfl)
theorem dX10_soundsLike_32 : decode cX10_soundsLike 32 = .ok (.invokevirtual 285, 3) := dk_182 1 29 (dk_at dksX10_soundsLike_1 8 rfl rfl)
theorem dX10_soundsLike_35 : decode cX10_soundsLike 35 = .ok (.lstore_n 2, 1) := dk_65 (dk_at dksX10_soundsLike_1 11 rfl rfl)
theorem dX10_soundsLike_36 : decode cX10_soundsLike 36 = .ok (.aload_n 0, 1) := dk_42 (dk_at dksX10_soundsLike_1 12 rfl rfl)
theorem dX10_soundsLike_37 : decode cX10_soundsLike 37 = .ok (.getfield 232, 3) := dk_180 0 232 (dk_at dksX10_soundsLike_1 13 rfl rfl)
theorem dX10_soundsLike_40 : decode cX10_soundsLike 40 = .ok (.ifCond .eq 8, 3) := dk_153 0 8 (dk_at dksX10_soundsLike_1 16 rfl rfl)
theorem dX10_soundsLike_43 : decode cX10_soundsLike 43 = .ok (.aload_n 0, 1) := dk_42 (dk_at dksX10_soundsLike_1 19 rfl rfl)
theorem dX10_soundsLike_44 : decode cX10_soundsLike 44 = .ok (.iconst 1, 1) := dk_4 (dk_at dksX10_soundsLike_1 20 rfl rfl)
theorem dX10_soundsLike_45 : decode cX10_soundsLike 45 = .ok (.invokevirtual 250, 3) := dk_182 0 250 (dk_at dksX10_soundsLike_1 21 rfl rfl)
theorem dX10_soundsLike_48 : decode cX10_soundsLike 48 = .ok (.aload_n 0, 1) := dk_42 (dk_at dksX10_soundsLike_2 0 rfl rfl)
theorem dX10_soundsLike_49 : decode cX10_soundsLike 49 = .ok (.getfield 244, 3) := dk_180 0 244 (dk_at dksX10_soundsLike_2 1 rfl rfl)
theorem dX10_soundsLike_52 : decode cX10_soundsLike 52 = .ok (.ifCond .eq 13, 3) := dk_153 0 13 (dk_at dksX10_soundsLike_2 4 rfl rfl)
theorem dX10_soundsLike_55 : decode cX10_soundsLike 55 = .ok (.bipush (-10), 2) := dk_16 246 (dk_at dksX10_soundsLike_2 7 rfl rfl)
theorem dX10_soundsLike_57 : decode cX10_soundsLike 57 = .ok (.aload_n 0, 1) := dk_42 (dk_at dksX10_soundsLike_2 9 rfl rfl)
theorem dX10_soundsLike_58 : decode cX10_soundsLike 58 = .ok (.getfield 244, 3) := dk_180 0 244 (dk_at dksX10_soundsLike_2 10 rfl rfl)
theorem dX10_soundsLike_61 : decode cX10_soundsLike 61 = .ok (.isub, 1) := dk_100 (dk_at dksX10_soundsLike_2 13 rfl rfl)
theorem dX10_soundsLike_62 : decode cX10_soundsLike 62 = .ok (.goto 12, 3) := dk_167 0 12 (dk_at dksX10_soundsLike_2 14 rfl rfl)
theorem dX10_soundsLike_65 : decode cX10_soundsLike 65 = .ok (.aload_n 0, 1) := dk_42 (dk_at dksX10_soundsLike_2 17 rfl rfl)
theorem dX10_soundsLike_66 : decode cX10_soundsLike 66 = .ok (.aload_n 0, 1) := dk_42 (dk_at dksX10_soundsLike_2 18 rfl rfl)
theorem dX10_soundsLike_67 : decode cX10_soundsLike 67 = .ok (.lload_n 2, 1) := dk_32 (dk_at dksX10_soundsLike_2 19 rfl rfl)
theorem dX10_soundsLike_68 : decode cX10_soundsLike 68 = .ok (.invokevirtual 140, 3) := dk_182 0 140 (dk_at dksX10_soundsLike_2 20 rfl rfl)
theorem dX10_soundsLike_71 : decode cX10_soundsLike 71 = .ok (.invokevirtual 373, 3) := dk_182 1 117 (dk_at dksX10_soundsLike_3 0 rfl rfl)
theorem dX10_soundsLike_74 : decode cX10_soundsLike 74 = .ok (.ireturn, 1) := dk_172 (dk_at dksX10_soundsLike_3 3 rfl rfl)
abbrev cX10_sounding : ByteArray := prog_28_method_98_code
def yX10_sounding : MethodName := ⟨RX10, "sounding", "(J)I"⟩
def dkwX10_sounding_3 : List UInt8 := [132, 4, 1, 167, 255, 186, 29, 172]
abbrev dktX10_sounding_3 : List UInt8 := dkwX10_sounding_3 ++ []
def dkwX10_sounding_2 : List UInt8 := [154, 0, 7, 4, 167, 0, 4, 3, 54, 5, 132, 6, 1, 167, 255, 216, 21, 5, 153, 0, 6, 132, 3, 1]
abbrev dktX10_sounding_2 : List UInt8 := dkwX10_sounding_2 ++ dktX10_sounding_3
def dkwX10_sounding_1 : List UInt8 := [21, 4, 6, 182, 0, 129, 162, 0, 34, 21, 5, 154, 0, 16, 42, 21, 4, 21, 6, 182, 1, 94, 31, 148]
abbrev dktX10_sounding_1 : List UInt8 := dkwX10_sounding_1 ++ dktX10_sounding_2
def dkwX10_sounding_0 : List UInt8 := [3, 62, 3, 54, 4, 21, 4, 42, 5, 182, 0, 118, 162, 0, 66, 3, 54, 5, 3, 54, 6, 21, 6, 42]
abbrev dktX10_sounding_0 : List UInt8 := dkwX10_sounding_0 ++ dktX10_sounding_1
theorem dksX10_sounding_0 : cX10_sounding.data.toList.drop 0 = dktX10_sounding_0 := by decide +kernel
theorem dksX10_sounding_1 : cX10_sounding.data.toList.drop 24 = dktX10_sounding_1 := dk_seg dksX10_sounding_0 24 rfl rfl
theorem dksX10_sounding_2 : cX10_sounding.data.toList.drop 48 = dktX10_sounding_2 := dk_seg dksX10_sounding_1 24 rfl rfl
theorem dksX10_sounding_3 : cX10_sounding.data.toList.drop 72 = dktX10_sounding_3 := dk_seg dksX10_sounding_2 24 rfl rfl
theorem dX10_sounding_0 : decode cX10_sounding 0 = .ok (.iconst 0, 1) := dk_3 (dk_at dksX10_sounding_0 0 rfl rfl)
theorem dX10_sounding_1 : decode cX10_sounding 1 = .ok (.istore_n 3, 1) := dk_62 (dk_at dksX10_sounding_0 1 rfl rfl)
theorem dX10_sounding_2 : decode cX10_sounding 2 = .ok (.iconst 0, 1) := dk_3 (dk_at dksX10_sounding_0 2 rfl rfl)
theorem dX10_sounding_3 : decode cX10_sounding 3 = .ok (.istore 4, 2) := dk_54 4 (dk_at dksX10_sounding_0 3 rfl rfl)
theorem dX10_sounding_5 : decode cX10_sounding 5 = .ok (.iload 4, 2) := dk_21 4 (dk_at dksX10_sounding_0 5 rfl rfl)
theorem dX10_sounding_7 : decode cX10_sounding 7 = .ok (.aload_n 0, 1) := dk_42 (dk_at dksX10_sounding_0 7 rfl rfl)
theorem dX10_sounding_8 : decode cX10_sounding 8 = .ok (.iconst 2, 1) := dk_5 (dk_at dksX10_sounding_0 8 rfl rfl)
theorem dX10_sounding_9 : decode cX10_sounding 9 = .ok (.invokevirtual 118, 3) := dk_182 0 118 (dk_at dksX10_sounding_0 9 rfl rfl)
theorem dX10_sounding_12 : decode cX10_sounding 12 = .ok (.if_icmp .ge 66, 3) := dk_162 0 66 (dk_at dksX10_sounding_0 12 rfl rfl)
theorem dX10_sounding_15 : decode cX10_sounding 15 = .ok (.iconst 0, 1) := dk_3 (dk_at dksX10_sounding_0 15 rfl rfl)
theorem dX10_sounding_16 : decode cX10_sounding 16 = .ok (.istore 5, 2) := dk_54 5 (dk_at dksX10_sounding_0 16 rfl rfl)
theorem dX10_sounding_18 : decode cX10_sounding 18 = .ok (.iconst 0, 1) := dk_3 (dk_at dksX10_sounding_0 18 rfl rfl)
theorem dX10_sounding_19 : decode cX10_sounding 19 = .ok (.istore 6, 2) := dk_54 6 (dk_at dksX10_sounding_0 19 rfl rfl)
theorem dX10_sounding_21 : decode cX10_sounding 21 = .ok (.iload 6, 2) := dk_21 6 (dk_at dksX10_sounding_0 21 rfl rfl)
theorem dX10_sounding_23 : decode cX10_sounding 23 = .ok (.aload_n 0, 1) := dk_42 (dk_at dksX10_sounding_0 23 rfl rfl)
theorem dX10_sounding_24 : decode cX10_sounding 24 = .ok (.iload 4, 2) := dk_21 4 (dk_at dksX10_sounding_1 0 rfl rfl)
theorem dX10_sounding_26 : decode cX10_sounding 26 = .ok (.iconst 3, 1) := dk_6 (dk_at dksX10_sounding_1 2 rfl rfl)
theorem dX10_sounding_27 : decode cX10_sounding 27 = .ok (.invokevirtual 129, 3) := dk_182 0 129 (dk_at dksX10_sounding_1 3 rfl rfl)
theorem dX10_sounding_30 : decode cX10_sounding 30 = .ok (.if_icmp .ge 34, 3) := dk_162 0 34 (dk_at dksX10_sounding_1 6 rfl rfl)
theorem dX10_sounding_33 : decode cX10_sounding 33 = .ok (.iload 5, 2) := dk_21 5 (dk_at dksX10_sounding_1 9 rfl rfl)
theorem dX10_sounding_35 : decode cX10_sounding 35 = .ok (.ifCond .ne 16, 3) := dk_154 0 16 (dk_at dksX10_sounding_1 11 rfl rfl)
theorem dX10_sounding_38 : decode cX10_sounding 38 = .ok (.aload_n 0, 1) := dk_42 (dk_at dksX10_sounding_1 14 rfl rfl)
theorem dX10_sounding_39 : decode cX10_sounding 39 = .ok (.iload 4, 2) := dk_21 4 (dk_at dksX10_sounding_1 15 rfl rfl)
theorem dX10_sounding_41 : decode cX10_sounding 41 = .ok (.iload 6, 2) := dk_21 6 (dk_at dksX10_sounding_1 17 rfl rfl)
theorem dX10_sounding_43 : decode cX10_sounding 43 = .ok (.invokevirtual 350, 3) := dk_182 1 94 (dk_at dksX10_sounding_1 19 rfl rfl)
theorem dX10_sounding_46 : decode cX10_sounding 46 = .ok (.lload_n 1, 1) := dk_31 (dk_at dksX10_sounding_1 22 rfl rfl)
theorem dX10_sounding_47 : decode cX10_sounding 47 = .ok (.lcmp, 1) := dk_148 (dk_at dksX10_sounding_1 23 rfl rfl)
theorem dX10_sounding_48 : decode cX10_sounding 48 = .ok (.ifCond .ne 7, 3) := dk_154 0 7 (dk_at dksX10_sounding_2 0 rfl rfl)
theorem dX10_sounding_51 : decode cX10_sounding 51 = .ok (.iconst 1, 1) := dk_4 (dk_at dksX10_sounding_2 3 rfl rfl)
theorem dX10_sounding_52 : decode cX10_sounding 52 = .ok (.goto 4, 3) := dk_167 0 4 (dk_at dksX10_sounding_2 4 rfl rfl)
theorem dX10_sounding_55 : decode cX10_sounding 55 = .ok (.iconst 0, 1) := dk_3 (dk_at dksX10_sounding_2 7 rfl rfl)
theorem dX10_sounding_56 : decode cX10_sounding 56 = .ok (.istore 5, 2) := dk_54 5 (dk_at dksX10_sounding_2 8 rfl rfl)
theorem dX10_sounding_58 : decode cX10_sounding 58 = .ok (.iinc 6 1, 3) := dk_132 6 1 (dk_at dksX10_sounding_2 10 rfl rfl)
theorem dX10_sounding_61 : decode cX10_sounding 61 = .ok (.goto (-40), 3) := dk_167 255 216 (dk_at dksX10_sounding_2 13 rfl rfl)
theorem dX10_sounding_64 : decode cX10_sounding 64 = .ok (.iload 5, 2) := dk_21 5 (dk_at dksX10_sounding_2 16 rfl rfl)
theorem dX10_sounding_66 : decode cX10_sounding 66 = .ok (.ifCond .eq 6, 3) := dk_153 0 6 (dk_at dksX10_sounding_2 18 rfl rfl)
theorem dX10_sounding_69 : decode cX10_sounding 69 = .ok (.iinc 3 1, 3) := dk_132 3 1 (dk_at dksX10_sounding_2 21 rfl rfl)
theorem dX10_sounding_72 : decode cX10_sounding 72 = .ok (.iinc 4 1, 3) := dk_132 4 1 (dk_at dksX10_sounding_3 0 rfl rfl)
theorem dX10_sounding_75 : decode cX10_sounding 75 = .ok (.goto (-70), 3) := dk_167 255 186 (dk_at dksX10_sounding_3 3 rfl rfl)
theorem dX10_sounding_78 : decode cX10_sounding 78 = .ok (.iload_n 3, 1) := dk_29 (dk_at dksX10_sounding_3 6 rfl rfl)
theorem dX10_sounding_79 : decode cX10_sounding 79 = .ok (.ireturn, 1) := dk_172 (dk_at dksX10_sounding_3 7 rfl rfl)
abbrev cX10_rankIf : ByteArray := prog_28_method_101_code
def yX10_rankIf : MethodName := ⟨RX10, "rankIf", "(I)I"⟩
def dkwX10_rankIf_2 : List UInt8 := [172]
abbrev dktX10_rankIf_2 : List UInt8 := dkwX10_rankIf_2 ++ []
def dkwX10_rankIf_1 : List UInt8 := [3, 172, 42, 27, 182, 1, 120, 153, 0, 10, 42, 182, 0, 150, 167, 0, 10, 16, 246, 42, 180, 0, 244, 100]
abbrev dktX10_rankIf_1 : List UInt8 := dkwX10_rankIf_1 ++ dktX10_rankIf_2
def dkwX10_rankIf_0 : List UInt8 := [42, 3, 181, 0, 1, 42, 27, 133, 9, 42, 180, 0, 112, 133, 184, 0, 50, 4, 182, 1, 43, 153, 0, 5]
abbrev dktX10_rankIf_0 : List UInt8 := dkwX10_rankIf_0 ++ dktX10_rankIf_1
theorem dksX10_rankIf_0 : cX10_rankIf.data.toList.drop 0 = dktX10_rankIf_0 := by decide +kernel
theorem dksX10_rankIf_1 : cX10_rankIf.data.toList.drop 24 = dktX10_rankIf_1 := dk_seg dksX10_rankIf_0 24 rfl rfl
theorem dksX10_rankIf_2 : cX10_rankIf.data.toList.drop 48 = dktX10_rankIf_2 := dk_seg dksX10_rankIf_1 24 rfl rfl
theorem dX10_rankIf_0 : decode cX10_rankIf 0 = .ok (.aload_n 0, 1) := dk_42 (dk_at dksX10_rankIf_0 0 rfl rfl)
theorem dX10_rankIf_1 : decode cX10_rankIf 1 = .ok (.iconst 0, 1) := dk_3 (dk_at dksX10_rankIf_0 1 rfl rfl)
theorem dX10_rankIf_2 : decode cX10_rankIf 2 = .ok (.putfield 1, 3) := dk_181 0 1 (dk_at dksX10_rankIf_0 2 rfl rfl)
theorem dX10_rankIf_5 : decode cX10_rankIf 5 = .ok (.aload_n 0, 1) := dk_42 (dk_at dksX10_rankIf_0 5 rfl rfl)
theorem dX10_rankIf_6 : decode cX10_rankIf 6 = .ok (.iload_n 1, 1) := dk_27 (dk_at dksX10_rankIf_0 6 rfl rfl)
theorem dX10_rankIf_7 : decode cX10_rankIf 7 = .ok (.i2l, 1) := dk_133 (dk_at dksX10_rankIf_0 7 rfl rfl)
theorem dX10_rankIf_8 : decode cX10_rankIf 8 = .ok (.lconst 0, 1) := dk_9 (dk_at dksX10_rankIf_0 8 rfl rfl)
theorem dX10_rankIf_9 : decode cX10_rankIf 9 = .ok (.aload_n 0, 1) := dk_42 (dk_at dksX10_rankIf_0 9 rfl rfl)
theorem dX10_rankIf_10 : decode cX10_rankIf 10 = .ok (.getfield 112, 3) := dk_180 0 112 (dk_at dksX10_rankIf_0 10 rfl rfl)
theorem dX10_rankIf_13 : decode cX10_rankIf 13 = .ok (.i2l, 1) := dk_133 (dk_at dksX10_rankIf_0 13 rfl rfl)
theorem dX10_rankIf_14 : decode cX10_rankIf 14 = .ok (.invokestatic 50, 3) := dk_184 0 50 (dk_at dksX10_rankIf_0 14 rfl rfl)
theorem dX10_rankIf_17 : decode cX10_rankIf 17 = .ok (.iconst 1, 1) := dk_4 (dk_at dksX10_rankIf_0 17 rfl rfl)
theorem dX10_rankIf_18 : decode cX10_rankIf 18 = .ok (.invokevirtual 299, 3) := dk_182 1 43 (dk_at dksX10_rankIf_0 18 rfl rfl)
theorem dX10_rankIf_21 : decode cX10_rankIf 21 = .ok (.ifCond .eq 5, 3) := dk_153 0 5 (dk_at dksX10_rankIf_0 21 rfl rfl)
theorem dX10_rankIf_24 : decode cX10_rankIf 24 = .ok (.iconst 0, 1) := dk_3 (dk_at dksX10_rankIf_1 0 rfl rfl)
theorem dX10_rankIf_25 : decode cX10_rankIf 25 = .ok (.ireturn, 1) := dk_172 (dk_at dksX10_rankIf_1 1 rfl rfl)
theorem dX10_rankIf_26 : decode cX10_rankIf 26 = .ok (.aload_n 0, 1) := dk_42 (dk_at dksX10_rankIf_1 2 rfl rfl)
theorem dX10_rankIf_27 : decode cX10_rankIf 27 = .ok (.iload_n 1, 1) := dk_27 (dk_at dksX10_rankIf_1 3 rfl rfl)
theorem dX10_rankIf_28 : decode cX10_rankIf 28 = .ok (.invokevirtual 376, 3) := dk_182 1 120 (dk_at dksX10_rankIf_1 4 rfl rfl)
theorem dX10_rankIf_31 : decode cX10_rankIf 31 = .ok (.ifCond .eq 10, 3) := dk_153 0 10 (dk_at dksX10_rankIf_1 7 rfl rfl)
theorem dX10_rankIf_34 : decode cX10_rankIf 34 = .ok (.aload_n 0, 1) := dk_42 (dk_at dksX10_rankIf_1 10 rfl rfl)
theorem dX10_rankIf_35 : decode cX10_rankIf 35 = .ok (.invokevirtual 150, 3) := dk_182 0 150 (dk_at dksX10_rankIf_1 11 rfl rfl)
theorem dX10_rankIf_38 : decode cX10_rankIf 38 = .ok (.goto 10, 3) := dk_167 0 10 (dk_at dksX10_rankIf_1 14 rfl rfl)
theorem dX10_rankIf_41 : decode cX10_rankIf 41 = .ok (.bipush (-10), 2) := dk_16 246 (dk_at dksX10_rankIf_1 17 rfl rfl)
theorem dX10_rankIf_43 : decode cX10_rankIf 43 = .ok (.aload_n 0, 1) := dk_42 (dk_at dksX10_rankIf_1 19 rfl rfl)
theorem dX10_rankIf_44 : decode cX10_rankIf 44 = .ok (.getfield 244, 3) := dk_180 0 244 (dk_at dksX10_rankIf_1 20 rfl rfl)
theorem dX10_rankIf_47 : decode cX10_rankIf 47 = .ok (.isub, 1) := dk_100 (dk_at dksX10_rankIf_1 23 rfl rfl)
theorem dX10_rankIf_48 : decode cX10_rankIf 48 = .ok (.ireturn, 1) := dk_172 (dk_at dksX10_rankIf_2 0 rfl rfl)
abbrev cX10_readsGuest : ByteArray := prog_28_method_100_code
def yX10_readsGuest : MethodName := ⟨RX10, "readsGuest", "(I)Z"⟩
def dkwX10_readsGuest_2 : List UInt8 := [154, 0, 7, 4, 167, 0, 4, 3, 172]
abbrev dktX10_readsGuest_2 : List UInt8 := dkwX10_readsGuest_2 ++ []
def dkwX10_readsGuest_1 : List UInt8 := [180, 0, 244, 154, 0, 16, 42, 42, 180, 0, 85, 3, 42, 180, 1, 1, 182, 1, 39, 42, 180, 0, 244]
abbrev dktX10_readsGuest_1 : List UInt8 := dkwX10_readsGuest_1 ++ dktX10_readsGuest_2
def dkwX10_readsGuest_0 : List UInt8 := [42, 27, 182, 1, 47, 42, 182, 1, 36, 42, 180, 0, 232, 153, 0, 8, 42, 4, 182, 0, 250, 42]
abbrev dktX10_readsGuest_0 : List UInt8 := dkwX10_readsGuest_0 ++ dktX10_readsGuest_1
theorem dksX10_readsGuest_0 : cX10_readsGuest.data.toList.drop 0 = dktX10_readsGuest_0 := by decide +kernel
theorem dksX10_readsGuest_1 : cX10_readsGuest.data.toList.drop 22 = dktX10_readsGuest_1 := dk_seg dksX10_readsGuest_0 22 rfl rfl
theorem dksX10_readsGuest_2 : cX10_readsGuest.data.toList.drop 45 = dktX10_readsGuest_2 := dk_seg dksX10_readsGuest_1 23 rfl rfl
theorem dX10_readsGuest_0 : decode cX10_readsGuest 0 = .ok (.aload_n 0, 1) := dk_42 (dk_at dksX10_readsGuest_0 0 rfl rfl)
theorem dX10_readsGuest_1 : decode cX10_readsGuest 1 = .ok (.iload_n 1, 1) := dk_27 (dk_at dksX10_readsGuest_0 1 rfl rfl)
theorem dX10_readsGuest_2 : decode cX10_readsGuest 2 = .ok (.invokevirtual 303, 3) := dk_182 1 47 (dk_at dksX10_readsGuest_0 2 rfl rfl)
theorem dX10_readsGuest_5 : decode cX10_readsGuest 5 = .ok (.aload_n 0, 1) := dk_42 (dk_at dksX10_readsGuest_0 5 rfl rfl)
theorem dX10_readsGuest_6 : decode cX10_readsGuest 6 = .ok (.invokevirtual 292, 3) := dk_182 1 36 (dk_at dksX10_readsGuest_0 6 rfl rfl)
theorem dX10_readsGuest_9 : decode cX10_readsGuest 9 = .ok (.aload_n 0, 1) := dk_42 (dk_at dksX10_readsGuest_0 9 rfl rfl)
theorem dX10_readsGuest_10 : decode cX10_readsGuest 10 = .ok (.getfield 232, 3) := dk_180 0 232 (dk_at dksX10_readsGuest_0 10 rfl rfl)
theorem dX10_readsGuest_13 : decode cX10_readsGuest 13 = .ok (.ifCond .eq 8, 3) := dk_153 0 8 (dk_at dksX10_readsGuest_0 13 rfl rfl)
theorem dX10_readsGuest_16 : decode cX10_readsGuest 16 = .ok (.aload_n 0, 1) := dk_42 (dk_at dksX10_readsGuest_0 16 rfl rfl)
theorem dX10_readsGuest_17 : decode cX10_readsGuest 17 = .ok (.iconst 1, 1) := dk_4 (dk_at dksX10_readsGuest_0 17 rfl rfl)
theorem dX10_readsGuest_18 : decode cX10_readsGuest 18 = .ok (.invokevirtual 250, 3) := dk_182 0 250 (dk_at dksX10_readsGuest_0 18 rfl rfl)
theorem dX10_readsGuest_21 : decode cX10_readsGuest 21 = .ok (.aload_n 0, 1) := dk_42 (dk_at dksX10_readsGuest_0 21 rfl rfl)
theorem dX10_readsGuest_22 : decode cX10_readsGuest 22 = .ok (.getfield 244, 3) := dk_180 0 244 (dk_at dksX10_readsGuest_1 0 rfl rfl)
theorem dX10_readsGuest_25 : decode cX10_readsGuest 25 = .ok (.ifCond .ne 16, 3) := dk_154 0 16 (dk_at dksX10_readsGuest_1 3 rfl rfl)
theorem dX10_readsGuest_28 : decode cX10_readsGuest 28 = .ok (.aload_n 0, 1) := dk_42 (dk_at dksX10_readsGuest_1 6 rfl rfl)
theorem dX10_readsGuest_29 : decode cX10_readsGuest 29 = .ok (.aload_n 0, 1) := dk_42 (dk_at dksX10_readsGuest_1 7 rfl rfl)
theorem dX10_readsGuest_30 : decode cX10_readsGuest 30 = .ok (.getfield 85, 3) := dk_180 0 85 (dk_at dksX10_readsGuest_1 8 rfl rfl)
theorem dX10_readsGuest_33 : decode cX10_readsGuest 33 = .ok (.iconst 0, 1) := dk_3 (dk_at dksX10_readsGuest_1 11 rfl rfl)
theorem dX10_readsGuest_34 : decode cX10_readsGuest 34 = .ok (.aload_n 0, 1) := dk_42 (dk_at dksX10_readsGuest_1 12 rfl rfl)
theorem dX10_readsGuest_35 : decode cX10_readsGuest 35 = .ok (.getfield 257, 3) := dk_180 1 1 (dk_at dksX10_readsGuest_1 13 rfl rfl)
theorem dX10_readsGuest_38 : decode cX10_readsGuest 38 = .ok (.invokevirtual 295, 3) := dk_182 1 39 (dk_at dksX10_readsGuest_1 16 rfl rfl)
theorem dX10_readsGuest_41 : decode cX10_readsGuest 41 = .ok (.aload_n 0, 1) := dk_42 (dk_at dksX10_readsGuest_1 19 rfl rfl)
theorem dX10_readsGuest_42 : decode cX10_readsGuest 42 = .ok (.getfield 244, 3) := dk_180 0 244 (dk_at dksX10_readsGuest_1 20 rfl rfl)
theorem dX10_readsGuest_45 : decode cX10_readsGuest 45 = .ok (.ifCond .ne 7, 3) := dk_154 0 7 (dk_at dksX10_readsGuest_2 0 rfl rfl)
theorem dX10_readsGuest_48 : decode cX10_readsGuest 48 = .ok (.iconst 1, 1) := dk_4 (dk_at dksX10_readsGuest_2 3 rfl rfl)
theorem dX10_readsGuest_49 : decode cX10_readsGuest 49 = .ok (.goto 4, 3) := dk_167 0 4 (dk_at dksX10_readsGuest_2 4 rfl rfl)
theorem dX10_readsGuest_52 : decode cX10_readsGuest 52 = .ok (.iconst 0, 1) := dk_3 (dk_at dksX10_readsGuest_2 7 rfl rfl)
theorem dX10_readsGuest_53 : decode cX10_readsGuest 53 = .ok (.ireturn, 1) := dk_172 (dk_at dksX10_readsGuest_2 8 rfl rfl)
abbrev cX10_placeIf : ByteArray := prog_28_method_102_code
def yX10_placeIf : MethodName := ⟨RX10, "placeIf", "(I)I"⟩
def dkwX10_placeIf_2 : List UInt8 := [159, 0, 15, 42, 42, 182, 0, 199, 5, 182, 0, 129, 167, 0, 11, 42, 42, 182, 0, 150, 182, 0, 170, 172]
abbrev dktX10_placeIf_2 : List UInt8 := dkwX10_placeIf_2 ++ []
def dkwX10_placeIf_1 : List UInt8 := [3, 172, 42, 27, 182, 1, 120, 154, 0, 11, 16, 246, 42, 180, 0, 244, 100, 172, 42, 182, 0, 199, 2]
abbrev dktX10_placeIf_1 : List UInt8 := dkwX10_placeIf_1 ++ dktX10_placeIf_2
def dkwX10_placeIf_0 : List UInt8 := [42, 3, 181, 0, 1, 42, 27, 133, 9, 42, 180, 0, 112, 133, 184, 0, 50, 4, 182, 1, 43, 153, 0, 5]
abbrev dktX10_placeIf_0 : List UInt8 := dkwX10_placeIf_0 ++ dktX10_placeIf_1
theorem dksX10_placeIf_0 : cX10_placeIf.data.toList.drop 0 = dktX10_placeIf_0 := by decide +kernel
theorem dksX10_placeIf_1 : cX10_placeIf.data.toList.drop 24 = dktX10_placeIf_1 := dk_seg dksX10_placeIf_0 24 rfl rfl
theorem dksX10_placeIf_2 : cX10_placeIf.data.toList.drop 47 = dktX10_placeIf_2 := dk_seg dksX10_placeIf_1 23 rfl rfl
theorem dX10_placeIf_0 : decode cX10_placeIf 0 = .ok (.aload_n 0, 1) := dk_42 (dk_at dksX10_placeIf_0 0 rfl rfl)
theorem dX10_placeIf_1 : decode cX10_placeIf 1 = .ok (.iconst 0, 1) := dk_3 (dk_at dksX10_placeIf_0 1 rfl rfl)
theorem dX10_placeIf_2 : decode cX10_placeIf 2 = .ok (.putfield 1, 3) := dk_181 0 1 (dk_at dksX10_placeIf_0 2 rfl rfl)
theorem dX10_placeIf_5 : decode cX10_placeIf 5 = .ok (.aload_n 0, 1) := dk_42 (dk_at dksX10_placeIf_0 5 rfl rfl)
theorem dX10_placeIf_6 : decode cX10_placeIf 6 = .ok (.iload_n 1, 1) := dk_27 (dk_at dksX10_placeIf_0 6 rfl rfl)
theorem dX10_placeIf_7 : decode cX10_placeIf 7 = .ok (.i2l, 1) := dk_133 (dk_at dksX10_placeIf_0 7 rfl rfl)
theorem dX10_placeIf_8 : decode cX10_placeIf 8 = .ok (.lconst 0, 1) := dk_9 (dk_at dksX10_placeIf_0 8 rfl rfl)
theorem dX10_placeIf_9 : decode cX10_placeIf 9 = .ok (.aload_n 0, 1) := dk_42 (dk_at dksX10_placeIf_0 9 rfl rfl)
theorem dX10_placeIf_10 : decode cX10_placeIf 10 = .ok (.getfield 112, 3) := dk_180 0 112 (dk_at dksX10_placeIf_0 10 rfl rfl)
theorem dX10_placeIf_13 : decode cX10_placeIf 13 = .ok (.i2l, 1) := dk_133 (dk_at dksX10_placeIf_0 13 rfl rfl)
theorem dX10_placeIf_14 : decode cX10_placeIf 14 = .ok (.invokestatic 50, 3) := dk_184 0 50 (dk_at dksX10_placeIf_0 14 rfl rfl)
theorem dX10_placeIf_17 : decode cX10_placeIf 17 = .ok (.iconst 1, 1) := dk_4 (dk_at dksX10_placeIf_0 17 rfl rfl)
theorem dX10_placeIf_18 : decode cX10_placeIf 18 = .ok (.invokevirtual 299, 3) := dk_182 1 43 (dk_at dksX10_placeIf_0 18 rfl rfl)
theorem dX10_placeIf_21 : decode cX10_placeIf 21 = .ok (.ifCond .eq 5, 3) := dk_153 0 5 (dk_at dksX10_placeIf_0 21 rfl rfl)
theorem dX10_placeIf_24 : decode cX10_placeIf 24 = .ok (.iconst 0, 1) := dk_3 (dk_at dksX10_placeIf_1 0 rfl rfl)
theorem dX10_placeIf_25 : decode cX10_placeIf 25 = .ok (.ireturn, 1) := dk_172 (dk_at dksX10_placeIf_1 1 rfl rfl)
theorem dX10_placeIf_26 : decode cX10_placeIf 26 = .ok (.aload_n 0, 1) := dk_42 (dk_at dksX10_placeIf_1 2 rfl rfl)
theorem dX10_placeIf_27 : decode cX10_placeIf 27 = .ok (.iload_n 1, 1) := dk_27 (dk_at dksX10_placeIf_1 3 rfl rfl)
theorem dX10_placeIf_28 : decode cX10_placeIf 28 = .ok (.invokevirtual 376, 3) := dk_182 1 120 (dk_at dksX10_placeIf_1 4 rfl rfl)
theorem dX10_placeIf_31 : decode cX10_placeIf 31 = .ok (.ifCond .ne 11, 3) := dk_154 0 11 (dk_at dksX10_placeIf_1 7 rfl rfl)
theorem dX10_placeIf_34 : decode cX10_placeIf 34 = .ok (.bipush (-10), 2) := dk_16 246 (dk_at dksX10_placeIf_1 10 rfl rfl)
theorem dX10_placeIf_36 : decode cX10_placeIf 36 = .ok (.aload_n 0, 1) := dk_42 (dk_at dksX10_placeIf_1 12 rfl rfl)
theorem dX10_placeIf_37 : decode cX10_placeIf 37 = .ok (.getfield 244, 3) := dk_180 0 244 (dk_at dksX10_placeIf_1 13 rfl rfl)
theorem dX10_placeIf_40 : decode cX10_placeIf 40 = .ok (.isub, 1) := dk_100 (dk_at dksX10_placeIf_1 16 rfl rfl)
theorem dX10_placeIf_41 : decode cX10_placeIf 41 = .ok (.ireturn, 1) := dk_172 (dk_at dksX10_placeIf_1 17 rfl rfl)
theorem dX10_placeIf_42 : decode cX10_placeIf 42 = .ok (.aload_n 0, 1) := dk_42 (dk_at dksX10_placeIf_1 18 rfl rfl)
theorem dX10_placeIf_43 : decode cX10_placeIf 43 = .ok (.invokevirtual 199, 3) := dk_182 0 199 (dk_at dksX10_placeIf_1 19 rfl rfl)
theorem dX10_placeIf_46 : decode cX10_placeIf 46 = .ok (.iconst (-1), 1) := dk_2 (dk_at dksX10_placeIf_1 22 rfl rfl)
theorem dX10_placeIf_47 : decode cX10_placeIf 47 = .ok (.if_icmp .eq 15, 3) := dk_159 0 15 (dk_at dksX10_placeIf_2 0 rfl rfl)
theorem dX10_placeIf_50 : decode cX10_placeIf 50 = .ok (.aload_n 0, 1) := dk_42 (dk_at dksX10_placeIf_2 3 rfl rfl)
theorem dX10_placeIf_51 : decode cX10_placeIf 51 = .ok (.aload_n 0, 1) := dk_42 (dk_at dksX10_placeIf_2 4 rfl rfl)
theorem dX10_placeIf_52 : decode cX10_placeIf 52 = .ok (.invokevirtual 199, 3) := dk_182 0 199 (dk_at dksX10_placeIf_2 5 rfl rfl)
theorem dX10_placeIf_55 : decode cX10_placeIf 55 = .ok (.iconst 2, 1) := dk_5 (dk_at dksX10_placeIf_2 8 rfl rfl)
theorem dX10_placeIf_56 : decode cX10_placeIf 56 = .ok (.invokevirtual 129, 3) := dk_182 0 129 (dk_at dksX10_placeIf_2 9 rfl rfl)
theorem dX10_placeIf_59 : decode cX10_placeIf 59 = .ok (.goto 11, 3) := dk_167 0 11 (dk_at dksX10_placeIf_2 12 rfl rfl)
theorem dX10_placeIf_62 : decode cX10_placeIf 62 = .ok (.aload_n 0, 1) := dk_42 (dk_at dksX10_placeIf_2 15 rfl rfl)
theorem dX10_placeIf_63 : decode cX10_placeIf 63 = .ok (.aload_n 0, 1) := dk_42 (dk_at dksX10_placeIf_2 16 rfl rfl)
theorem dX10_placeIf_64 : decode cX10_placeIf 64 = .ok (.invokevirtual 150, 3) := dk_182 0 150 (dk_at dksX10_placeIf_2 17 rfl rfl)
theorem dX10_placeIf_67 : decode cX10_placeIf 67 = .ok (.invokevirtual 170, 3) := dk_182 0 170 (dk_at dksX10_placeIf_2 20 rfl rfl)
theorem dX10_placeIf_70 : decode cX10_placeIf 70 = .ok (.ireturn, 1) := dk_172 (dk_at dksX10_placeIf_2 23 rfl rfl)
abbrev cX10_movesIf : ByteArray := prog_28_method_103_code
def yX10_movesIf : MethodName := ⟨RX10, "movesIf", "(I)I"⟩
def dkwX10_movesIf_3 : List UInt8 := [182, 0, 173, 172]
abbrev dktX10_movesIf_3 : List UInt8 := dkwX10_movesIf_3 ++ []
def dkwX10_movesIf_2 : List UInt8 := [160, 0, 14, 42, 42, 182, 0, 150, 182, 0, 162, 153, 0, 7, 3, 167, 0, 11, 42, 42, 182, 0, 150]
abbrev dktX10_movesIf_2 : List UInt8 := dkwX10_movesIf_2 ++ dktX10_movesIf_3
def dkwX10_movesIf_1 : List UInt8 := [3, 172, 42, 27, 182, 1, 120, 154, 0, 11, 16, 246, 42, 180, 0, 244, 100, 172, 42, 182, 0, 199, 2]
abbrev dktX10_movesIf_1 : List UInt8 := dkwX10_movesIf_1 ++ dktX10_movesIf_2
def dkwX10_movesIf_0 : List UInt8 := [42, 3, 181, 0, 1, 42, 27, 133, 9, 42, 180, 0, 112, 133, 184, 0, 50, 4, 182, 1, 43, 153, 0, 5]
abbrev dktX10_movesIf_0 : List UInt8 := dkwX10_movesIf_0 ++ dktX10_movesIf_1
theorem dksX10_movesIf_0 : cX10_movesIf.data.toList.drop 0 = dktX10_movesIf_0 := by decide +kernel
theorem dksX10_movesIf_1 : cX10_movesIf.data.toList.drop 24 = dktX10_movesIf_1 := dk_seg dksX10_movesIf_0 24 rfl rfl
theorem dksX10_movesIf_2 : cX10_movesIf.data.toList.drop 47 = dktX10_movesIf_2 := dk_seg dksX10_movesIf_1 23 rfl rfl
theorem dksX10_movesIf_3 : cX10_movesIf.data.toList.drop 70 = dktX10_movesIf_3 := dk_seg dksX10_movesIf_2 23 rfl rfl
theorem dX10_movesIf_0 : decode cX10_movesIf 0 = .ok (.aload_n 0, 1) := dk_42 (dk_at dksX10_movesIf_0 0 rfl rfl)
theorem dX10_movesIf_1 : decode cX10_movesIf 1 = .ok (.iconst 0, 1) := dk_3 (dk_at dksX10_movesIf_0 1 rfl rfl)
theorem dX10_movesIf_2 : decode cX10_movesIf 2 = .ok (.putfield 1, 3) := dk_181 0 1 (dk_at dksX10_movesIf_0 2 rfl rfl)
theorem dX10_movesIf_5 : decode cX10_movesIf 5 = .ok (.aload_n 0, 1) := dk_42 (dk_at dksX10_movesIf_0 5 rfl rfl)
theorem dX10_movesIf_6 : decode cX10_movesIf 6 = .ok (.iload_n 1, 1) := dk_27 (dk_at dksX10_movesIf_0 6 rfl rfl)
theorem dX10_movesIf_7 : decode cX10_movesIf 7 = .ok (.i2l, 1) := dk_133 (dk_at dksX10_movesIf_0 7 rfl rfl)
theorem dX10_movesIf_8 : decode cX10_movesIf 8 = .ok (.lconst 0, 1) := dk_9 (dk_at dksX10_movesIf_0 8 rfl rfl)
theorem dX10_movesIf_9 : decode cX10_movesIf 9 = .ok (.aload_n 0, 1) := dk_42 (dk_at dksX10_movesIf_0 9 rfl rfl)
theorem dX10_movesIf_10 : decode cX10_movesIf 10 = .ok (.getfield 112, 3) := dk_180 0 112 (dk_at dksX10_movesIf_0 10 rfl rfl)
theorem dX10_movesIf_13 : decode cX10_movesIf 13 = .ok (.i2l, 1) := dk_133 (dk_at dksX10_movesIf_0 13 rfl rfl)
theorem dX10_movesIf_14 : decode cX10_movesIf 14 = .ok (.invokestatic 50, 3) := dk_184 0 50 (dk_at dksX10_movesIf_0 14 rfl rfl)
theorem dX10_movesIf_17 : decode cX10_movesIf 17 = .ok (.iconst 1, 1) := dk_4 (dk_at dksX10_movesIf_0 17 rfl rfl)
theorem dX10_movesIf_18 : decode cX10_movesIf 18 = .ok (.invokevirtual 299, 3) := dk_182 1 43 (dk_at dksX10_movesIf_0 18 rfl rfl)
theorem dX10_movesIf_21 : decode cX10_movesIf 21 = .ok (.ifCond .eq 5, 3) := dk_153 0 5 (dk_at dksX10_movesIf_0 21 rfl rfl)
theorem dX10_movesIf_24 : decode cX10_movesIf 24 = .ok (.iconst 0, 1) := dk_3 (dk_at dksX10_movesIf_1 0 rfl rfl)
theorem dX10_movesIf_25 : decode cX10_movesIf 25 = .ok (.ireturn, 1) := dk_172 (dk_at dksX10_movesIf_1 1 rfl rfl)
theorem dX10_movesIf_26 : decode cX10_movesIf 26 = .ok (.aload_n 0, 1) := dk_42 (dk_at dksX10_movesIf_1 2 rfl rfl)
theorem dX10_movesIf_27 : decode cX10_movesIf 27 = .ok (.iload_n 1, 1) := dk_27 (dk_at dksX10_movesIf_1 3 rfl rfl)
theorem dX10_movesIf_28 : decode cX10_movesIf 28 = .ok (.invokevirtual 376, 3) := dk_182 1 120 (dk_at dksX10_movesIf_1 4 rfl rfl)
theorem dX10_movesIf_31 : decode cX10_movesIf 31 = .ok (.ifCond .ne 11, 3) := dk_154 0 11 (dk_at dksX10_movesIf_1 7 rfl rfl)
theorem dX10_movesIf_34 : decode cX10_movesIf 34 = .ok (.bipush (-10), 2) := dk_16 246 (dk_at dksX10_movesIf_1 10 rfl rfl)
theorem dX10_movesIf_36 : decode cX10_movesIf 36 = .ok (.aload_n 0, 1) := dk_42 (dk_at dksX10_movesIf_1 12 rfl rfl)
theorem dX10_movesIf_37 : decode cX10_movesIf 37 = .ok (.getfield 244, 3) := dk_180 0 244 (dk_at dksX10_movesIf_1 13 rfl rfl)
theorem dX10_movesIf_40 : decode cX10_movesIf 40 = .ok (.isub, 1) := dk_100 (dk_at dksX10_movesIf_1 16 rfl rfl)
theorem dX10_movesIf_41 : decode cX10_movesIf 41 = .ok (.ireturn, 1) := dk_172 (dk_at dksX10_movesIf_1 17 rfl rfl)
theorem dX10_movesIf_42 : decode cX10_movesIf 42 = .ok (.aload_n 0, 1) := dk_42 (dk_at dksX10_movesIf_1 18 rfl rfl)
theorem dX10_movesIf_43 : decode cX10_movesIf 43 = .ok (.invokevirtual 199, 3) := dk_182 0 199 (dk_at dksX10_movesIf_1 19 rfl rfl)
theorem dX10_movesIf_46 : decode cX10_movesIf 46 = .ok (.iconst (-1), 1) := dk_2 (dk_at dksX10_movesIf_1 22 rfl rfl)
theorem dX10_movesIf_47 : decode cX10_movesIf 47 = .ok (.if_icmp .ne 14, 3) := dk_160 0 14 (dk_at dksX10_movesIf_2 0 rfl rfl)
theorem dX10_movesIf_50 : decode cX10_movesIf 50 = .ok (.aload_n 0, 1) := dk_42 (dk_at dksX10_movesIf_2 3 rfl rfl)
theorem dX10_movesIf_51 : decode cX10_movesIf 51 = .ok (.aload_n 0, 1) := dk_42 (dk_at dksX10_movesIf_2 4 rfl rfl)
theorem dX10_movesIf_52 : decode cX10_movesIf 52 = .ok (.invokevirtual 150, 3) := dk_182 0 150 (dk_at dksX10_movesIf_2 5 rfl rfl)
theorem dX10_movesIf_55 : decode cX10_movesIf 55 = .ok (.invokevirtual 162, 3) := dk_182 0 162 (dk_at dksX10_movesIf_2 8 rfl rfl)
theorem dX10_movesIf_58 : decode cX10_movesIf 58 = .ok (.ifCond .eq 7, 3) := dk_153 0 7 (dk_at dksX10_movesIf_2 11 rfl rfl)
theorem dX10_movesIf_61 : decode cX10_movesIf 61 = .ok (.iconst 0, 1) := dk_3 (dk_at dksX10_movesIf_2 14 rfl rfl)
theorem dX10_movesIf_62 : decode cX10_movesIf 62 = .ok (.goto 11, 3) := dk_167 0 11 (dk_at dksX10_movesIf_2 15 rfl rfl)
theorem dX10_movesIf_65 : decode cX10_movesIf 65 = .ok (.aload_n 0, 1) := dk_42 (dk_at dksX10_movesIf_2 18 rfl rfl)
theorem dX10_movesIf_66 : decode cX10_movesIf 66 = .ok (.aload_n 0, 1) := dk_42 (dk_at dksX10_movesIf_2 19 rfl rfl)
theorem dX10_movesIf_67 : decode cX10_movesIf 67 = .ok (.invokevirtual 150, 3) := dk_182 0 150 (dk_at dksX10_movesIf_2 20 rfl rfl)
theorem dX10_movesIf_70 : decode cX10_movesIf 70 = .ok (.invokevirtual 173, 3) := dk_182 0 173 (dk_at dksX10_movesIf_3 0 rfl rfl)
theorem dX10_movesIf_73 : decode cX10_movesIf 73 = .ok (.ireturn, 1) := dk_172 (dk_at dksX10_movesIf_3 3 rfl rfl)
abbrev cX10_why : ByteArray := prog_28_method_106_code
def yX10_why : MethodName := ⟨RX10, "why", "(I)I"⟩
def dkwX10_why_5 : List UInt8 := [42, 182, 1, 126, 3, 182, 0, 129, 182, 1, 123, 167, 0, 9, 42, 3, 2, 182, 1, 123, 172]
abbrev dktX10_why_5 : List UInt8 := dkwX10_why_5 ++ []
def dkwX10_why_4 : List UInt8 := [154, 0, 13, 42, 6, 42, 182, 0, 150, 182, 1, 123, 172, 42, 182, 1, 126, 2, 159, 0, 20, 42, 7, 42]
abbrev dktX10_why_4 : List UInt8 := dkwX10_why_4 ++ dktX10_why_5
def dkwX10_why_3 : List UInt8 := [182, 0, 118, 16, 40, 160, 0, 10, 42, 5, 2, 182, 1, 123, 172, 42, 42, 182, 0, 150, 182, 0, 162]
abbrev dktX10_why_3 : List UInt8 := dkwX10_why_3 ++ dktX10_why_4
def dkwX10_why_2 : List UInt8 := [182, 0, 199, 2, 159, 0, 18, 42, 4, 42, 42, 182, 0, 199, 3, 182, 0, 129, 182, 1, 123, 172, 42, 5]
abbrev dktX10_why_2 : List UInt8 := dkwX10_why_2 ++ dktX10_why_3
def dkwX10_why_1 : List UInt8 := [3, 172, 42, 27, 182, 1, 120, 154, 0, 16, 42, 16, 246, 42, 180, 0, 244, 100, 2, 182, 1, 123, 172, 42]
abbrev dktX10_why_1 : List UInt8 := dkwX10_why_1 ++ dktX10_why_2
def dkwX10_why_0 : List UInt8 := [42, 3, 181, 0, 1, 42, 27, 133, 9, 42, 180, 0, 112, 133, 184, 0, 50, 4, 182, 1, 43, 153, 0, 5]
abbrev dktX10_why_0 : List UInt8 := dkwX10_why_0 ++ dktX10_why_1
theorem dksX10_why_0 : cX10_why.data.toList.drop 0 = dktX10_why_0 := by decide +kernel
theorem dksX10_why_1 : cX10_why.data.toList.drop 24 = dktX10_why_1 := dk_seg dksX10_why_0 24 rfl rfl
theorem dksX10_why_2 : cX10_why.data.toList.drop 48 = dktX10_why_2 := dk_seg dksX10_why_1 24 rfl rfl
theorem dksX10_why_3 : cX10_why.data.toList.drop 72 = dktX10_why_3 := dk_seg dksX10_why_2 24 rfl rfl
theorem dksX10_why_4 : cX10_why.data.toList.drop 95 = dktX10_why_4 := dk_seg dksX10_why_3 23 rfl rfl
theorem dksX10_why_5 : cX10_why.data.toList.drop 119 = dktX10_why_5 := dk_seg dksX10_why_4 24 rfl rfl
theorem dX10_why_0 : decode cX10_why 0 = .ok (.aload_n 0, 1) := dk_42 (dk_at dksX10_why_0 0 rfl rfl)
theorem dX10_why_1 : decode cX10_why 1 = .ok (.iconst 0, 1) := dk_3 (dk_at dksX10_why_0 1 rfl rfl)
theorem dX10_why_2 : decode cX10_why 2 = .ok (.putfield 1, 3) := dk_181 0 1 (dk_at dksX10_why_0 2 rfl rfl)
theorem dX10_why_5 : decode cX10_why 5 = .ok (.aload_n 0, 1) := dk_42 (dk_at dksX10_why_0 5 rfl rfl)
theorem dX10_why_6 : decode cX10_why 6 = .ok (.iload_n 1, 1) := dk_27 (dk_at dksX10_why_0 6 rfl rfl)
theorem dX10_why_7 : decode cX10_why 7 = .ok (.i2l, 1) := dk_133 (dk_at dksX10_why_0 7 rfl rfl)
theorem dX10_why_8 : decode cX10_why 8 = .ok (.lconst 0, 1) := dk_9 (dk_at dksX10_why_0 8 rfl rfl)
theorem dX10_why_9 : decode cX10_why 9 = .ok (.aload_n 0, 1) := dk_42 (dk_at dksX10_why_0 9 rfl rfl)
theorem dX10_why_10 : decode cX10_why 10 = .ok (.getfield 112, 3) := dk_180 0 112 (dk_at dksX10_why_0 10 rfl rfl)
theorem dX10_why_13 : decode cX10_why 13 = .ok (.i2l, 1) := dk_133 (dk_at dksX10_why_0 13 rfl rfl)
theorem dX10_why_14 : decode cX10_why 14 = .ok (.invokestatic 50, 3) := dk_184 0 50 (dk_at dksX10_why_0 14 rfl rfl)
theorem dX10_why_17 : decode cX10_why 17 = .ok (.iconst 1, 1) := dk_4 (dk_at dksX10_why_0 17 rfl rfl)
theorem dX10_why_18 : decode cX10_why 18 = .ok (.invokevirtual 299, 3) := dk_182 1 43 (dk_at dksX10_why_0 18 rfl rfl)
theorem dX10_why_21 : decode cX10_why 21 = .ok (.ifCond .eq 5, 3) := dk_153 0 5 (dk_at dksX10_why_0 21 rfl rfl)
theorem dX10_why_24 : decode cX10_why 24 = .ok (.iconst 0, 1) := dk_3 (dk_at dksX10_why_1 0 rfl rfl)
theorem dX10_why_25 : decode cX10_why 25 = .ok (.ireturn, 1) := dk_172 (dk_at dksX10_why_1 1 rfl rfl)
theorem dX10_why_26 : decode cX10_why 26 = .ok (.aload_n 0, 1) := dk_42 (dk_at dksX10_why_1 2 rfl rfl)
theorem dX10_why_27 : decode cX10_why 27 = .ok (.iload_n 1, 1) := dk_27 (dk_at dksX10_why_1 3 rfl rfl)
theorem dX10_why_28 : decode cX10_why 28 = .ok (.invokevirtual 376, 3) := dk_182 1 120 (dk_at dksX10_why_1 4 rfl rfl)
theorem dX10_why_31 : decode cX10_why 31 = .ok (.ifCond .ne 16, 3) := dk_154 0 16 (dk_at dksX10_why_1 7 rfl rfl)
theorem dX10_why_34 : decode cX10_why 34 = .ok (.aload_n 0, 1) := dk_42 (dk_at dksX10_why_1 10 rfl rfl)
theorem dX10_why_35 : decode cX10_why 35 = .ok (.bipush (-10), 2) := dk_16 246 (dk_at dksX10_why_1 11 rfl rfl)
theorem dX10_why_37 : decode cX10_why 37 = .ok (.aload_n 0, 1) := dk_42 (dk_at dksX10_why_1 13 rfl rfl)
theorem dX10_why_38 : decode cX10_why 38 = .ok (.getfield 244, 3) := dk_180 0 244 (dk_at dksX10_why_1 14 rfl rfl)
theorem dX10_why_41 : decode cX10_why 41 = .ok (.isub, 1) := dk_100 (dk_at dksX10_why_1 17 rfl rfl)
theorem dX10_why_42 : decode cX10_why 42 = .ok (.iconst (-1), 1) := dk_2 (dk_at dksX10_why_1 18 rfl rfl)
theorem dX10_why_43 : decode cX10_why 43 = .ok (.invokevirtual 379, 3) := dk_182 1 123 (dk_at dksX10_why_1 19 rfl rfl)
theorem dX10_why_46 : decode cX10_why 46 = .ok (.ireturn, 1) := dk_172 (dk_at dksX10_why_1 22 rfl rfl)
theorem dX10_why_47 : decode cX10_why 47 = .ok (.aload_n 0, 1) := dk_42 (dk_at dksX10_why_1 23 rfl rfl)
theorem dX10_why_48 : decode cX10_why 48 = .ok (.invokevirtual 199, 3) := dk_182 0 199 (dk_at dksX10_why_2 0 rfl rfl)
theorem dX10_why_51 : decode cX10_why 51 = .ok (.iconst (-1), 1) := dk_2 (dk_at dksX10_why_2 3 rfl rfl)
theorem dX10_why_52 : decode cX10_why 52 = .ok (.if_icmp .eq 18, 3) := dk_159 0 18 (dk_at dksX10_why_2 4 rfl rfl)
theorem dX10_why_55 : decode cX10_why 55 = .ok (.aload_n 0, 1) := dk_42 (dk_at dksX10_why_2 7 rfl rfl)
theorem dX10_why_56 : decode cX10_why 56 = .ok (.iconst 1, 1) := dk_4 (dk_at dksX10_why_2 8 rfl rfl)
theorem dX10_why_57 : decode cX10_why 57 = .ok (.aload_n 0, 1) := dk_42 (dk_at dksX10_why_2 9 rfl rfl)
theorem dX10_why_58 : decode cX10_why 58 = .ok (.aload_n 0, 1) := dk_42 (dk_at dksX10_why_2 10 rfl rfl)
theorem dX10_why_59 : decode cX10_why 59 = .ok (.invokevirtual 199, 3) := dk_182 0 199 (dk_at dksX10_why_2 11 rfl rfl)
theorem dX10_why_62 : decode cX10_why 62 = .ok (.iconst 0, 1) := dk_3 (dk_at dksX10_why_2 14 rfl rfl)
theorem dX10_why_63 : decode cX10_why 63 = .ok (.invokevirtual 129, 3) := dk_182 0 129 (dk_at dksX10_why_2 15 rfl rfl)
theorem dX10_why_66 : decode cX10_why 66 = .ok (.invokevirtual 379, 3) := dk_182 1 123 (dk_at dksX10_why_2 18 rfl rfl)
theorem dX10_why_69 : decode cX10_why 69 = .ok (.ireturn, 1) := dk_172 (dk_at dksX10_why_2 21 rfl rfl)
theorem dX10_why_70 : decode cX10_why 70 = .ok (.aload_n 0, 1) := dk_42 (dk_at dksX10_why_2 22 rfl rfl)
theorem dX10_why_71 : decode cX10_why 71 = .ok (.iconst 2, 1) := dk_5 (dk_at dksX10_why_2 23 rfl rfl)
theorem dX10_why_72 : decode cX10_why 72 = .ok (.invokevirtual 118, 3) := dk_182 0 118 (dk_at dksX10_why_3 0 rfl rfl)
theorem dX10_why_75 : decode cX10_why 75 = .ok (.bipush 40, 2) := dk_16 40 (dk_at dksX10_why_3 3 rfl rfl)
theorem dX10_why_77 : decode cX10_why 77 = .ok (.if_icmp .ne 10, 3) := dk_160 0 10 (dk_at dksX10_why_3 5 rfl rfl)
theorem dX10_why_80 : decode cX10_why 80 = .ok (.aload_n 0, 1) := dk_42 (dk_at dksX10_why_3 8 rfl rfl)
theorem dX10_why_81 : decode cX10_why 81 = .ok (.iconst 2, 1) := dk_5 (dk_at dksX10_why_3 9 rfl rfl)
theorem dX10_why_82 : decode cX10_why 82 = .ok (.iconst (-1), 1) := dk_2 (dk_at dksX10_why_3 10 rfl rfl)
theorem dX10_why_83 : decode cX10_why 83 = .ok (.invokevirtual 379, 3) := dk_182 1 123 (dk_at dksX10_why_3 11 rfl rfl)
theorem dX10_why_86 : decode cX10_why 86 = .ok (.ireturn, 1) := dk_172 (dk_at dksX10_why_3 14 rfl rfl)
theorem dX10_why_87 : decode cX10_why 87 = .ok (.aload_n 0, 1) := dk_42 (dk_at dksX10_why_3 15 rfl rfl)
theorem dX10_why_88 : decode cX10_why 88 = .ok (.aload_n 0, 1) := dk_42 (dk_at dksX10_why_3 16 rfl rfl)
theorem dX10_why_89 : decode cX10_why 89 = .ok (.invokevirtual 150, 3) := dk_182 0 150 (dk_at dksX10_why_3 17 rfl rfl)
theorem dX10_why_92 : decode cX10_why 92 = .ok (.invokevirtual 162, 3) := dk_182 0 162 (dk_at dksX10_why_3 20 rfl rfl)
theorem dX10_why_95 : decode cX10_why 95 = .ok (.ifCond .ne 13, 3) := dk_154 0 13 (dk_at dksX10_why_4 0 rfl rfl)
theorem dX10_why_98 : decode cX10_why 98 = .ok (.aload_n 0, 1) := dk_42 (dk_at dksX10_why_4 3 rfl rfl)
theorem dX10_why_99 : decode cX10_why 99 = .ok (.iconst 3, 1) := dk_6 (dk_at dksX10_why_4 4 rfl rfl)
theorem dX10_why_100 : decode cX10_why 100 = .ok (.aload_n 0, 1) := dk_42 (dk_at dksX10_why_4 5 rfl rfl)
theorem dX10_why_101 : decode cX10_why 101 = .ok (.invokevirtual 150, 3) := dk_182 0 150 (dk_at dksX10_why_4 6 rfl rfl)
theorem dX10_why_104 : decode cX10_why 104 = .ok (.invokevirtual 379, 3) := dk_182 1 123 (dk_at dksX10_why_4 9 rfl rfl)
theorem dX10_why_107 : decode cX10_why 107 = .ok (.ireturn, 1) := dk_172 (dk_at dksX10_why_4 12 rfl rfl)
theorem dX10_why_108 : decode cX10_why 108 = .ok (.aload_n 0, 1) := dk_42 (dk_at dksX10_why_4 13 rfl rfl)
theorem dX10_why_109 : decode cX10_why 109 = .ok (.invokevirtual 382, 3) := dk_182 1 126 (dk_at dksX10_why_4 14 rfl rfl)
theorem dX10_why_112 : decode cX10_why 112 = .ok (.iconst (-1), 1) := dk_2 (dk_at dksX10_why_4 17 rfl rfl)
theorem dX10_why_113 : decode cX10_why 113 = .ok (.if_icmp .eq 20, 3) := dk_159 0 20 (dk_at dksX10_why_4 18 rfl rfl)
theorem dX10_why_116 : decode cX10_why 116 = .ok (.aload_n 0, 1) := dk_42 (dk_at dksX10_why_4 21 rfl rfl)
theorem dX10_why_117 : decode cX10_why 117 = .ok (.iconst 4, 1) := dk_7 (dk_at dksX10_why_4 22 rfl rfl)
theorem dX10_why_118 : decode cX10_why 118 = .ok (.aload_n 0, 1) := dk_42 (dk_at dksX10_why_4 23 rfl rfl)
theorem dX10_why_119 : decode cX10_why 119 = .ok (.aload_n 0, 1) := dk_42 (dk_at dksX10_why_5 0 rfl rfl)
theorem dX10_why_120 : decode cX10_why 120 = .ok (.invokevirtual 382, 3) := dk_182 1 126 (dk_at dksX10_why_5 1 rfl rfl)
theorem dX10_why_123 : decode cX10_why 123 = .ok (.iconst 0, 1) := dk_3 (dk_at dksX10_why_5 4 rfl rfl)
theorem dX10_why_124 : decode cX10_why 124 = .ok (.invokevirtual 129, 3) := dk_182 0 129 (dk_at dksX10_why_5 5 rfl rfl)
theorem dX10_why_127 : decode cX10_why 127 = .ok (.invokevirtual 379, 3) := dk_182 1 123 (dk_at dksX10_why_5 8 rfl rfl)
theorem dX10_why_130 : decode cX10_why 130 = .ok (.goto 9, 3) := dk_167 0 9 (dk_at dksX10_why_5 11 rfl rfl)
theorem dX10_why_133 : decode cX10_why 133 = .ok (.aload_n 0, 1) := dk_42 (dk_at dksX10_why_5 14 rfl rfl)
theorem dX10_why_134 : decode cX10_why 134 = .ok (.iconst 0, 1) := dk_3 (dk_at dksX10_why_5 15 rfl rfl)
theorem dX10_why_135 : decode cX10_why 135 = .ok (.iconst (-1), 1) := dk_2 (dk_at dksX10_why_5 16 rfl rfl)
theorem dX10_why_136 : decode cX10_why 136 = .ok (.invokevirtual 379, 3) := dk_182 1 123 (dk_at dksX10_why_5 17 rfl rfl)
theorem dX10_why_139 : decode cX10_why 139 = .ok (.ireturn, 1) := dk_172 (dk_at dksX10_why_5 20 rfl rfl)
abbrev cX10_because : ByteArray := prog_28_method_105_code
def yX10_because : MethodName := ⟨RX10, "because", "(II)I"⟩
def dkwX10_because_0 : List UInt8 := [42, 28, 181, 0, 88, 27, 172]
abbrev dktX10_because_0 : List UInt8 := dkwX10_because_0 ++ []
theorem dksX10_because_0 : cX10_because.data.toList.drop 0 = dktX10_because_0 := by decide +kernel
theorem dX10_because_0 : decode cX10_because 0 = .ok (.aload_n 0, 1) := dk_42 (dk_at dksX10_because_0 0 rfl rfl)
theorem dX10_because_1 : decode cX10_because 1 = .ok (.iload_n 2, 1) := dk_28 (dk_at dksX10_because_0 1 rfl rfl)
theorem dX10_because_2 : decode cX10_because 2 = .ok (.putfield 88, 3) := dk_181 0 88 (dk_at dksX10_because_0 2 rfl rfl)
theorem dX10_because_5 : decode cX10_because 5 = .ok (.iload_n 1, 1) := dk_27 (dk_at dksX10_because_0 5 rfl rfl)
theorem dX10_because_6 : decode cX10_because 6 = .ok (.ireturn, 1) := dk_172 (dk_at dksX10_because_0 6 rfl rfl)
abbrev cX10_firstAlike : ByteArray := prog_28_method_104_code
def yX10_firstAlike : MethodName := ⟨RX10, "firstAlike", "()I"⟩
def dkwX10_firstAlike_1 : List UInt8 := [132, 1, 1, 167, 255, 231, 2, 172]
abbrev dktX10_firstAlike_1 : List UInt8 := dkwX10_firstAlike_1 ++ []
def dkwX10_firstAlike_0 : List UInt8 := [3, 60, 27, 42, 5, 182, 0, 118, 162, 0, 22, 42, 27, 16, 40, 182, 1, 114, 2, 160, 0, 5, 27, 172]
abbrev dktX10_firstAlike_0 : List UInt8 := dkwX10_firstAlike_0 ++ dktX10_firstAlike_1
theorem dksX10_firstAlike_0 : cX10_firstAlike.data.toList.drop 0 = dktX10_firstAlike_0 := by decide +kernel
theorem dksX10_firstAlike_1 : cX10_firstAlike.data.toList.drop 24 = dktX10_firstAlike_1 := dk_seg dksX10_firstAlike_0 24 rfl rfl
theorem dX10_firstAlike_0 : decode cX10_firstAlike 0 = .ok (.iconst 0, 1) := dk_3 (dk_at dksX10_firstAlike_0 0 rfl rfl)
theorem dX10_firstAlike_1 : decode cX10_firstAlike 1 = .ok (.istore_n 1, 1) := dk_60 (dk_at dksX10_firstAlike_0 1 rfl rfl)
theorem dX10_firstAlike_2 : decode cX10_firstAlike 2 = .ok (.iload_n 1, 1) := dk_27 (dk_at dksX10_firstAlike_0 2 rfl rfl)
theorem dX10_firstAlike_3 : decode cX10_firstAlike 3 = .ok (.aload_n 0, 1) := dk_42 (dk_at dksX10_firstAlike_0 3 rfl rfl)
theorem dX10_firstAlike_4 : decode cX10_firstAlike 4 = .ok (.iconst 2, 1) := dk_5 (dk_at dksX10_firstAlike_0 4 rfl rfl)
theorem dX10_firstAlike_5 : decode cX10_firstAlike 5 = .ok (.invokevirtual 118, 3) := dk_182 0 118 (dk_at dksX10_firstAlike_0 5 rfl rfl)
theorem dX10_firstAlike_8 : decode cX10_firstAlike 8 = .ok (.if_icmp .ge 22, 3) := dk_162 0 22 (dk_at dksX10_firstAlike_0 8 rfl rfl)
theorem dX10_firstAlike_11 : decode cX10_firstAlike 11 = .ok (.aload_n 0, 1) := dk_42 (dk_at dksX10_firstAlike_0 11 rfl rfl)
theorem dX10_firstAlike_12 : decode cX10_firstAlike 12 = .ok (.iload_n 1, 1) := dk_27 (dk_at dksX10_firstAlike_0 12 rfl rfl)
theorem dX10_firstAlike_13 : decode cX10_firstAlike 13 = .ok (.bipush 40, 2) := dk_16 40 (dk_at dksX10_firstAlike_0 13 rfl rfl)
theorem dX10_firstAlike_15 : decode cX10_firstAlike 15 = .ok (.invokevirtual 370, 3) := dk_182 1 114 (dk_at dksX10_firstAlike_0 15 rfl rfl)
theorem dX10_firstAlike_18 : decode cX10_firstAlike 18 = .ok (.iconst (-1), 1) := dk_2 (dk_at dksX10_firstAlike_0 18 rfl rfl)
theorem dX10_firstAlike_19 : decode cX10_firstAlike 19 = .ok (.if_icmp .ne 5, 3) := dk_160 0 5 (dk_at dksX10_firstAlike_0 19 rfl rfl)
theorem dX10_firstAlike_22 : decode cX10_firstAlike 22 = .ok (.iload_n 1, 1) := dk_27 (dk_at dksX10_firstAlike_0 22 rfl rfl)
theorem dX10_firstAlike_23 : decode cX10_firstAlike 23 = .ok (.ireturn, 1) := dk_172 (dk_at dksX10_firstAlike_0 23 rfl rfl)
theorem dX10_firstAlike_24 : decode cX10_firstAlike 24 = .ok (.iinc 1 1, 3) := dk_132 1 1 (dk_at dksX10_firstAlike_1 0 rfl rfl)
theorem dX10_firstAlike_27 : decode cX10_firstAlike 27 = .ok (.goto (-25), 3) := dk_167 255 231 (dk_at dksX10_firstAlike_1 3 rfl rfl)
theorem dX10_firstAlike_30 : decode cX10_firstAlike 30 = .ok (.iconst (-1), 1) := dk_2 (dk_at dksX10_firstAlike_1 6 rfl rfl)
theorem dX10_firstAlike_31 : decode cX10_firstAlike 31 = .ok (.ireturn, 1) := dk_172 (dk_at dksX10_firstAlike_1 7 rfl rfl)
abbrev cX10_cause : ByteArray := prog_28_method_107_code
def yX10_cause : MethodName := ⟨RX10, "cause", "()I"⟩
def dkwX10_cause_0 : List UInt8 := [42, 3, 181, 0, 1, 42, 180, 0, 88, 172]
abbrev dktX10_cause_0 : List UInt8 := dkwX10_cause_0 ++ []
theorem dksX10_cause_0 : cX10_cause.data.toList.drop 0 = dktX10_cause_0 := by decide +kernel
theorem dX10_cause_0 : decode cX10_cause 0 = .ok (.aload_n 0, 1) := dk_42 (dk_at dksX10_cause_0 0 rfl rfl)
theorem dX10_cause_1 : decode cX10_cause 1 = .ok (.iconst 0, 1) := dk_3 (dk_at dksX10_cause_0 1 rfl rfl)
theorem dX10_cause_2 : decode cX10_cause 2 = .ok (.putfield 1, 3) := dk_181 0 1 (dk_at dksX10_cause_0 2 rfl rfl)
theorem dX10_cause_5 : decode cX10_cause 5 = .ok (.aload_n 0, 1) := dk_42 (dk_at dksX10_cause_0 5 rfl rfl)
theorem dX10_cause_6 : decode cX10_cause 6 = .ok (.getfield 88, 3) := dk_180 0 88 (dk_at dksX10_cause_0 6 rfl rfl)
theorem dX10_cause_9 : decode cX10_cause 9 = .ok (.ireturn, 1) := dk_172 (dk_at dksX10_cause_0 9 rfl rfl)
abbrev cX10_filled : ByteArray := prog_28_method_108_code
def yX10_filled : MethodName := ⟨RX10, "filled", "(I)F"⟩
def dkwX10_filled_1 : List UInt8 := [4, 182, 0, 118, 134, 110, 174]
abbrev dktX10_filled_1 : List UInt8 := dkwX10_filled_1 ++ []
def dkwX10_filled_0 : List UInt8 := [42, 3, 181, 0, 1, 42, 27, 182, 1, 104, 153, 0, 7, 11, 167, 0, 16, 42, 27, 182, 0, 196, 134, 42]
abbrev dktX10_filled_0 : List UInt8 := dkwX10_filled_0 ++ dktX10_filled_1
theorem dksX10_filled_0 : cX10_filled.data.toList.drop 0 = dktX10_filled_0 := by decide +kernel
theorem dksX10_filled_1 : cX10_filled.data.toList.drop 24 = dktX10_filled_1 := dk_seg dksX10_filled_0 24 rfl rfl
theorem dX10_filled_0 : decode cX10_filled 0 = .ok (.aload_n 0, 1) := dk_42 (dk_at dksX10_filled_0 0 rfl rfl)
theorem dX10_filled_1 : decode cX10_filled 1 = .ok (.iconst 0, 1) := dk_3 (dk_at dksX10_filled_0 1 rfl rfl)
theorem dX10_filled_2 : decode cX10_filled 2 = .ok (.putfield 1, 3) := dk_181 0 1 (dk_at dksX10_filled_0 2 rfl rfl)
theorem dX10_filled_5 : decode cX10_filled 5 = .ok (.aload_n 0, 1) := dk_42 (dk_at dksX10_filled_0 5 rfl rfl)
theorem dX10_filled_6 : decode cX10_filled 6 = .ok (.iload_n 1, 1) := dk_27 (dk_at dksX10_filled_0 6 rfl rfl)
theorem dX10_filled_7 : decode cX10_filled 7 = .ok (.invokevirtual 360, 3) := dk_182 1 104 (dk_at dksX10_filled_0 7 rfl rfl)
theorem dX10_filled_10 : decode cX10_filled 10 = .ok (.ifCond .eq 7, 3) := dk_153 0 7 (dk_at dksX10_filled_0 10 rfl rfl)
theorem dX10_filled_13 : decode cX10_filled 13 = .ok (.fconst 0, 1) := dk_11 (dk_at dksX10_filled_0 13 rfl rfl)
theorem dX10_filled_14 : decode cX10_filled 14 = .ok (.goto 16, 3) := dk_167 0 16 (dk_at dksX10_filled_0 14 rfl rfl)
theorem dX10_filled_17 : decode cX10_filled 17 = .ok (.aload_n 0, 1) := dk_42 (dk_at dksX10_filled_0 17 rfl rfl)
theorem dX10_filled_18 : decode cX10_filled 18 = .ok (.iload_n 1, 1) := dk_27 (dk_at dksX10_filled_0 18 rfl rfl)
theorem dX10_filled_19 : decode cX10_filled 19 = .ok (.invokevirtual 196, 3) := dk_182 0 196 (dk_at dksX10_filled_0 19 rfl rfl)
theorem dX10_filled_22 : decode cX10_filled 22 = .ok (.i2f, 1) := dk_134 (dk_at dksX10_filled_0 22 rfl rfl)
theorem dX10_filled_23 : decode cX10_filled 23 = .ok (.aload_n 0, 1) := dk_42 (dk_at dksX10_filled_0 23 rfl rfl)
theorem dX10_filled_24 : decode cX10_filled 24 = .ok (.iconst 1, 1) := dk_4 (dk_at dksX10_filled_1 0 rfl rfl)
theorem dX10_filled_25 : decode cX10_filled 25 = .ok (.invokevirtual 118, 3) := dk_182 0 118 (dk_at dksX10_filled_1 1 rfl rfl)
theorem dX10_filled_28 : decode cX10_filled 28 = .ok (.i2f, 1) := dk_134 (dk_at dksX10_filled_1 4 rfl rfl)
theorem dX10_filled_29 : decode cX10_filled 29 = .ok (.fdiv, 1) := dk_110 (dk_at dksX10_filled_1 5 rfl rfl)
theorem dX10_filled_30 : decode cX10_filled 30 = .ok (.freturn, 1) := dk_174 (dk_at dksX10_filled_1 6 rfl rfl)
abbrev cX10_meanMoves : ByteArray := prog_28_method_109_code
def yX10_meanMoves : MethodName := ⟨RX10, "meanMoves", "()D"⟩
def dkwX10_meanMoves_1 : List UInt8 := [182, 0, 118, 135, 42, 8, 182, 0, 118, 135, 111, 175]
abbrev dktX10_meanMoves_1 : List UInt8 := dkwX10_meanMoves_1 ++ []
def dkwX10_meanMoves_0 : List UInt8 := [42, 3, 181, 0, 1, 42, 180, 0, 60, 8, 47, 9, 148, 154, 0, 7, 14, 167, 0, 17, 42, 16, 7]
abbrev dktX10_meanMoves_0 : List UInt8 := dkwX10_meanMoves_0 ++ dktX10_meanMoves_1
theorem dksX10_meanMoves_0 : cX10_meanMoves.data.toList.drop 0 = dktX10_meanMoves_0 := by decide +kernel
theorem dksX10_meanMoves_1 : cX10_meanMoves.data.toList.drop 23 = dktX10_meanMoves_1 := dk_seg dksX10_meanMoves_0 23 rfl rfl
theorem dX10_meanMoves_0 : decode cX10_meanMoves 0 = .ok (.aload_n 0, 1) := dk_42 (dk_at dksX10_meanMoves_0 0 rfl rfl)
theorem dX10_meanMoves_1 : decode cX10_meanMoves 1 = .ok (.iconst 0, 1) := dk_3 (dk_at dksX10_meanMoves_0 1 rfl rfl)
theorem dX10_meanMoves_2 : decode cX10_meanMoves 2 = .ok (.putfield 1, 3) := dk_181 0 1 (dk_at dksX10_meanMoves_0 2 rfl rfl)
theorem dX10_meanMoves_5 : decode cX10_meanMoves 5 = .ok (.aload_n 0, 1) := dk_42 (dk_at dksX10_meanMoves_0 5 rfl rfl)
theorem dX10_meanMoves_6 : decode cX10_meanMoves 6 = .ok (.getfield 60, 3) := dk_180 0 60 (dk_at dksX10_meanMoves_0 6 rfl rfl)
theorem dX10_meanMoves_9 : decode cX10_meanMoves 9 = .ok (.iconst 5, 1) := dk_8 (dk_at dksX10_meanMoves_0 9 rfl rfl)
theorem dX10_meanMoves_10 : decode cX10_meanMoves 10 = .ok (.laload, 1) := dk_47 (dk_at dksX10_meanMoves_0 10 rfl rfl)
theorem dX10_meanMoves_11 : decode cX10_meanMoves 11 = .ok (.lconst 0, 1) := dk_9 (dk_at dksX10_meanMoves_0 11 rfl rfl)
theorem dX10_meanMoves_12 : decode cX10_meanMoves 12 = .ok (.lcmp, 1) := dk_148 (dk_at dksX10_meanMoves_0 12 rfl rfl)
theorem dX10_meanMoves_13 : decode cX10_meanMoves 13 = .ok (.ifCond .ne 7, 3) := dk_154 0 7 (dk_at dksX10_meanMoves_0 13 rfl rfl)
theorem dX10_meanMoves_16 : decode cX10_meanMoves 16 = .ok (.dconst 0, 1) := dk_14 (dk_at dksX10_meanMoves_0 16 rfl rfl)
theorem dX10_meanMoves_17 : decode cX10_meanMoves 17 = .ok (.goto 17, 3) := dk_167 0 17 (dk_at dksX10_meanMoves_0 17 rfl rfl)
theorem dX10_meanMoves_20 : decode cX10_meanMoves 20 = .ok (.aload_n 0, 1) := dk_42 (dk_at dksX10_meanMoves_0 20 rfl rfl)
theorem dX10_meanMoves_21 : decode cX10_meanMoves 21 = .ok (.bipush 7, 2) := dk_16 7 (dk_at dksX10_meanMoves_0 21 rfl rfl)
theorem dX10_meanMoves_23 : decode cX10_meanMoves 23 = .ok (.invokevirtual 118, 3) := dk_182 0 118 (dk_at dksX10_meanMoves_1 0 rfl rfl)
theorem dX10_meanMoves_26 : decode cX10_meanMoves 26 = .ok (.i2d, 1) := dk_135 (dk_at dksX10_meanMoves_1 3 rfl rfl)
theorem dX10_meanMoves_27 : decode cX10_meanMoves 27 = .ok (.aload_n 0, 1) := dk_42 (dk_at dksX10_meanMoves_1 4 rfl rfl)
theorem dX10_meanMoves_28 : decode cX10_meanMoves 28 = .ok (.iconst 5, 1) := dk_8 (dk_at dksX10_meanMoves_1 5 rfl rfl)
theorem dX10_meanMoves_29 : decode cX10_meanMoves 29 = .ok (.invokevirtual 118, 3) := dk_182 0 118 (dk_at dksX10_meanMoves_1 6 rfl rfl)
theorem dX10_meanMoves_32 : decode cX10_meanMoves 32 = .ok (.i2d, 1) := dk_135 (dk_at dksX10_meanMoves_1 9 rfl rfl)
theorem dX10_meanMoves_33 : decode cX10_meanMoves 33 = .ok (.ddiv, 1) := dk_111 (dk_at dksX10_meanMoves_1 10 rfl rfl)
theorem dX10_meanMoves_34 : decode cX10_meanMoves 34 = .ok (.dreturn, 1) := dk_175 (dk_at dksX10_meanMoves_1 11 rfl rfl)
abbrev cX10_add : ByteArray := prog_28_method_114_code
def yX10_add : MethodName := ⟨RX10, "add", "(II)I"⟩
def dkwX10_add_3 : List UInt8 := [153, 0, 11, 42, 27, 182, 1, 155, 167, 0, 10, 16, 246, 42, 180, 0, 244, 100, 182, 1, 150, 172]
abbrev dktX10_add_3 : List UInt8 := dkwX10_add_3 ++ []
def dkwX10_add_2 : List UInt8 := [42, 180, 0, 60, 3, 42, 180, 0, 67, 3, 17, 2, 94, 184, 0, 176, 42, 42, 28, 182, 1, 120]
abbrev dktX10_add_2 : List UInt8 := dkwX10_add_2 ++ dktX10_add_3
def dkwX10_add_1 : List UInt8 := [180, 0, 112, 133, 184, 0, 50, 153, 0, 7, 4, 167, 0, 4, 3, 4, 182, 1, 43, 153, 0, 5, 3, 172]
abbrev dktX10_add_1 : List UInt8 := dkwX10_add_1 ++ dktX10_add_2
def dkwX10_add_0 : List UInt8 := [42, 3, 181, 0, 1, 42, 27, 133, 10, 20, 1, 153, 184, 0, 50, 153, 0, 21, 28, 133, 9, 42]
abbrev dktX10_add_0 : List UInt8 := dkwX10_add_0 ++ dktX10_add_1
theorem dksX10_add_0 : cX10_add.data.toList.drop 0 = dktX10_add_0 := by decide +kernel
theorem dksX10_add_1 : cX10_add.data.toList.drop 22 = dktX10_add_1 := dk_seg dksX10_add_0 22 rfl rfl
theorem dksX10_add_2 : cX10_add.data.toList.drop 46 = dktX10_add_2 := dk_seg dksX10_add_1 24 rfl rfl
theorem dksX10_add_3 : cX10_add.data.toList.drop 68 = dktX10_add_3 := dk_seg dksX10_add_2 22 rfl rfl
theorem dX10_add_0 : decode cX10_add 0 = .ok (.aload_n 0, 1) := dk_42 (dk_at dksX10_add_0 0 rfl rfl)
theorem dX10_add_1 : decode cX10_add 1 = .ok (.iconst 0, 1) := dk_3 (dk_at dksX10_add_0 1 rfl rfl)
theorem dX10_add_2 : decode cX10_add 2 = .ok (.putfield 1, 3) := dk_181 0 1 (dk_at dksX10_add_0 2 rfl rfl)
theorem dX10_add_5 : decode cX10_add 5 = .ok (.aload_n 0, 1) := dk_42 (dk_at dksX10_add_0 5 rfl rfl)
theorem dX10_add_6 : decode cX10_add 6 = .ok (.iload_n 1, 1) := dk_27 (dk_at dksX10_add_0 6 rfl rfl)
theorem dX10_add_7 : decode cX10_add 7 = .ok (.i2l, 1) := dk_133 (dk_at dksX10_add_0 7 rfl rfl)
theorem dX10_add_8 : decode cX10_add 8 = .ok (.lconst 1, 1) := dk_10 (dk_at dksX10_add_0 8 rfl rfl)
theorem dX10_add_9 : decode cX10_add 9 = .ok (.ldc2_w 409, 3) := dk_20 1 153 (dk_at dksX10_add_0 9 rfl rfl)
theorem dX10_add_12 : decode cX10_add 12 = .ok (.invokestatic 50, 3) := dk_184 0 50 (dk_at dksX10_add_0 12 rfl rfl)
theorem dX10_add_15 : decode cX10_add 15 = .ok (.ifCond .eq 21, 3) := dk_153 0 21 (dk_at dksX10_add_0 15 rfl rfl)
theorem dX10_add_18 : decode cX10_add 18 = .ok (.iload_n 2, 1) := dk_28 (dk_at dksX10_add_0 18 rfl rfl)
theorem dX10_add_19 : decode cX10_add 19 = .ok (.i2l, 1) := dk_133 (dk_at dksX10_add_0 19 rfl rfl)
theorem dX10_add_20 : decode cX10_add 20 = .ok (.lconst 0, 1) := dk_9 (dk_at dksX10_add_0 20 rfl rfl)
theorem dX10_add_21 : decode cX10_add 21 = .ok (.aload_n 0, 1) := dk_42 (dk_at dksX10_add_0 21 rfl rfl)
theorem dX10_add_22 : decode cX10_add 22 = .ok (.getfield 112, 3) := dk_180 0 112 (dk_at dksX10_add_1 0 rfl rfl)
theorem dX10_add_25 : decode cX10_add 25 = .ok (.i2l, 1) := dk_133 (dk_at dksX10_add_1 3 rfl rfl)
theorem dX10_add_26 : decode cX10_add 26 = .ok (.invokestatic 50, 3) := dk_184 0 50 (dk_at dksX10_add_1 4 rfl rfl)
theorem dX10_add_29 : decode cX10_add 29 = .ok (.ifCond .eq 7, 3) := dk_153 0 7 (dk_at dksX10_add_1 7 rfl rfl)
theorem dX10_add_32 : decode cX10_add 32 = .ok (.iconst 1, 1) := dk_4 (dk_at dksX10_add_1 10 rfl rfl)
theorem dX10_add_33 : decode cX10_add 33 = .ok (.goto 4, 3) := dk_167 0 4 (dk_at dksX10_add_1 11 rfl rfl)
theorem dX10_add_36 : decode cX10_add 36 = .ok (.iconst 0, 1) := dk_3 (dk_at dksX10_add_1 14 rfl rfl)
theorem dX10_add_37 : decode cX10_add 37 = .ok (.iconst 1, 1) := dk_4 (dk_at dksX10_add_1 15 rfl rfl)
theorem dX10_add_38 : decode cX10_add 38 = .ok (.invokevirtual 299, 3) := dk_182 1 43 (dk_at dksX10_add_1 16 rfl rfl)
theorem dX10_add_41 : decode cX10_add 41 = .ok (.ifCond .eq 5, 3) := dk_153 0 5 (dk_at dksX10_add_1 19 rfl rfl)
theorem dX10_add_44 : decode cX10_add 44 = .ok (.iconst 0, 1) := dk_3 (dk_at dksX10_add_1 22 rfl rfl)
theorem dX10_add_45 : decode cX10_add 45 = .ok (.ireturn, 1) := dk_172 (dk_at dksX10_add_1 23 rfl rfl)
theorem dX10_add_46 : decode cX10_add 46 = .ok (.aload_n 0, 1) := dk_42 (dk_at dksX10_add_2 0 rfl rfl)
theorem dX10_add_47 : decode cX10_add 47 = .ok (.getfield 60, 3) := dk_180 0 60 (dk_at dksX10_add_2 1 rfl rfl)
theorem dX10_add_50 : decode cX10_add 50 = .ok (.iconst 0, 1) := dk_3 (dk_at dksX10_add_2 4 rfl rfl)
theorem dX10_add_51 : decode cX10_add 51 = .ok (.aload_n 0, 1) := dk_42 (dk_at dksX10_add_2 5 rfl rfl)
theorem dX10_add_52 : decode cX10_add 52 = .ok (.getfield 67, 3) := dk_180 0 67 (dk_at dksX10_add_2 6 rfl rfl)
theorem dX10_add_55 : decode cX10_add 55 = .ok (.iconst 0, 1) := dk_3 (dk_at dksX10_add_2 9 rfl rfl)
theorem dX10_add_56 : decode cX10_add 56 = .ok (.sipush 606, 3) := dk_17 2 94 (dk_at dksX10_add_2 10 rfl rfl)
theorem dX10_add_59 : decode cX10_add 59 = .ok (.invokestatic 176, 3) := dk_184 0 176 (dk_at dksX10_add_2 13 rfl rfl)
theorem dX10_add_62 : decode cX10_add 62 = .ok (.aload_n 0, 1) := dk_42 (dk_at dksX10_add_2 16 rfl rfl)
theorem dX10_add_63 : decode cX10_add 63 = .ok (.aload_n 0, 1) := dk_42 (dk_at dksX10_add_2 17 rfl rfl)
theorem dX10_add_64 : decode cX10_add 64 = .ok (.iload_n 2, 1) := dk_28 (dk_at dksX10_add_2 18 rfl rfl)
theorem dX10_add_65 : decode cX10_add 65 = .ok (.invokevirtual 376, 3) := dk_182 1 120 (dk_at dksX10_add_2 19 rfl rfl)
theorem dX10_add_68 : decode cX10_add 68 = .ok (.ifCond .eq 11, 3) := dk_153 0 11 (dk_at dksX10_add_3 0 rfl rfl)
theorem dX10_add_71 : decode cX10_add 71 = .ok (.aload_n 0, 1) := dk_42 (dk_at dksX10_add_3 3 rfl rfl)
theorem dX10_add_72 : decode cX10_add 72 = .ok (.iload_n 1, 1) := dk_27 (dk_at dksX10_add_3 4 rfl rfl)
theorem dX10_add_73 : decode cX10_add 73 = .ok (.invokevirtual 411, 3) := dk_182 1 155 (dk_at dksX10_add_3 5 rfl rfl)
theorem dX10_add_76 : decode cX10_add 76 = .ok (.goto 10, 3) := dk_167 0 10 (dk_at dksX10_add_3 8 rfl rfl)
theorem dX10_add_79 : decode cX10_add 79 = .ok (.bipush (-10), 2) := dk_16 246 (dk_at dksX10_add_3 11 rfl rfl)
theorem dX10_add_81 : decode cX10_add 81 = .ok (.aload_n 0, 1) := dk_42 (dk_at dksX10_add_3 13 rfl rfl)
theorem dX10_add_82 : decode cX10_add 82 = .ok (.getfield 244, 3) := dk_180 0 244 (dk_at dksX10_add_3 14 rfl rfl)
theorem dX10_add_85 : decode cX10_add 85 = .ok (.isub, 1) := dk_100 (dk_at dksX10_add_3 17 rfl rfl)
theorem dX10_add_86 : decode cX10_add 86 = .ok (.invokevirtual 406, 3) := dk_182 1 150 (dk_at dksX10_add_3 18 rfl rfl)
theorem dX10_add_89 : decode cX10_add 89 = .ok (.ireturn, 1) := dk_172 (dk_at dksX10_add_3 21 rfl rfl)
abbrev cX10_adds : ByteArray := prog_28_method_45_code
def yX10_adds : MethodName := ⟨RX10, "adds", "(I)I"⟩
def dkwX10_adds_1 : List UInt8 := [167, 0, 8, 42, 27, 182, 0, 202, 172]
abbrev dktX10_adds_1 : List UInt8 := dkwX10_adds_1 ++ []
def dkwX10_adds_0 : List UInt8 := [42, 182, 0, 199, 2, 159, 0, 6, 16, 254, 172, 42, 5, 182, 0, 118, 16, 40, 160, 0, 8, 16, 253]
abbrev dktX10_adds_0 : List UInt8 := dkwX10_adds_0 ++ dktX10_adds_1
theorem dksX10_adds_0 : cX10_adds.data.toList.drop 0 = dktX10_adds_0 := by decide +kernel
theorem dksX10_adds_1 : cX10_adds.data.toList.drop 23 = dktX10_adds_1 := dk_seg dksX10_adds_0 23 rfl rfl
theorem dX10_adds_0 : decode cX10_adds 0 = .ok (.aload_n 0, 1) := dk_42 (dk_at dksX10_adds_0 0 rfl rfl)
theorem dX10_adds_1 : decode cX10_adds 1 = .ok (.invokevirtual 199, 3) := dk_182 0 199 (dk_at dksX10_adds_0 1 rfl rfl)
theorem dX10_adds_4 : decode cX10_adds 4 = .ok (.iconst (-1), 1) := dk_2 (dk_at dksX10_adds_0 4 rfl rfl)
theorem dX10_adds_5 : decode cX10_adds 5 = .ok (.if_icmp .eq 6, 3) := dk_159 0 6 (dk_at dksX10_adds_0 5 rfl rfl)
theorem dX10_adds_8 : decode cX10_adds 8 = .ok (.bipush (-2), 2) := dk_16 254 (dk_at dksX10_adds_0 8 rfl rfl)
theorem dX10_adds_10 : decode cX10_adds 10 = .ok (.ireturn, 1) := dk_172 (dk_at dksX10_adds_0 10 rfl rfl)
theorem dX10_adds_11 : decode cX10_adds 11 = .ok (.aload_n 0, 1) := dk_42 (dk_at dksX10_adds_0 11 rfl rfl)
theorem dX10_adds_12 : decode cX10_adds 12 = .ok (.iconst 2, 1) := dk_5 (dk_at dksX10_adds_0 12 rfl rfl)
theorem dX10_adds_13 : decode cX10_adds 13 = .ok (.invokevirtual 118, 3) := dk_182 0 118 (dk_at dksX10_adds_0 13 rfl rfl)
theorem dX10_adds_16 : decode cX10_adds 16 = .ok (.bipush 40, 2) := dk_16 40 (dk_at dksX10_adds_0 16 rfl rfl)
theorem dX10_adds_18 : decode cX10_adds 18 = .ok (.if_icmp .ne 8, 3) := dk_160 0 8 (dk_at dksX10_adds_0 18 rfl rfl)
theorem dX10_adds_21 : decode cX10_adds 21 = .ok (.bipush (-3), 2) := dk_16 253 (dk_at dksX10_adds_0 21 rfl rfl)
theorem dX10_adds_23 : decode cX10_adds 23 = .ok (.goto 8, 3) := dk_167 0 8 (dk_at dksX10_adds_1 0 rfl rfl)
theorem dX10_adds_26 : decode cX10_adds 26 = .ok (.aload_n 0, 1) := dk_42 (dk_at dksX10_adds_1 3 rfl rfl)
theorem dX10_adds_27 : decode cX10_adds 27 = .ok (.iload_n 1, 1) := dk_27 (dk_at dksX10_adds_1 4 rfl rfl)
theorem dX10_adds_28 : decode cX10_adds 28 = .ok (.invokevirtual 202, 3) := dk_182 0 202 (dk_at dksX10_adds_1 5 rfl rfl)
theorem dX10_adds_31 : decode cX10_adds 31 = .ok (.ireturn, 1) := dk_172 (dk_at dksX10_adds_1 8 rfl rfl)
abbrev cX10_ends : ByteArray := prog_28_method_112_code
def yX10_ends : MethodName := ⟨RX10, "ends", "(I)I"⟩
def dkwX10_ends_1 : List UInt8 := [181, 1, 70, 42, 182, 1, 144, 27, 172]
abbrev dktX10_ends_1 : List UInt8 := dkwX10_ends_1 ++ []
def dkwX10_ends_0 : List UInt8 := [27, 156, 0, 16, 42, 89, 180, 1, 73, 4, 96, 181, 1, 73, 167, 0, 17, 42, 89, 180, 1, 70, 4, 96]
abbrev dktX10_ends_0 : List UInt8 := dkwX10_ends_0 ++ dktX10_ends_1
theorem dksX10_ends_0 : cX10_ends.data.toList.drop 0 = dktX10_ends_0 := by decide +kernel
theorem dksX10_ends_1 : cX10_ends.data.toList.drop 24 = dktX10_ends_1 := dk_seg dksX10_ends_0 24 rfl rfl
theorem dX10_ends_0 : decode cX10_ends 0 = .ok (.iload_n 1, 1) := dk_27 (dk_at dksX10_ends_0 0 rfl rfl)
theorem dX10_ends_1 : decode cX10_ends 1 = .ok (.ifCond .ge 16, 3) := dk_156 0 16 (dk_at dksX10_ends_0 1 rfl rfl)
theorem dX10_ends_4 : decode cX10_ends 4 = .ok (.aload_n 0, 1) := dk_42 (dk_at dksX10_ends_0 4 rfl rfl)
theorem dX10_ends_5 : decode cX10_ends 5 = .ok (.dup, 1) := dk_89 (dk_at dksX10_ends_0 5 rfl rfl)
theorem dX10_ends_6 : decode cX10_ends 6 = .ok (.getfield 329, 3) := dk_180 1 73 (dk_at dksX10_ends_0 6 rfl rfl)
theorem dX10_ends_9 : decode cX10_ends 9 = .ok (.iconst 1, 1) := dk_4 (dk_at dksX10_ends_0 9 rfl rfl)
theorem dX10_ends_10 : decode cX10_ends 10 = .ok (.iadd, 1) := dk_96 (dk_at dksX10_ends_0 10 rfl rfl)
theorem dX10_ends_11 : decode cX10_ends 11 = .ok (.putfield 329, 3) := dk_181 1 73 (dk_at dksX10_ends_0 11 rfl rfl)
theorem dX10_ends_14 : decode cX10_ends 14 = .ok (.goto 17, 3) := dk_167 0 17 (dk_at dksX10_ends_0 14 rfl rfl)
theorem dX10_ends_17 : decode cX10_ends 17 = .ok (.aload_n 0, 1) := dk_42 (dk_at dksX10_ends_0 17 rfl rfl)
theorem dX10_ends_18 : decode cX10_ends 18 = .ok (.dup, 1) := dk_89 (dk_at dksX10_ends_0 18 rfl rfl)
theorem dX10_ends_19 : decode cX10_ends 19 = .ok (.getfield 326, 3) := dk_180 1 70 (dk_at dksX10_ends_0 19 rfl rfl)
theorem dX10_ends_22 : decode cX10_ends 22 = .ok (.iconst 1, 1) := dk_4 (dk_at dksX10_ends_0 22 rfl rfl)
theorem dX10_ends_23 : decode cX10_ends 23 = .ok (.iadd, 1) := dk_96 (dk_at dksX10_ends_0 23 rfl rfl)
theorem dX10_ends_24 : decode cX10_ends 24 = .ok (.putfield 326, 3) := dk_181 1 70 (dk_at dksX10_ends_1 0 rfl rfl)
theorem dX10_ends_27 : decode cX10_ends 27 = .ok (.aload_n 0, 1) := dk_42 (dk_at dksX10_ends_1 3 rfl rfl)
theorem dX10_ends_28 : decode cX10_ends 28 = .ok (.invokevirtual 400, 3) := dk_182 1 144 (dk_at dksX10_ends_1 4 rfl rfl)
theorem dX10_ends_31 : decode cX10_ends 31 = .ok (.iload_n 1, 1) := dk_27 (dk_at dksX10_ends_1 7 rfl rfl)
theorem dX10_ends_32 : decode cX10_ends 32 = .ok (.ireturn, 1) := dk_172 (dk_at dksX10_ends_1 8 rfl rfl)
abbrev cX10_keeps : ByteArray := prog_28_method_111_code
def yX10_keeps : MethodName := ⟨RX10, "keeps", "()V"⟩
def dkwX10_keeps_3 : List UInt8 := [177]
abbrev dktX10_keeps_3 : List UInt8 := dkwX10_keeps_3 ++ []
def dkwX10_keeps_2 : List UInt8 := [17, 2, 94, 42, 180, 1, 53, 104, 17, 2, 94, 184, 0, 176, 42, 89, 180, 1, 53, 4, 96, 181, 1, 53]
abbrev dktX10_keeps_2 : List UInt8 := dkwX10_keeps_2 ++ dktX10_keeps_3
def dkwX10_keeps_1 : List UInt8 := [184, 0, 176, 42, 89, 180, 1, 53, 4, 100, 181, 1, 53, 42, 180, 0, 67, 3, 42, 180, 0, 76]
abbrev dktX10_keeps_1 : List UInt8 := dkwX10_keeps_1 ++ dktX10_keeps_2
def dkwX10_keeps_0 : List UInt8 := [42, 180, 1, 53, 16, 8, 160, 0, 31, 42, 180, 0, 76, 17, 2, 94, 42, 180, 0, 76, 3, 17, 16, 146]
abbrev dktX10_keeps_0 : List UInt8 := dkwX10_keeps_0 ++ dktX10_keeps_1
theorem dksX10_keeps_0 : cX10_keeps.data.toList.drop 0 = dktX10_keeps_0 := by decide +kernel
theorem dksX10_keeps_1 : cX10_keeps.data.toList.drop 24 = dktX10_keeps_1 := dk_seg dksX10_keeps_0 24 rfl rfl
theorem dksX10_keeps_2 : cX10_keeps.data.toList.drop 46 = dktX10_keeps_2 := dk_seg dksX10_keeps_1 22 rfl rfl
theorem dksX10_keeps_3 : cX10_keeps.data.toList.drop 70 = dktX10_keeps_3 := dk_seg dksX10_keeps_2 24 rfl rfl
theorem dX10_keeps_0 : decode cX10_keeps 0 = .ok (.aload_n 0, 1) := dk_42 (dk_at dksX10_keeps_0 0 rfl rfl)
theorem dX10_keeps_1 : decode cX10_keeps 1 = .ok (.getfield 309, 3) := dk_180 1 53 (dk_at dksX10_keeps_0 1 rfl rfl)
theorem dX10_keeps_4 : decode cX10_keeps 4 = .ok (.bipush 8, 2) := dk_16 8 (dk_at dksX10_keeps_0 4 rfl rfl)
theorem dX10_keeps_6 : decode cX10_keeps 6 = .ok (.if_icmp .ne 31, 3) := dk_160 0 31 (dk_at dksX10_keeps_0 6 rfl rfl)
theorem dX10_keeps_9 : decode cX10_keeps 9 = .ok (.aload_n 0, 1) := dk_42 (dk_at dksX10_keeps_0 9 rfl rfl)
theorem dX10_keeps_10 : decode cX10_keeps 10 = .ok (.getfield 76, 3) := dk_180 0 76 (dk_at dksX10_keeps_0 10 rfl rfl)
theorem dX10_keeps_13 : decode cX10_keeps 13 = .ok (.sipush 606, 3) := dk_17 2 94 (dk_at dksX10_keeps_0 13 rfl rfl)
theorem dX10_keeps_16 : decode cX10_keeps 16 = .ok (.aload_n 0, 1) := dk_42 (dk_at dksX10_keeps_0 16 rfl rfl)
theorem dX10_keeps_17 : decode cX10_keeps 17 = .ok (.getfield 76, 3) := dk_180 0 76 (dk_at dksX10_keeps_0 17 rfl rfl)
theorem dX10_keeps_20 : decode cX10_keeps 20 = .ok (.iconst 0, 1) := dk_3 (dk_at dksX10_keeps_0 20 rfl rfl)
theorem dX10_keeps_21 : decode cX10_keeps 21 = .ok (.sipush 4242, 3) := dk_17 16 146 (dk_at dksX10_keeps_0 21 rfl rfl)
theorem dX10_keeps_24 : decode cX10_keeps 24 = .ok (.invokestatic 176, 3) := dk_184 0 176 (dk_at dksX10_keeps_1 0 rfl rfl)
theorem dX10_keeps_27 : decode cX10_keeps 27 = .ok (.aload_n 0, 1) := dk_42 (dk_at dksX10_keeps_1 3 rfl rfl)
theorem dX10_keeps_28 : decode cX10_keeps 28 = .ok (.dup, 1) := dk_89 (dk_at dksX10_keeps_1 4 rfl rfl)
theorem dX10_keeps_29 : decode cX10_keeps 29 = .ok (.getfield 309, 3) := dk_180 1 53 (dk_at dksX10_keeps_1 5 rfl rfl)
theorem dX10_keeps_32 : decode cX10_keeps 32 = .ok (.iconst 1, 1) := dk_4 (dk_at dksX10_keeps_1 8 rfl rfl)
theorem dX10_keeps_33 : decode cX10_keeps 33 = .ok (.isub, 1) := dk_100 (dk_at dksX10_keeps_1 9 rfl rfl)
theorem dX10_keeps_34 : decode cX10_keeps 34 = .ok (.putfield 309, 3) := dk_181 1 53 (dk_at dksX10_keeps_1 10 rfl rfl)
theorem dX10_keeps_37 : decode cX10_keeps 37 = .ok (.aload_n 0, 1) := dk_42 (dk_at dksX10_keeps_1 13 rfl rfl)
theorem dX10_keeps_38 : decode cX10_keeps 38 = .ok (.getfield 67, 3) := dk_180 0 67 (dk_at dksX10_keeps_1 14 rfl rfl)
theorem dX10_keeps_41 : decode cX10_keeps 41 = .ok (.iconst 0, 1) := dk_3 (dk_at dksX10_keeps_1 17 rfl rfl)
theorem dX10_keeps_42 : decode cX10_keeps 42 = .ok (.aload_n 0, 1) := dk_42 (dk_at dksX10_keeps_1 18 rfl rfl)
theorem dX10_keeps_43 : decode cX10_keeps 43 = .ok (.getfield 76, 3) := dk_180 0 76 (dk_at dksX10_keeps_1 19 rfl rfl)
theorem dX10_keeps_46 : decode cX10_keeps 46 = .ok (.sipush 606, 3) := dk_17 2 94 (dk_at dksX10_keeps_2 0 rfl rfl)
theorem dX10_keeps_49 : decode cX10_keeps 49 = .ok (.aload_n 0, 1) := dk_42 (dk_at dksX10_keeps_2 3 rfl rfl)
theorem dX10_keeps_50 : decode cX10_keeps 50 = .ok (.getfield 309, 3) := dk_180 1 53 (dk_at dksX10_keeps_2 4 rfl rfl)
theorem dX10_keeps_53 : decode cX10_keeps 53 = .ok (.imul, 1) := dk_104 (dk_at dksX10_keeps_2 7 rfl rfl)
theorem dX10_keeps_54 : decode cX10_keeps 54 = .ok (.sipush 606, 3) := dk_17 2 94 (dk_at dksX10_keeps_2 8 rfl rfl)
theorem dX10_keeps_57 : decode cX10_keeps 57 = .ok (.invokestatic 176, 3) := dk_184 0 176 (dk_at dksX10_keeps_2 11 rfl rfl)
theorem dX10_keeps_60 : decode cX10_keeps 60 = .ok (.aload_n 0, 1) := dk_42 (dk_at dksX10_keeps_2 14 rfl rfl)
theorem dX10_keeps_61 : decode cX10_keeps 61 = .ok (.dup, 1) := dk_89 (dk_at dksX10_keeps_2 15 rfl rfl)
theorem dX10_keeps_62 : decode cX10_keeps 62 = .ok (.getfield 309, 3) := dk_180 1 53 (dk_at dksX10_keeps_2 16 rfl rfl)
theorem dX10_keeps_65 : decode cX10_keeps 65 = .ok (.iconst 1, 1) := dk_4 (dk_at dksX10_keeps_2 19 rfl rfl)
theorem dX10_keeps_66 : decode cX10_keeps 66 = .ok (.iadd, 1) := dk_96 (dk_at dksX10_keeps_2 20 rfl rfl)
theorem dX10_keeps_67 : decode cX10_keeps 67 = .ok (.putfield 309, 3) := dk_181 1 53 (dk_at dksX10_keeps_2 21 rfl rfl)
theorem dX10_keeps_70 : decode cX10_keeps 70 = .ok (.return_, 1) := dk_177 (dk_at dksX10_keeps_3 0 rfl rfl)
abbrev cX10_drop : ByteArray := prog_28_method_115_code
def yX10_drop : MethodName := ⟨RX10, "drop", "(I)I"⟩
def dkwX10_drop_1 : List UInt8 := [172]
abbrev dktX10_drop_1 : List UInt8 := dkwX10_drop_1 ++ []
def dkwX10_drop_0 : List UInt8 := [42, 3, 181, 0, 1, 42, 27, 182, 1, 82, 153, 0, 7, 3, 167, 0, 10, 42, 6, 27, 3, 182, 1, 158]
abbrev dktX10_drop_0 : List UInt8 := dkwX10_drop_0 ++ dktX10_drop_1
theorem dksX10_drop_0 : cX10_drop.data.toList.drop 0 = dktX10_drop_0 := by decide +kernel
theorem dksX10_drop_1 : cX10_drop.data.toList.drop 24 = dktX10_drop_1 := dk_seg dksX10_drop_0 24 rfl rfl
theorem dX10_drop_0 : decode cX10_drop 0 = .ok (.aload_n 0, 1) := dk_42 (dk_at dksX10_drop_0 0 rfl rfl)
theorem dX10_drop_1 : decode cX10_drop 1 = .ok (.iconst 0, 1) := dk_3 (dk_at dksX10_drop_0 1 rfl rfl)
theorem dX10_drop_2 : decode cX10_drop 2 = .ok (.putfield 1, 3) := dk_181 0 1 (dk_at dksX10_drop_0 2 rfl rfl)
theorem dX10_drop_5 : decode cX10_drop 5 = .ok (.aload_n 0, 1) := dk_42 (dk_at dksX10_drop_0 5 rfl rfl)
theorem dX10_drop_6 : decode cX10_drop 6 = .ok (.iload_n 1, 1) := dk_27 (dk_at dksX10_drop_0 6 rfl rfl)
theorem dX10_drop_7 : decode cX10_drop 7 = .ok (.invokevirtual 338, 3) := dk_182 1 82 (dk_at dksX10_drop_0 7 rfl rfl)
theorem dX10_drop_10 : decode cX10_drop 10 = .ok (.ifCond .eq 7, 3) := dk_153 0 7 (dk_at dksX10_drop_0 10 rfl rfl)
theorem dX10_drop_13 : decode cX10_drop 13 = .ok (.iconst 0, 1) := dk_3 (dk_at dksX10_drop_0 13 rfl rfl)
theorem dX10_drop_14 : decode cX10_drop 14 = .ok (.goto 10, 3) := dk_167 0 10 (dk_at dksX10_drop_0 14 rfl rfl)
theorem dX10_drop_17 : decode cX10_drop 17 = .ok (.aload_n 0, 1) := dk_42 (dk_at dksX10_drop_0 17 rfl rfl)
theorem dX10_drop_18 : decode cX10_drop 18 = .ok (.iconst 3, 1) := dk_6 (dk_at dksX10_drop_0 18 rfl rfl)
theorem dX10_drop_19 : decode cX10_drop 19 = .ok (.iload_n 1, 1) := dk_27 (dk_at dksX10_drop_0 19 rfl rfl)
theorem dX10_drop_20 : decode cX10_drop 20 = .ok (.iconst 0, 1) := dk_3 (dk_at dksX10_drop_0 20 rfl rfl)
theorem dX10_drop_21 : decode cX10_drop 21 = .ok (.invokevirtual 414, 3) := dk_182 1 158 (dk_at dksX10_drop_0 21 rfl rfl)
theorem dX10_drop_24 : decode cX10_drop 24 = .ok (.ireturn, 1) := dk_172 (dk_at dksX10_drop_1 0 rfl rfl)
abbrev cX10_operates : ByteArray := prog_28_method_113_code
def yX10_operates : MethodName := ⟨RX10, "operates", "(III)I"⟩
def dkwX10_operates_1 : List UInt8 := [182, 1, 150, 172]
abbrev dktX10_operates_1 : List UInt8 := dkwX10_operates_1 ++ []
def dkwX10_operates_0 : List UInt8 := [42, 180, 0, 60, 3, 42, 180, 0, 67, 3, 17, 2, 94, 184, 0, 176, 42, 42, 27, 28, 29, 182, 1, 147]
abbrev dktX10_operates_0 : List UInt8 := dkwX10_operates_0 ++ dktX10_operates_1
theorem dksX10_operates_0 : cX10_operates.data.toList.drop 0 = dktX10_operates_0 := by decide +kernel
theorem dksX10_operates_1 : cX10_operates.data.toList.drop 24 = dktX10_operates_1 := dk_seg dksX10_operates_0 24 rfl rfl
theorem dX10_operates_0 : decode cX10_operates 0 = .ok (.aload_n 0, 1) := dk_42 (dk_at dksX10_operates_0 0 rfl rfl)
theorem dX10_operates_1 : decode cX10_operates 1 = .ok (.getfield 60, 3) := dk_180 0 60 (dk_at dksX10_operates_0 1 rfl rfl)
theorem dX10_operates_4 : decode cX10_operates 4 = .ok (.iconst 0, 1) := dk_3 (dk_at dksX10_operates_0 4 rfl rfl)
theorem dX10_operates_5 : decode cX10_operates 5 = .ok (.aload_n 0, 1) := dk_42 (dk_at dksX10_operates_0 5 rfl rfl)
theorem dX10_operates_6 : decode cX10_operates 6 = .ok (.getfield 67, 3) := dk_180 0 67 (dk_at dksX10_operates_0 6 rfl rfl)
theorem dX10_operates_9 : decode cX10_operates 9 = .ok (.iconst 0, 1) := dk_3 (dk_at dksX10_operates_0 9 rfl rfl)
theorem dX10_operates_10 : decode cX10_operates 10 = .ok (.sipush 606, 3) := dk_17 2 94 (dk_at dksX10_operates_0 10 rfl rfl)
theorem dX10_operates_13 : decode cX10_operates 13 = .ok (.invokestatic 176, 3) := dk_184 0 176 (dk_at dksX10_operates_0 13 rfl rfl)
theorem dX10_operates_16 : decode cX10_operates 16 = .ok (.aload_n 0, 1) := dk_42 (dk_at dksX10_operates_0 16 rfl rfl)
theorem dX10_operates_17 : decode cX10_operates 17 = .ok (.aload_n 0, 1) := dk_42 (dk_at dksX10_operates_0 17 rfl rfl)
theorem dX10_operates_18 : decode cX10_operates 18 = .ok (.iload_n 1, 1) := dk_27 (dk_at dksX10_operates_0 18 rfl rfl)
theorem dX10_operates_19 : decode cX10_operates 19 = .ok (.iload_n 2, 1) := dk_28 (dk_at dksX10_operates_0 19 rfl rfl)
theorem dX10_operates_20 : decode cX10_operates 20 = .ok (.iload_n 3, 1) := dk_29 (dk_at dksX10_operates_0 20 rfl rfl)
theorem dX10_operates_21 : decode cX10_operates 21 = .ok (.invokevirtual 403, 3) := dk_182 1 147 (dk_at dksX10_operates_0 21 rfl rfl)
theorem dX10_operates_24 : decode cX10_operates 24 = .ok (.invokevirtual 406, 3) := dk_182 1 150 (dk_at dksX10_operates_1 0 rfl rfl)
theorem dX10_operates_27 : decode cX10_operates 27 = .ok (.ireturn, 1) := dk_172 (dk_at dksX10_operates_1 3 rfl rfl)
abbrev cX10_does : ByteArray := prog_28_method_110_code
def yX10_does : MethodName := ⟨RX10, "does", "(III)I"⟩
def dkwX10_does_6 : List UInt8 := [172, 42, 182, 0, 186, 172]
abbrev dktX10_does_6 : List UInt8 := dkwX10_does_6 ++ []
def dkwX10_does_5 : List UInt8 := [42, 3, 182, 0, 118, 162, 0, 12, 42, 28, 29, 182, 1, 138, 167, 0, 5, 16, 247, 172, 42, 182, 1, 141]
abbrev dktX10_does_5 : List UInt8 := dkwX10_does_5 ++ dktX10_does_6
def dkwX10_does_4 : List UInt8 := [182, 1, 79, 2, 159, 0, 16, 42, 42, 28, 182, 1, 79, 29, 182, 1, 135, 167, 0, 5, 16, 247, 172, 28]
abbrev dktX10_does_4 : List UInt8 := dkwX10_does_4 ++ dktX10_does_5
def dkwX10_does_3 : List UInt8 := [182, 1, 79, 2, 159, 0, 15, 42, 42, 28, 182, 1, 79, 182, 1, 132, 167, 0, 5, 16, 247, 172, 42, 28]
abbrev dktX10_does_3 : List UInt8 := dkwX10_does_3 ++ dktX10_does_4
def dkwX10_does_2 : List UInt8 := [28, 42, 6, 182, 0, 118, 162, 0, 11, 42, 28, 182, 1, 129, 167, 0, 5, 16, 247, 172, 42, 28]
abbrev dktX10_does_2 : List UInt8 := dkwX10_does_2 ++ dktX10_does_3
def dkwX10_does_1 : List UInt8 := [170, 0, 0, 0, 0, 0, 130, 0, 0, 0, 2, 0, 0, 0, 6, 0, 0, 0, 35, 0, 0, 0, 55, 0, 0, 0, 79, 0, 0, 0, 104, 0, 0, 0, 125]
abbrev dktX10_does_1 : List UInt8 := dkwX10_does_1 ++ dktX10_does_2
def dkwX10_does_0 : List UInt8 := [27]
abbrev dktX10_does_0 : List UInt8 := dkwX10_does_0 ++ dktX10_does_1
theorem dksX10_does_0 : cX10_does.data.toList.drop 0 = dktX10_does_0 := by decide +kernel
theorem dksX10_does_1 : cX10_does.data.toList.drop 1 = dktX10_does_1 := dk_seg dksX10_does_0 1 rfl rfl
theorem dksX10_does_2 : cX10_does.data.toList.drop 36 = dktX10_does_2 := dk_seg dksX10_does_1 35 rfl rfl
theorem dksX10_does_3 : cX10_does.data.toList.drop 58 = dktX10_does_3 := dk_seg dksX10_does_2 22 rfl rfl
theorem dksX10_does_4 : cX10_does.data.toList.drop 82 = dktX10_does_4 := dk_seg dksX10_does_3 24 rfl rfl
theorem dksX10_does_5 : cX10_does.data.toList.drop 106 = dktX10_does_5 := dk_seg dksX10_does_4 24 rfl rfl
theorem dksX10_does_6 : cX10_does.data.toList.drop 130 = dktX10_does_6 := dk_seg dksX10_does_5 24 rfl rfl
theorem dX10_does_0 : decode cX10_does 0 = .ok (.iload_n 1, 1) := dk_27 (dk_at dksX10_does_0 0 rfl rfl)
theorem dX10_does_1 : decode cX10_does 1 = .ok (.tableswitch 130 2 6 #[35, 55, 79, 104, 125], 35) := by decide +kernel
theorem dX10_does_36 : decode cX10_does 36 = .ok (.iload_n 2, 1) := dk_28 (dk_at dksX10_does_2 0 rfl rfl)
theorem dX10_does_37 : decode cX10_does 37 = .ok (.aload_n 0, 1) := dk_42 (dk_at dksX10_does_2 1 rfl rfl)
theorem dX10_does_38 : decode cX10_does 38 = .ok (.iconst 3, 1) := dk_6 (dk_at dksX10_does_2 2 rfl rfl)
theorem dX10_does_39 : decode cX10_does 39 = .ok (.invokevirtual 118, 3) := dk_182 0 118 (dk_at dksX10_does_2 3 rfl rfl)
theorem dX10_does_42 : decode cX10_does 42 = .ok (.if_icmp .ge 11, 3) := dk_162 0 11 (dk_at dksX10_does_2 6 rfl rfl)
theorem dX10_does_45 : decode cX10_does 45 = .ok (.aload_n 0, 1) := dk_42 (dk_at dksX10_does_2 9 rfl rfl)
theorem dX10_does_46 : decode cX10_does 46 = .ok (.iload_n 2, 1) := dk_28 (dk_at dksX10_does_2 10 rfl rfl)
theorem dX10_does_47 : decode cX10_does 47 = .ok (.invokevirtual 385, 3) := dk_182 1 129 (dk_at dksX10_does_2 11 rfl rfl)
theorem dX10_does_50 : decode cX10_does 50 = .ok (.goto 5, 3) := dk_167 0 5 (dk_at dksX10_does_2 14 rfl rfl)
theorem dX10_does_53 : decode cX10_does 53 = .ok (.bipush (-9), 2) := dk_16 247 (dk_at dksX10_does_2 17 rfl rfl)
theorem dX10_does_55 : decode cX10_does 55 = .ok (.ireturn, 1) := dk_172 (dk_at dksX10_does_2 19 rfl rfl)
theorem dX10_does_56 : decode cX10_does 56 = .ok (.aload_n 0, 1) := dk_42 (dk_at dksX10_does_2 20 rfl rfl)
theorem dX10_does_57 : decode cX10_does 57 = .ok (.iload_n 2, 1) := dk_28 (dk_at dksX10_does_2 21 rfl rfl)
theorem dX10_does_58 : decode cX10_does 58 = .ok (.invokevirtual 335, 3) := dk_182 1 79 (dk_at dksX10_does_3 0 rfl rfl)
theorem dX10_does_61 : decode cX10_does 61 = .ok (.iconst (-1), 1) := dk_2 (dk_at dksX10_does_3 3 rfl rfl)
theorem dX10_does_62 : decode cX10_does 62 = .ok (.if_icmp .eq 15, 3) := dk_159 0 15 (dk_at dksX10_does_3 4 rfl rfl)
theorem dX10_does_65 : decode cX10_does 65 = .ok (.aload_n 0, 1) := dk_42 (dk_at dksX10_does_3 7 rfl rfl)
theorem dX10_does_66 : decode cX10_does 66 = .ok (.aload_n 0, 1) := dk_42 (dk_at dksX10_does_3 8 rfl rfl)
theorem dX10_does_67 : decode cX10_does 67 = .ok (.iload_n 2, 1) := dk_28 (dk_at dksX10_does_3 9 rfl rfl)
theorem dX10_does_68 : decode cX10_does 68 = .ok (.invokevirtual 335, 3) := dk_182 1 79 (dk_at dksX10_does_3 10 rfl rfl)
theorem dX10_does_71 : decode cX10_does 71 = .ok (.invokevirtual 388, 3) := dk_182 1 132 (dk_at dksX10_does_3 13 rfl rfl)
theorem dX10_does_74 : decode cX10_does 74 = .ok (.goto 5, 3) := dk_167 0 5 (dk_at dksX10_does_3 16 rfl rfl)
theorem dX10_does_77 : decode cX10_does 77 = .ok (.bipush (-9), 2) := dk_16 247 (dk_at dksX10_does_3 19 rfl rfl)
theorem dX10_does_79 : decode cX10_does 79 = .ok (.ireturn, 1) := dk_172 (dk_at dksX10_does_3 21 rfl rfl)
theorem dX10_does_80 : decode cX10_does 80 = .ok (.aload_n 0, 1) := dk_42 (dk_at dksX10_does_3 22 rfl rfl)
theorem dX10_does_81 : decode cX10_does 81 = .ok (.iload_n 2, 1) := dk_28 (dk_at dksX10_does_3 23 rfl rfl)
theorem dX10_does_82 : decode cX10_does 82 = .ok (.invokevirtual 335, 3) := dk_182 1 79 (dk_at dksX10_does_4 0 rfl rfl)
theorem dX10_does_85 : decode cX10_does 85 = .ok (.iconst (-1), 1) := dk_2 (dk_at dksX10_does_4 3 rfl rfl)
theorem dX10_does_86 : decode cX10_does 86 = .ok (.if_icmp .eq 16, 3) := dk_159 0 16 (dk_at dksX10_does_4 4 rfl rfl)
theorem dX10_does_89 : decode cX10_does 89 = .ok (.aload_n 0, 1) := dk_42 (dk_at dksX10_does_4 7 rfl rfl)
theorem dX10_does_90 : decode cX10_does 90 = .ok (.aload_n 0, 1) := dk_42 (dk_at dksX10_does_4 8 rfl rfl)
theorem dX10_does_91 : decode cX10_does 91 = .ok (.iload_n 2, 1) := dk_28 (dk_at dksX10_does_4 9 rfl rfl)
theorem dX10_does_92 : decode cX10_does 92 = .ok (.invokevirtual 335, 3) := dk_182 1 79 (dk_at dksX10_does_4 10 rfl rfl)
theorem dX10_does_95 : decode cX10_does 95 = .ok (.iload_n 3, 1) := dk_29 (dk_at dksX10_does_4 13 rfl rfl)
theorem dX10_does_96 : decode cX10_does 96 = .ok (.invokevirtual 391, 3) := dk_182 1 135 (dk_at dksX10_does_4 14 rfl rfl)
theorem dX10_does_99 : decode cX10_does 99 = .ok (.goto 5, 3) := dk_167 0 5 (dk_at dksX10_does_4 17 rfl rfl)
theorem dX10_does_102 : decode cX10_does 102 = .ok (.bipush (-9), 2) := dk_16 247 (dk_at dksX10_does_4 20 rfl rfl)
theorem dX10_does_104 : decode cX10_does 104 = .ok (.ireturn, 1) := dk_172 (dk_at dksX10_does_4 22 rfl rfl)
theorem dX10_does_105 : decode cX10_does 105 = .ok (.iload_n 2, 1) := dk_28 (dk_at dksX10_does_4 23 rfl rfl)
theorem dX10_does_106 : decode cX10_does 106 = .ok (.aload_n 0, 1) := dk_42 (dk_at dksX10_does_5 0 rfl rfl)
theorem dX10_does_107 : decode cX10_does 107 = .ok (.iconst 0, 1) := dk_3 (dk_at dksX10_does_5 1 rfl rfl)
theorem dX10_does_108 : decode cX10_does 108 = .ok (.invokevirtual 118, 3) := dk_182 0 118 (dk_at dksX10_does_5 2 rfl rfl)
theorem dX10_does_111 : decode cX10_does 111 = .ok (.if_icmp .ge 12, 3) := dk_162 0 12 (dk_at dksX10_does_5 5 rfl rfl)
theorem dX10_does_114 : decode cX10_does 114 = .ok (.aload_n 0, 1) := dk_42 (dk_at dksX10_does_5 8 rfl rfl)
theorem dX10_does_115 : decode cX10_does 115 = .ok (.iload_n 2, 1) := dk_28 (dk_at dksX10_does_5 9 rfl rfl)
theorem dX10_does_116 : decode cX10_does 116 = .ok (.iload_n 3, 1) := dk_29 (dk_at dksX10_does_5 10 rfl rfl)
theorem dX10_does_117 : decode cX10_does 117 = .ok (.invokevirtual 394, 3) := dk_182 1 138 (dk_at dksX10_does_5 11 rfl rfl)
theorem dX10_does_120 : decode cX10_does 120 = .ok (.goto 5, 3) := dk_167 0 5 (dk_at dksX10_does_5 14 rfl rfl)
theorem dX10_does_123 : decode cX10_does 123 = .ok (.bipush (-9), 2) := dk_16 247 (dk_at dksX10_does_5 17 rfl rfl)
theorem dX10_does_125 : decode cX10_does 125 = .ok (.ireturn, 1) := dk_172 (dk_at dksX10_does_5 19 rfl rfl)
theorem dX10_does_126 : decode cX10_does 126 = .ok (.aload_n 0, 1) := dk_42 (dk_at dksX10_does_5 20 rfl rfl)
theorem dX10_does_127 : decode cX10_does 127 = .ok (.invokevirtual 397, 3) := dk_182 1 141 (dk_at dksX10_does_5 21 rfl rfl)
theorem dX10_does_130 : decode cX10_does 130 = .ok (.ireturn, 1) := dk_172 (dk_at dksX10_does_6 0 rfl rfl)
theorem dX10_does_131 : decode cX10_does 131 = .ok (.aload_n 0, 1) := dk_42 (dk_at dksX10_does_6 1 rfl rfl)
theorem dX10_does_132 : decode cX10_does 132 = .ok (.invokevirtual 186, 3) := dk_182 0 186 (dk_at dksX10_does_6 2 rfl rfl)
theorem dX10_does_135 : decode cX10_does 135 = .ok (.ireturn, 1) := dk_172 (dk_at dksX10_does_6 5 rfl rfl)
abbrev cX10_unsays : ByteArray := prog_28_method_48_code
def yX10_unsays : MethodName := ⟨RX10, "unsays", "(I)I"⟩
def dkwX10_unsays_2 : List UInt8 := [182, 0, 205, 172]
abbrev dktX10_unsays_2 : List UInt8 := dkwX10_unsays_2 ++ []
def dkwX10_unsays_1 : List UInt8 := [180, 0, 60, 16, 16, 5, 27, 104, 96, 5, 42, 6, 182, 0, 118, 27, 100, 104, 184, 0, 176, 42]
abbrev dktX10_unsays_1 : List UInt8 := dkwX10_unsays_1 ++ dktX10_unsays_2
def dkwX10_unsays_0 : List UInt8 := [42, 180, 0, 60, 6, 92, 47, 10, 101, 80, 42, 180, 0, 60, 16, 16, 5, 27, 4, 96, 104, 96, 42]
abbrev dktX10_unsays_0 : List UInt8 := dkwX10_unsays_0 ++ dktX10_unsays_1
theorem dksX10_unsays_0 : cX10_unsays.data.toList.drop 0 = dktX10_unsays_0 := by decide +kernel
theorem dksX10_unsays_1 : cX10_unsays.data.toList.drop 23 = dktX10_unsays_1 := dk_seg dksX10_unsays_0 23 rfl rfl
theorem dksX10_unsays_2 : cX10_unsays.data.toList.drop 45 = dktX10_unsays_2 := dk_seg dksX10_unsays_1 22 rfl rfl
theorem dX10_unsays_0 : decode cX10_unsays 0 = .ok (.aload_n 0, 1) := dk_42 (dk_at dksX10_unsays_0 0 rfl rfl)
theorem dX10_unsays_1 : decode cX10_unsays 1 = .ok (.getfield 60, 3) := dk_180 0 60 (dk_at dksX10_unsays_0 1 rfl rfl)
theorem dX10_unsays_4 : decode cX10_unsays 4 = .ok (.iconst 3, 1) := dk_6 (dk_at dksX10_unsays_0 4 rfl rfl)
theorem dX10_unsays_5 : decode cX10_unsays 5 = .ok (.dup2, 1) := dk_92 (dk_at dksX10_unsays_0 5 rfl rfl)
theorem dX10_unsays_6 : decode cX10_unsays 6 = .ok (.laload, 1) := dk_47 (dk_at dksX10_unsays_0 6 rfl rfl)
theorem dX10_unsays_7 : decode cX10_unsays 7 = .ok (.lconst 1, 1) := dk_10 (dk_at dksX10_unsays_0 7 rfl rfl)
theorem dX10_unsays_8 : decode cX10_unsays 8 = .ok (.lsub, 1) := dk_101 (dk_at dksX10_unsays_0 8 rfl rfl)
theorem dX10_unsays_9 : decode cX10_unsays 9 = .ok (.lastore, 1) := dk_80 (dk_at dksX10_unsays_0 9 rfl rfl)
theorem dX10_unsays_10 : decode cX10_unsays 10 = .ok (.aload_n 0, 1) := dk_42 (dk_at dksX10_unsays_0 10 rfl rfl)
theorem dX10_unsays_11 : decode cX10_unsays 11 = .ok (.getfield 60, 3) := dk_180 0 60 (dk_at dksX10_unsays_0 11 rfl rfl)
theorem dX10_unsays_14 : decode cX10_unsays 14 = .ok (.bipush 16, 2) := dk_16 16 (dk_at dksX10_unsays_0 14 rfl rfl)
theorem dX10_unsays_16 : decode cX10_unsays 16 = .ok (.iconst 2, 1) := dk_5 (dk_at dksX10_unsays_0 16 rfl rfl)
theorem dX10_unsays_17 : decode cX10_unsays 17 = .ok (.iload_n 1, 1) := dk_27 (dk_at dksX10_unsays_0 17 rfl rfl)
theorem dX10_unsays_18 : decode cX10_unsays 18 = .ok (.iconst 1, 1) := dk_4 (dk_at dksX10_unsays_0 18 rfl rfl)
theorem dX10_unsays_19 : decode cX10_unsays 19 = .ok (.iadd, 1) := dk_96 (dk_at dksX10_unsays_0 19 rfl rfl)
theorem dX10_unsays_20 : decode cX10_unsays 20 = .ok (.imul, 1) := dk_104 (dk_at dksX10_unsays_0 20 rfl rfl)
theorem dX10_unsays_21 : decode cX10_unsays 21 = .ok (.iadd, 1) := dk_96 (dk_at dksX10_unsays_0 21 rfl rfl)
theorem dX10_unsays_22 : decode cX10_unsays 22 = .ok (.aload_n 0, 1) := dk_42 (dk_at dksX10_unsays_0 22 rfl rfl)
theorem dX10_unsays_23 : decode cX10_unsays 23 = .ok (.getfield 60, 3) := dk_180 0 60 (dk_at dksX10_unsays_1 0 rfl rfl)
theorem dX10_unsays_26 : decode cX10_unsays 26 = .ok (.bipush 16, 2) := dk_16 16 (dk_at dksX10_unsays_1 3 rfl rfl)
theorem dX10_unsays_28 : decode cX10_unsays 28 = .ok (.iconst 2, 1) := dk_5 (dk_at dksX10_unsays_1 5 rfl rfl)
theorem dX10_unsays_29 : decode cX10_unsays 29 = .ok (.iload_n 1, 1) := dk_27 (dk_at dksX10_unsays_1 6 rfl rfl)
theorem dX10_unsays_30 : decode cX10_unsays 30 = .ok (.imul, 1) := dk_104 (dk_at dksX10_unsays_1 7 rfl rfl)
theorem dX10_unsays_31 : decode cX10_unsays 31 = .ok (.iadd, 1) := dk_96 (dk_at dksX10_unsays_1 8 rfl rfl)
theorem dX10_unsays_32 : decode cX10_unsays 32 = .ok (.iconst 2, 1) := dk_5 (dk_at dksX10_unsays_1 9 rfl rfl)
theorem dX10_unsays_33 : decode cX10_unsays 33 = .ok (.aload_n 0, 1) := dk_42 (dk_at dksX10_unsays_1 10 rfl rfl)
theorem dX10_unsays_34 : decode cX10_unsays 34 = .ok (.iconst 3, 1) := dk_6 (dk_at dksX10_unsays_1 11 rfl rfl)
theorem dX10_unsays_35 : decode cX10_unsays 35 = .ok (.invokevirtual 118, 3) := dk_182 0 118 (dk_at dksX10_unsays_1 12 rfl rfl)
theorem dX10_unsays_38 : decode cX10_unsays 38 = .ok (.iload_n 1, 1) := dk_27 (dk_at dksX10_unsays_1 15 rfl rfl)
theorem dX10_unsays_39 : decode cX10_unsays 39 = .ok (.isub, 1) := dk_100 (dk_at dksX10_unsays_1 16 rfl rfl)
theorem dX10_unsays_40 : decode cX10_unsays 40 = .ok (.imul, 1) := dk_104 (dk_at dksX10_unsays_1 17 rfl rfl)
theorem dX10_unsays_41 : decode cX10_unsays 41 = .ok (.invokestatic 176, 3) := dk_184 0 176 (dk_at dksX10_unsays_1 18 rfl rfl)
theorem dX10_unsays_44 : decode cX10_unsays 44 = .ok (.aload_n 0, 1) := dk_42 (dk_at dksX10_unsays_1 21 rfl rfl)
theorem dX10_unsays_45 : decode cX10_unsays 45 = .ok (.invokevirtual 205, 3) := dk_182 0 205 (dk_at dksX10_unsays_2 0 rfl rfl)
theorem dX10_unsays_48 : decode cX10_unsays 48 = .ok (.ireturn, 1) := dk_172 (dk_at dksX10_unsays_2 3 rfl rfl)
abbrev cX10_drops : ByteArray := prog_28_method_46_code
def yX10_drops : MethodName := ⟨RX10, "drops", "(I)I"⟩
def dkwX10_drops_2 : List UInt8 := [5, 182, 0, 118, 172]
abbrev dktX10_drops_2 : List UInt8 := dkwX10_drops_2 ++ []
def dkwX10_drops_1 : List UInt8 := [180, 0, 60, 16, 32, 16, 14, 27, 104, 96, 16, 14, 42, 5, 182, 0, 118, 27, 100, 104, 184, 0, 176, 42]
abbrev dktX10_drops_1 : List UInt8 := dkwX10_drops_1 ++ dktX10_drops_2
def dkwX10_drops_0 : List UInt8 := [42, 180, 0, 60, 5, 92, 47, 10, 101, 80, 42, 180, 0, 60, 16, 32, 16, 14, 27, 4, 96, 104, 96, 42]
abbrev dktX10_drops_0 : List UInt8 := dkwX10_drops_0 ++ dktX10_drops_1
theorem dksX10_drops_0 : cX10_drops.data.toList.drop 0 = dktX10_drops_0 := by decide +kernel
theorem dksX10_drops_1 : cX10_drops.data.toList.drop 24 = dktX10_drops_1 := dk_seg dksX10_drops_0 24 rfl rfl
theorem dksX10_drops_2 : cX10_drops.data.toList.drop 48 = dktX10_drops_2 := dk_seg dksX10_drops_1 24 rfl rfl
theorem dX10_drops_0 : decode cX10_drops 0 = .ok (.aload_n 0, 1) := dk_42 (dk_at dksX10_drops_0 0 rfl rfl)
theorem dX10_drops_1 : decode cX10_drops 1 = .ok (.getfield 60, 3) := dk_180 0 60 (dk_at dksX10_drops_0 1 rfl rfl)
theorem dX10_drops_4 : decode cX10_drops 4 = .ok (.iconst 2, 1) := dk_5 (dk_at dksX10_drops_0 4 rfl rfl)
theorem dX10_drops_5 : decode cX10_drops 5 = .ok (.dup2, 1) := dk_92 (dk_at dksX10_drops_0 5 rfl rfl)
theorem dX10_drops_6 : decode cX10_drops 6 = .ok (.laload, 1) := dk_47 (dk_at dksX10_drops_0 6 rfl rfl)
theorem dX10_drops_7 : decode cX10_drops 7 = .ok (.lconst 1, 1) := dk_10 (dk_at dksX10_drops_0 7 rfl rfl)
theorem dX10_drops_8 : decode cX10_drops 8 = .ok (.lsub, 1) := dk_101 (dk_at dksX10_drops_0 8 rfl rfl)
theorem dX10_drops_9 : decode cX10_drops 9 = .ok (.lastore, 1) := dk_80 (dk_at dksX10_drops_0 9 rfl rfl)
theorem dX10_drops_10 : decode cX10_drops 10 = .ok (.aload_n 0, 1) := dk_42 (dk_at dksX10_drops_0 10 rfl rfl)
theorem dX10_drops_11 : decode cX10_drops 11 = .ok (.getfield 60, 3) := dk_180 0 60 (dk_at dksX10_drops_0 11 rfl rfl)
theorem dX10_drops_14 : decode cX10_drops 14 = .ok (.bipush 32, 2) := dk_16 32 (dk_at dksX10_drops_0 14 rfl rfl)
theorem dX10_drops_16 : decode cX10_drops 16 = .ok (.bipush 14, 2) := dk_16 14 (dk_at dksX10_drops_0 16 rfl rfl)
theorem dX10_drops_18 : decode cX10_drops 18 = .ok (.iload_n 1, 1) := dk_27 (dk_at dksX10_drops_0 18 rfl rfl)
theorem dX10_drops_19 : decode cX10_drops 19 = .ok (.iconst 1, 1) := dk_4 (dk_at dksX10_drops_0 19 rfl rfl)
theorem dX10_drops_20 : decode cX10_drops 20 = .ok (.iadd, 1) := dk_96 (dk_at dksX10_drops_0 20 rfl rfl)
theorem dX10_drops_21 : decode cX10_drops 21 = .ok (.imul, 1) := dk_104 (dk_at dksX10_drops_0 21 rfl rfl)
theorem dX10_drops_22 : decode cX10_drops 22 = .ok (.iadd, 1) := dk_96 (dk_at dksX10_drops_0 22 rfl rfl)
theorem dX10_drops_23 : decode cX10_drops 23 = .ok (.aload_n 0, 1) := dk_42 (dk_at dksX10_drops_0 23 rfl rfl)
theorem dX10_drops_24 : decode cX10_drops 24 = .ok (.getfield 60, 3) := dk_180 0 60 (dk_at dksX10_drops_1 0 rfl rfl)
theorem dX10_drops_27 : decode cX10_drops 27 = .ok (.bipush 32, 2) := dk_16 32 (dk_at dksX10_drops_1 3 rfl rfl)
theorem dX10_drops_29 : decode cX10_drops 29 = .ok (.bipush 14, 2) := dk_16 14 (dk_at dksX10_drops_1 5 rfl rfl)
theorem dX10_drops_31 : decode cX10_drops 31 = .ok (.iload_n 1, 1) := dk_27 (dk_at dksX10_drops_1 7 rfl rfl)
theorem dX10_drops_32 : decode cX10_drops 32 = .ok (.imul, 1) := dk_104 (dk_at dksX10_drops_1 8 rfl rfl)
theorem dX10_drops_33 : decode cX10_drops 33 = .ok (.iadd, 1) := dk_96 (dk_at dksX10_drops_1 9 rfl rfl)
theorem dX10_drops_34 : decode cX10_drops 34 = .ok (.bipush 14, 2) := dk_16 14 (dk_at dksX10_drops_1 10 rfl rfl)
theorem dX10_drops_36 : decode cX10_drops 36 = .ok (.aload_n 0, 1) := dk_42 (dk_at dksX10_drops_1 12 rfl rfl)
theorem dX10_drops_37 : decode cX10_drops 37 = .ok (.iconst 2, 1) := dk_5 (dk_at dksX10_drops_1 13 rfl rfl)
theorem dX10_drops_38 : decode cX10_drops 38 = .ok (.invokevirtual 118, 3) := dk_182 0 118 (dk_at dksX10_drops_1 14 rfl rfl)
theorem dX10_drops_41 : decode cX10_drops 41 = .ok (.iload_n 1, 1) := dk_27 (dk_at dksX10_drops_1 17 rfl rfl)
theorem dX10_drops_42 : decode cX10_drops 42 = .ok (.isub, 1) := dk_100 (dk_at dksX10_drops_1 18 rfl rfl)
theorem dX10_drops_43 : decode cX10_drops 43 = .ok (.imul, 1) := dk_104 (dk_at dksX10_drops_1 19 rfl rfl)
theorem dX10_drops_44 : decode cX10_drops 44 = .ok (.invokestatic 176, 3) := dk_184 0 176 (dk_at dksX10_drops_1 20 rfl rfl)
theorem dX10_drops_47 : decode cX10_drops 47 = .ok (.aload_n 0, 1) := dk_42 (dk_at dksX10_drops_1 23 rfl rfl)
theorem dX10_drops_48 : decode cX10_drops 48 = .ok (.iconst 2, 1) := dk_5 (dk_at dksX10_drops_2 0 rfl rfl)
theorem dX10_drops_49 : decode cX10_drops 49 = .ok (.invokevirtual 118, 3) := dk_182 0 118 (dk_at dksX10_drops_2 1 rfl rfl)
theorem dX10_drops_52 : decode cX10_drops 52 = .ok (.ireturn, 1) := dk_172 (dk_at dksX10_drops_2 4 rfl rfl)
abbrev cX10_widens : ByteArray := prog_28_method_49_code
def yX10_widens : MethodName := ⟨RX10, "widens", "(II)I"⟩
def dkwX10_widens_0 : List UInt8 := [42, 27, 4, 182, 0, 129, 62, 42, 27, 4, 28, 133, 182, 0, 143, 29, 172]
abbrev dktX10_widens_0 : List UInt8 := dkwX10_widens_0 ++ []
theorem dksX10_widens_0 : cX10_widens.data.toList.drop 0 = dktX10_widens_0 := by decide +kernel
theorem dX10_widens_0 : decode cX10_widens 0 = .ok (.aload_n 0, 1) := dk_42 (dk_at dksX10_widens_0 0 rfl rfl)
theorem dX10_widens_1 : decode cX10_widens 1 = .ok (.iload_n 1, 1) := dk_27 (dk_at dksX10_widens_0 1 rfl rfl)
theorem dX10_widens_2 : decode cX10_widens 2 = .ok (.iconst 1, 1) := dk_4 (dk_at dksX10_widens_0 2 rfl rfl)
theorem dX10_widens_3 : decode cX10_widens 3 = .ok (.invokevirtual 129, 3) := dk_182 0 129 (dk_at dksX10_widens_0 3 rfl rfl)
theorem dX10_widens_6 : decode cX10_widens 6 = .ok (.istore_n 3, 1) := dk_62 (dk_at dksX10_widens_0 6 rfl rfl)
theorem dX10_widens_7 : decode cX10_widens 7 = .ok (.aload_n 0, 1) := dk_42 (dk_at dksX10_widens_0 7 rfl rfl)
theorem dX10_widens_8 : decode cX10_widens 8 = .ok (.iload_n 1, 1) := dk_27 (dk_at dksX10_widens_0 8 rfl rfl)
theorem dX10_widens_9 : decode cX10_widens 9 = .ok (.iconst 1, 1) := dk_4 (dk_at dksX10_widens_0 9 rfl rfl)
theorem dX10_widens_10 : decode cX10_widens 10 = .ok (.iload_n 2, 1) := dk_28 (dk_at dksX10_widens_0 10 rfl rfl)
theorem dX10_widens_11 : decode cX10_widens 11 = .ok (.i2l, 1) := dk_133 (dk_at dksX10_widens_0 11 rfl rfl)
theorem dX10_widens_12 : decode cX10_widens 12 = .ok (.invokevirtual 143, 3) := dk_182 0 143 (dk_at dksX10_widens_0 12 rfl rfl)
theorem dX10_widens_15 : decode cX10_widens 15 = .ok (.iload_n 3, 1) := dk_29 (dk_at dksX10_widens_0 15 rfl rfl)
theorem dX10_widens_16 : decode cX10_widens 16 = .ok (.ireturn, 1) := dk_172 (dk_at dksX10_widens_0 16 rfl rfl)
abbrev cX10_bounds : ByteArray := prog_28_method_50_code
def yX10_bounds : MethodName := ⟨RX10, "bounds", "(II)I"⟩
def dkwX10_bounds_2 : List UInt8 := [133, 80, 29, 172]
abbrev dktX10_bounds_2 : List UInt8 := dkwX10_bounds_2 ++ []
def dkwX10_bounds_1 : List UInt8 := [182, 0, 189, 164, 0, 6, 16, 253, 172, 42, 27, 182, 0, 189, 62, 42, 180, 0, 60, 16, 8, 27, 96, 28]
abbrev dktX10_bounds_1 : List UInt8 := dkwX10_bounds_1 ++ dktX10_bounds_2
def dkwX10_bounds_0 : List UInt8 := [27, 154, 0, 6, 16, 254, 172, 28, 42, 27, 4, 100, 182, 0, 189, 161, 0, 14, 28, 42, 27, 4, 96]
abbrev dktX10_bounds_0 : List UInt8 := dkwX10_bounds_0 ++ dktX10_bounds_1
theorem dksX10_bounds_0 : cX10_bounds.data.toList.drop 0 = dktX10_bounds_0 := by decide +kernel
theorem dksX10_bounds_1 : cX10_bounds.data.toList.drop 23 = dktX10_bounds_1 := dk_seg dksX10_bounds_0 23 rfl rfl
theorem dksX10_bounds_2 : cX10_bounds.data.toList.drop 47 = dktX10_bounds_2 := dk_seg dksX10_bounds_1 24 rfl rfl
theorem dX10_bounds_0 : decode cX10_bounds 0 = .ok (.iload_n 1, 1) := dk_27 (dk_at dksX10_bounds_0 0 rfl rfl)
theorem dX10_bounds_1 : decode cX10_bounds 1 = .ok (.ifCond .ne 6, 3) := dk_154 0 6 (dk_at dksX10_bounds_0 1 rfl rfl)
theorem dX10_bounds_4 : decode cX10_bounds 4 = .ok (.bipush (-2), 2) := dk_16 254 (dk_at dksX10_bounds_0 4 rfl rfl)
theorem dX10_bounds_6 : decode cX10_bounds 6 = .ok (.ireturn, 1) := dk_172 (dk_at dksX10_bounds_0 6 rfl rfl)
theorem dX10_bounds_7 : decode cX10_bounds 7 = .ok (.iload_n 2, 1) := dk_28 (dk_at dksX10_bounds_0 7 rfl rfl)
theorem dX10_bounds_8 : decode cX10_bounds 8 = .ok (.aload_n 0, 1) := dk_42 (dk_at dksX10_bounds_0 8 rfl rfl)
theorem dX10_bounds_9 : decode cX10_bounds 9 = .ok (.iload_n 1, 1) := dk_27 (dk_at dksX10_bounds_0 9 rfl rfl)
theorem dX10_bounds_10 : decode cX10_bounds 10 = .ok (.iconst 1, 1) := dk_4 (dk_at dksX10_bounds_0 10 rfl rfl)
theorem dX10_bounds_11 : decode cX10_bounds 11 = .ok (.isub, 1) := dk_100 (dk_at dksX10_bounds_0 11 rfl rfl)
theorem dX10_bounds_12 : decode cX10_bounds 12 = .ok (.invokevirtual 189, 3) := dk_182 0 189 (dk_at dksX10_bounds_0 12 rfl rfl)
theorem dX10_bounds_15 : decode cX10_bounds 15 = .ok (.if_icmp .lt 14, 3) := dk_161 0 14 (dk_at dksX10_bounds_0 15 rfl rfl)
theorem dX10_bounds_18 : decode cX10_bounds 18 = .ok (.iload_n 2, 1) := dk_28 (dk_at dksX10_bounds_0 18 rfl rfl)
theorem dX10_bounds_19 : decode cX10_bounds 19 = .ok (.aload_n 0, 1) := dk_42 (dk_at dksX10_bounds_0 19 rfl rfl)
theorem dX10_bounds_20 : decode cX10_bounds 20 = .ok (.iload_n 1, 1) := dk_27 (dk_at dksX10_bounds_0 20 rfl rfl)
theorem dX10_bounds_21 : decode cX10_bounds 21 = .ok (.iconst 1, 1) := dk_4 (dk_at dksX10_bounds_0 21 rfl rfl)
theorem dX10_bounds_22 : decode cX10_bounds 22 = .ok (.iadd, 1) := dk_96 (dk_at dksX10_bounds_0 22 rfl rfl)
theorem dX10_bounds_23 : decode cX10_bounds 23 = .ok (.invokevirtual 189, 3) := dk_182 0 189 (dk_at dksX10_bounds_1 0 rfl rfl)
theorem dX10_bounds_26 : decode cX10_bounds 26 = .ok (.if_icmp .le 6, 3) := dk_164 0 6 (dk_at dksX10_bounds_1 3 rfl rfl)
theorem dX10_bounds_29 : decode cX10_bounds 29 = .ok (.bipush (-3), 2) := dk_16 253 (dk_at dksX10_bounds_1 6 rfl rfl)
theorem dX10_bounds_31 : decode cX10_bounds 31 = .ok (.ireturn, 1) := dk_172 (dk_at dksX10_bounds_1 8 rfl rfl)
theorem dX10_bounds_32 : decode cX10_bounds 32 = .ok (.aload_n 0, 1) := dk_42 (dk_at dksX10_bounds_1 9 rfl rfl)
theorem dX10_bounds_33 : decode cX10_bounds 33 = .ok (.iload_n 1, 1) := dk_27 (dk_at dksX10_bounds_1 10 rfl rfl)
theorem dX10_bounds_34 : decode cX10_bounds 34 = .ok (.invokevirtual 189, 3) := dk_182 0 189 (dk_at dksX10_bounds_1 11 rfl rfl)
theorem dX10_bounds_37 : decode cX10_bounds 37 = .ok (.istore_n 3, 1) := dk_62 (dk_at dksX10_bounds_1 14 rfl rfl)
theorem dX10_bounds_38 : decode cX10_bounds 38 = .ok (.aload_n 0, 1) := dk_42 (dk_at dksX10_bounds_1 15 rfl rfl)
theorem dX10_bounds_39 : decode cX10_bounds 39 = .ok (.getfield 60, 3) := dk_180 0 60 (dk_at dksX10_bounds_1 16 rfl rfl)
theorem dX10_bounds_42 : decode cX10_bounds 42 = .ok (.bipush 8, 2) := dk_16 8 (dk_at dksX10_bounds_1 19 rfl rfl)
theorem dX10_bounds_44 : decode cX10_bounds 44 = .ok (.iload_n 1, 1) := dk_27 (dk_at dksX10_bounds_1 21 rfl rfl)
theorem dX10_bounds_45 : decode cX10_bounds 45 = .ok (.iadd, 1) := dk_96 (dk_at dksX10_bounds_1 22 rfl rfl)
theorem dX10_bounds_46 : decode cX10_bounds 46 = .ok (.iload_n 2, 1) := dk_28 (dk_at dksX10_bounds_1 23 rfl rfl)
theorem dX10_bounds_47 : decode cX10_bounds 47 = .ok (.i2l, 1) := dk_133 (dk_at dksX10_bounds_2 0 rfl rfl)
theorem dX10_bounds_48 : decode cX10_bounds 48 = .ok (.lastore, 1) := dk_80 (dk_at dksX10_bounds_2 1 rfl rfl)
theorem dX10_bounds_49 : decode cX10_bounds 49 = .ok (.iload_n 3, 1) := dk_29 (dk_at dksX10_bounds_2 2 rfl rfl)
theorem dX10_bounds_50 : decode cX10_bounds 50 = .ok (.ireturn, 1) := dk_172 (dk_at dksX10_bounds_2 3 rfl rfl)
abbrev cX10_balances : ByteArray := prog_28_method_51_code
def yX10_balances : MethodName := ⟨RX10, "balances", "()I"⟩
def dkwX10_balances_4 : List UInt8 := [133, 167, 0, 6, 20, 0, 208, 80, 132, 2, 1, 167, 255, 156, 42, 182, 0, 210, 172]
abbrev dktX10_balances_4 : List UInt8 := dkwX10_balances_4 ++ []
def dkwX10_balances_3 : List UInt8 := [180, 0, 60, 16, 8, 28, 96, 4, 96, 27, 42, 5, 182, 0, 118, 162, 0, 13, 42, 27, 5, 182, 0, 129]
abbrev dktX10_balances_3 : List UInt8 := dkwX10_balances_3 ++ dktX10_balances_4
def dkwX10_balances_2 : List UInt8 := [163, 0, 21, 29, 42, 27, 4, 182, 0, 129, 96, 62, 3, 54, 4, 132, 1, 1, 167, 255, 211, 42]
abbrev dktX10_balances_2 : List UInt8 := dkwX10_balances_2 ++ dktX10_balances_3
def dkwX10_balances_1 : List UInt8 := [182, 0, 118, 162, 0, 42, 21, 4, 154, 0, 19, 29, 42, 27, 4, 182, 0, 129, 96, 42, 4, 182, 0, 118]
abbrev dktX10_balances_1 : List UInt8 := dkwX10_balances_1 ++ dktX10_balances_2
def dkwX10_balances_0 : List UInt8 := [3, 60, 3, 61, 28, 4, 96, 42, 3, 182, 0, 118, 162, 0, 95, 3, 62, 4, 54, 4, 27, 42, 5]
abbrev dktX10_balances_0 : List UInt8 := dkwX10_balances_0 ++ dktX10_balances_1
theorem dksX10_balances_0 : cX10_balances.data.toList.drop 0 = dktX10_balances_0 := by decide +kernel
theorem dksX10_balances_1 : cX10_balances.data.toList.drop 23 = dktX10_balances_1 := dk_seg dksX10_balances_0 23 rfl rfl
theorem dksX10_balances_2 : cX10_balances.data.toList.drop 47 = dktX10_balances_2 := dk_seg dksX10_balances_1 24 rfl rfl
theorem dksX10_balances_3 : cX10_balances.data.toList.drop 69 = dktX10_balances_3 := dk_seg dksX10_balances_2 22 rfl rfl
theorem dksX10_balances_4 : cX10_balances.data.toList.drop 93 = dktX10_balances_4 := dk_seg dksX10_balances_3 24 rfl rfl
theorem dX10_balances_0 : decode cX10_balances 0 = .ok (.iconst 0, 1) := dk_3 (dk_at dksX10_balances_0 0 rfl rfl)
theorem dX10_balances_1 : decode cX10_balances 1 = .ok (.istore_n 1, 1) := dk_60 (dk_at dksX10_balances_0 1 rfl rfl)
theorem dX10_balances_2 : decode cX10_balances 2 = .ok (.iconst 0, 1) := dk_3 (dk_at dksX10_balances_0 2 rfl rfl)
theorem dX10_balances_3 : decode cX10_balances 3 = .ok (.istore_n 2, 1) := dk_61 (dk_at dksX10_balances_0 3 rfl rfl)
theorem dX10_balances_4 : decode cX10_balances 4 = .ok (.iload_n 2, 1) := dk_28 (dk_at dksX10_balances_0 4 rfl rfl)
theorem dX10_balances_5 : decode cX10_balances 5 = .ok (.iconst 1, 1) := dk_4 (dk_at dksX10_balances_0 5 rfl rfl)
theorem dX10_balances_6 : decode cX10_balances 6 = .ok (.iadd, 1) := dk_96 (dk_at dksX10_balances_0 6 rfl rfl)
theorem dX10_balances_7 : decode cX10_balances 7 = .ok (.aload_n 0, 1) := dk_42 (dk_at dksX10_balances_0 7 rfl rfl)
theorem dX10_balances_8 : decode cX10_balances 8 = .ok (.iconst 0, 1) := dk_3 (dk_at dksX10_balances_0 8 rfl rfl)
theorem dX10_balances_9 : decode cX10_balances 9 = .ok (.invokevirtual 118, 3) := dk_182 0 118 (dk_at dksX10_balances_0 9 rfl rfl)
theorem dX10_balances_12 : decode cX10_balances 12 = .ok (.if_icmp .ge 95, 3) := dk_162 0 95 (dk_at dksX10_balances_0 12 rfl rfl)
theorem dX10_balances_15 : decode cX10_balances 15 = .ok (.iconst 0, 1) := dk_3 (dk_at dksX10_balances_0 15 rfl rfl)
theorem dX10_balances_16 : decode cX10_balances 16 = .ok (.istore_n 3, 1) := dk_62 (dk_at dksX10_balances_0 16 rfl rfl)
theorem dX10_balances_17 : decode cX10_balances 17 = .ok (.iconst 1, 1) := dk_4 (dk_at dksX10_balances_0 17 rfl rfl)
theorem dX10_balances_18 : decode cX10_balances 18 = .ok (.istore 4, 2) := dk_54 4 (dk_at dksX10_balances_0 18 rfl rfl)
theorem dX10_balances_20 : decode cX10_balances 20 = .ok (.iload_n 1, 1) := dk_27 (dk_at dksX10_balances_0 20 rfl rfl)
theorem dX10_balances_21 : decode cX10_balances 21 = .ok (.aload_n 0, 1) := dk_42 (dk_at dksX10_balances_0 21 rfl rfl)
theorem dX10_balances_22 : decode cX10_balances 22 = .ok (.iconst 2, 1) := dk_5 (dk_at dksX10_balances_0 22 rfl rfl)
theorem dX10_balances_23 : decode cX10_balances 23 = .ok (.invokevirtual 118, 3) := dk_182 0 118 (dk_at dksX10_balances_1 0 rfl rfl)
theorem dX10_balances_26 : decode cX10_balances 26 = .ok (.if_icmp .ge 42, 3) := dk_162 0 42 (dk_at dksX10_balances_1 3 rfl rfl)
theorem dX10_balances_29 : decode cX10_balances 29 = .ok (.iload 4, 2) := dk_21 4 (dk_at dksX10_balances_1 6 rfl rfl)
theorem dX10_balances_31 : decode cX10_balances 31 = .ok (.ifCond .ne 19, 3) := dk_154 0 19 (dk_at dksX10_balances_1 8 rfl rfl)
theorem dX10_balances_34 : decode cX10_balances 34 = .ok (.iload_n 3, 1) := dk_29 (dk_at dksX10_balances_1 11 rfl rfl)
theorem dX10_balances_35 : decode cX10_balances 35 = .ok (.aload_n 0, 1) := dk_42 (dk_at dksX10_balances_1 12 rfl rfl)
theorem dX10_balances_36 : decode cX10_balances 36 = .ok (.iload_n 1, 1) := dk_27 (dk_at dksX10_balances_1 13 rfl rfl)
theorem dX10_balances_37 : decode cX10_balances 37 = .ok (.iconst 1, 1) := dk_4 (dk_at dksX10_balances_1 14 rfl rfl)
theorem dX10_balances_38 : decode cX10_balances 38 = .ok (.invokevirtual 129, 3) := dk_182 0 129 (dk_at dksX10_balances_1 15 rfl rfl)
theorem dX10_balances_41 : decode cX10_balances 41 = .ok (.iadd, 1) := dk_96 (dk_at dksX10_balances_1 18 rfl rfl)
theorem dX10_balances_42 : decode cX10_balances 42 = .ok (.aload_n 0, 1) := dk_42 (dk_at dksX10_balances_1 19 rfl rfl)
theorem dX10_balances_43 : decode cX10_balances 43 = .ok (.iconst 1, 1) := dk_4 (dk_at dksX10_balances_1 20 rfl rfl)
theorem dX10_balances_44 : decode cX10_balances 44 = .ok (.invokevirtual 118, 3) := dk_182 0 118 (dk_at dksX10_balances_1 21 rfl rfl)
theorem dX10_balances_47 : decode cX10_balances 47 = .ok (.if_icmp .gt 21, 3) := dk_163 0 21 (dk_at dksX10_balances_2 0 rfl rfl)
theorem dX10_balances_50 : decode cX10_balances 50 = .ok (.iload_n 3, 1) := dk_29 (dk_at dksX10_balances_2 3 rfl rfl)
theorem dX10_balances_51 : decode cX10_balances 51 = .ok (.aload_n 0, 1) := dk_42 (dk_at dksX10_balances_2 4 rfl rfl)
theorem dX10_balances_52 : decode cX10_balances 52 = .ok (.iload_n 1, 1) := dk_27 (dk_at dksX10_balances_2 5 rfl rfl)
theorem dX10_balances_53 : decode cX10_balances 53 = .ok (.iconst 1, 1) := dk_4 (dk_at dksX10_balances_2 6 rfl rfl)
theorem dX10_balances_54 : decode cX10_balances 54 = .ok (.invokevirtual 129, 3) := dk_182 0 129 (dk_at dksX10_balances_2 7 rfl rfl)
theorem dX10_balances_57 : decode cX10_balances 57 = .ok (.iadd, 1) := dk_96 (dk_at dksX10_balances_2 10 rfl rfl)
theorem dX10_balances_58 : decode cX10_balances 58 = .ok (.istore_n 3, 1) := dk_62 (dk_at dksX10_balances_2 11 rfl rfl)
theorem dX10_balances_59 : decode cX10_balances 59 = .ok (.iconst 0, 1) := dk_3 (dk_at dksX10_balances_2 12 rfl rfl)
theorem dX10_balances_60 : decode cX10_balances 60 = .ok (.istore 4, 2) := dk_54 4 (dk_at dksX10_balances_2 13 rfl rfl)
theorem dX10_balances_62 : decode cX10_balances 62 = .ok (.iinc 1 1, 3) := dk_132 1 1 (dk_at dksX10_balances_2 15 rfl rfl)
theorem dX10_balances_65 : decode cX10_balances 65 = .ok (.goto (-45), 3) := dk_167 255 211 (dk_at dksX10_balances_2 18 rfl rfl)
theorem dX10_balances_68 : decode cX10_balances 68 = .ok (.aload_n 0, 1) := dk_42 (dk_at dksX10_balances_2 21 rfl rfl)
theorem dX10_balances_69 : decode cX10_balances 69 = .ok (.getfield 60, 3) := dk_180 0 60 (dk_at dksX10_balances_3 0 rfl rfl)
theorem dX10_balances_72 : decode cX10_balances 72 = .ok (.bipush 8, 2) := dk_16 8 (dk_at dksX10_balances_3 3 rfl rfl)
theorem dX10_balances_74 : decode cX10_balances 74 = .ok (.iload_n 2, 1) := dk_28 (dk_at dksX10_balances_3 5 rfl rfl)
theorem dX10_balances_75 : decode cX10_balances 75 = .ok (.iadd, 1) := dk_96 (dk_at dksX10_balances_3 6 rfl rfl)
theorem dX10_balances_76 : decode cX10_balances 76 = .ok (.iconst 1, 1) := dk_4 (dk_at dksX10_balances_3 7 rfl rfl)
theorem dX10_balances_77 : decode cX10_balances 77 = .ok (.iadd, 1) := dk_96 (dk_at dksX10_balances_3 8 rfl rfl)
theorem dX10_balances_78 : decode cX10_balances 78 = .ok (.iload_n 1, 1) := dk_27 (dk_at dksX10_balances_3 9 rfl rfl)
theorem dX10_balances_79 : decode cX10_balances 79 = .ok (.aload_n 0, 1) := dk_42 (dk_at dksX10_balances_3 10 rfl rfl)
theorem dX10_balances_80 : decode cX10_balances 80 = .ok (.iconst 2, 1) := dk_5 (dk_at dksX10_balances_3 11 rfl rfl)
theorem dX10_balances_81 : decode cX10_balances 81 = .ok (.invokevirtual 118, 3) := dk_182 0 118 (dk_at dksX10_balances_3 12 rfl rfl)
theorem dX10_balances_84 : decode cX10_balances 84 = .ok (.if_icmp .ge 13, 3) := dk_162 0 13 (dk_at dksX10_balances_3 15 rfl rfl)
theorem dX10_balances_87 : decode cX10_balances 87 = .ok (.aload_n 0, 1) := dk_42 (dk_at dksX10_balances_3 18 rfl rfl)
theorem dX10_balances_88 : decode cX10_balances 88 = .ok (.iload_n 1, 1) := dk_27 (dk_at dksX10_balances_3 19 rfl rfl)
theorem dX10_balances_89 : decode cX10_balances 89 = .ok (.iconst 2, 1) := dk_5 (dk_at dksX10_balances_3 20 rfl rfl)
theorem dX10_balances_90 : decode cX10_balances 90 = .ok (.invokevirtual 129, 3) := dk_182 0 129 (dk_at dksX10_balances_3 21 rfl rfl)
theorem dX10_balances_93 : decode cX10_balances 93 = .ok (.i2l, 1) := dk_133 (dk_at dksX10_balances_4 0 rfl rfl)
theorem dX10_balances_94 : decode cX10_balances 94 = .ok (.goto 6, 3) := dk_167 0 6 (dk_at dksX10_balances_4 1 rfl rfl)
theorem dX10_balances_97 : decode cX10_balances 97 = .ok (.ldc2_w 208, 3) := dk_20 0 208 (dk_at dksX10_balances_4 4 rfl rfl)
theorem dX10_balances_100 : decode cX10_balances 100 = .ok (.lastore, 1) := dk_80 (dk_at dksX10_balances_4 7 rfl rfl)
theorem dX10_balances_101 : decode cX10_balances 101 = .ok (.iinc 2 1, 3) := dk_132 2 1 (dk_at dksX10_balances_4 8 rfl rfl)
theorem dX10_balances_104 : decode cX10_balances 104 = .ok (.goto (-100), 3) := dk_167 255 156 (dk_at dksX10_balances_4 11 rfl rfl)
theorem dX10_balances_107 : decode cX10_balances 107 = .ok (.aload_n 0, 1) := dk_42 (dk_at dksX10_balances_4 14 rfl rfl)
theorem dX10_balances_108 : decode cX10_balances 108 = .ok (.invokevirtual 210, 3) := dk_182 0 210 (dk_at dksX10_balances_4 15 rfl rfl)
theorem dX10_balances_111 : decode cX10_balances 111 = .ok (.ireturn, 1) := dk_172 (dk_at dksX10_balances_4 18 rfl rfl)
abbrev cX10_say : ByteArray := prog_28_method_117_code
def yX10_say : MethodName := ⟨RX10, "say", "(I)I"⟩
def dkwX10_say_4 : List UInt8 := [182, 1, 150, 172]
abbrev dktX10_say_4 : List UInt8 := dkwX10_say_4 ++ []
def dkwX10_say_3 : List UInt8 := [16, 246, 42, 180, 0, 244, 100, 167, 0, 15, 42, 42, 180, 1, 161, 42, 180, 1, 165, 182, 1, 32]
abbrev dktX10_say_3 : List UInt8 := dkwX10_say_3 ++ dktX10_say_4
def dkwX10_say_2 : List UInt8 := [180, 0, 60, 3, 42, 180, 0, 67, 3, 17, 2, 94, 184, 0, 176, 42, 42, 180, 0, 244, 153, 0, 13]
abbrev dktX10_say_2 : List UInt8 := dkwX10_say_2 ++ dktX10_say_3
def dkwX10_say_1 : List UInt8 := [3, 172, 42, 27, 182, 1, 47, 42, 182, 1, 168, 42, 180, 0, 232, 153, 0, 8, 42, 4, 182, 0, 250, 42]
abbrev dktX10_say_1 : List UInt8 := dkwX10_say_1 ++ dktX10_say_2
def dkwX10_say_0 : List UInt8 := [42, 3, 181, 0, 1, 42, 27, 133, 9, 42, 180, 0, 112, 133, 184, 0, 50, 4, 182, 1, 43, 153, 0, 5]
abbrev dktX10_say_0 : List UInt8 := dkwX10_say_0 ++ dktX10_say_1
theorem dksX10_say_0 : cX10_say.data.toList.drop 0 = dktX10_say_0 := by decide +kernel
theorem dksX10_say_1 : cX10_say.data.toList.drop 24 = dktX10_say_1 := dk_seg dksX10_say_0 24 rfl rfl
theorem dksX10_say_2 : cX10_say.data.toList.drop 48 = dktX10_say_2 := dk_seg dksX10_say_1 24 rfl rfl
theorem dksX10_say_3 : cX10_say.data.toList.drop 71 = dktX10_say_3 := dk_seg dksX10_say_2 23 rfl rfl
theorem dksX10_say_4 : cX10_say.data.toList.drop 93 = dktX10_say_4 := dk_seg dksX10_say_3 22 rfl rfl
theorem dX10_say_0 : decode cX10_say 0 = .ok (.aload_n 0, 1) := dk_42 (dk_at dksX10_say_0 0 rfl rfl)
theorem dX10_say_1 : decode cX10_say 1 = .ok (.iconst 0, 1) := dk_3 (dk_at dksX10_say_0 1 rfl rfl)
theorem dX10_say_2 : decode cX10_say 2 = .ok (.putfield 1, 3) := dk_181 0 1 (dk_at dksX10_say_0 2 rfl rfl)
theorem dX10_say_5 : decode cX10_say 5 = .ok (.aload_n 0, 1) := dk_42 (dk_at dksX10_say_0 5 rfl rfl)
theorem dX10_say_6 : decode cX10_say 6 = .ok (.iload_n 1, 1) := dk_27 (dk_at dksX10_say_0 6 rfl rfl)
theorem dX10_say_7 : decode cX10_say 7 = .ok (.i2l, 1) := dk_133 (dk_at dksX10_say_0 7 rfl rfl)
theorem dX10_say_8 : decode cX10_say 8 = .ok (.lconst 0, 1) := dk_9 (dk_at dksX10_say_0 8 rfl rfl)
theorem dX10_say_9 : decode cX10_say 9 = .ok (.aload_n 0, 1) := dk_42 (dk_at dksX10_say_0 9 rfl rfl)
theorem dX10_say_10 : decode cX10_say 10 = .ok (.getfield 112, 3) := dk_180 0 112 (dk_at dksX10_say_0 10 rfl rfl)
theorem dX10_say_13 : decode cX10_say 13 = .ok (.i2l, 1) := dk_133 (dk_at dksX10_say_0 13 rfl rfl)
theorem dX10_say_14 : decode cX10_say 14 = .ok (.invokestatic 50, 3) := dk_184 0 50 (dk_at dksX10_say_0 14 rfl rfl)
theorem dX10_say_17 : decode cX10_say 17 = .ok (.iconst 1, 1) := dk_4 (dk_at dksX10_say_0 17 rfl rfl)
theorem dX10_say_18 : decode cX10_say 18 = .ok (.invokevirtual 299, 3) := dk_182 1 43 (dk_at dksX10_say_0 18 rfl rfl)
theorem dX10_say_21 : decode cX10_say 21 = .ok (.ifCond .eq 5, 3) := dk_153 0 5 (dk_at dksX10_say_0 21 rfl rfl)
theorem dX10_say_24 : decode cX10_say 24 = .ok (.iconst 0, 1) := dk_3 (dk_at dksX10_say_1 0 rfl rfl)
theorem dX10_say_25 : decode cX10_say 25 = .ok (.ireturn, 1) := dk_172 (dk_at dksX10_say_1 1 rfl rfl)
theorem dX10_say_26 : decode cX10_say 26 = .ok (.aload_n 0, 1) := dk_42 (dk_at dksX10_say_1 2 rfl rfl)
theorem dX10_say_27 : decode cX10_say 27 = .ok (.iload_n 1, 1) := dk_27 (dk_at dksX10_say_1 3 rfl rfl)
theorem dX10_say_28 : decode cX10_say 28 = .ok (.invokevirtual 303, 3) := dk_182 1 47 (dk_at dksX10_say_1 4 rfl rfl)
theorem dX10_say_31 : decode cX10_say 31 = .ok (.aload_n 0, 1) := dk_42 (dk_at dksX10_say_1 7 rfl rfl)
theorem dX10_say_32 : decode cX10_say 32 = .ok (.invokevirtual 424, 3) := dk_182 1 168 (dk_at dksX10_say_1 8 rfl rfl)
theorem dX10_say_35 : decode cX10_say 35 = .ok (.aload_n 0, 1) := dk_42 (dk_at dksX10_say_1 11 rfl rfl)
theorem dX10_say_36 : decode cX10_say 36 = .ok (.getfield 232, 3) := dk_180 0 232 (dk_at dksX10_say_1 12 rfl rfl)
theorem dX10_say_39 : decode cX10_say 39 = .ok (.ifCond .eq 8, 3) := dk_153 0 8 (dk_at dksX10_say_1 15 rfl rfl)
theorem dX10_say_42 : decode cX10_say 42 = .ok (.aload_n 0, 1) := dk_42 (dk_at dksX10_say_1 18 rfl rfl)
theorem dX10_say_43 : decode cX10_say 43 = .ok (.iconst 1, 1) := dk_4 (dk_at dksX10_say_1 19 rfl rfl)
theorem dX10_say_44 : decode cX10_say 44 = .ok (.invokevirtual 250, 3) := dk_182 0 250 (dk_at dksX10_say_1 20 rfl rfl)
theorem dX10_say_47 : decode cX10_say 47 = .ok (.aload_n 0, 1) := dk_42 (dk_at dksX10_say_1 23 rfl rfl)
theorem dX10_say_48 : decode cX10_say 48 = .ok (.getfield 60, 3) := dk_180 0 60 (dk_at dksX10_say_2 0 rfl rfl)
theorem dX10_say_51 : decode cX10_say 51 = .ok (.iconst 0, 1) := dk_3 (dk_at dksX10_say_2 3 rfl rfl)
theorem dX10_say_52 : decode cX10_say 52 = .ok (.aload_n 0, 1) := dk_42 (dk_at dksX10_say_2 4 rfl rfl)
theorem dX10_say_53 : decode cX10_say 53 = .ok (.getfield 67, 3) := dk_180 0 67 (dk_at dksX10_say_2 5 rfl rfl)
theorem dX10_say_56 : decode cX10_say 56 = .ok (.iconst 0, 1) := dk_3 (dk_at dksX10_say_2 8 rfl rfl)
theorem dX10_say_57 : decode cX10_say 57 = .ok (.sipush 606, 3) := dk_17 2 94 (dk_at dksX10_say_2 9 rfl rfl)
theorem dX10_say_60 : decode cX10_say 60 = .ok (.invokestatic 176, 3) := dk_184 0 176 (dk_at dksX10_say_2 12 rfl rfl)
theorem dX10_say_63 : decode cX10_say 63 = .ok (.aload_n 0, 1) := dk_42 (dk_at dksX10_say_2 15 rfl rfl)
theorem dX10_say_64 : decode cX10_say 64 = .ok (.aload_n 0, 1) := dk_42 (dk_at dksX10_say_2 16 rfl rfl)
theorem dX10_say_65 : decode cX10_say 65 = .ok (.getfield 244, 3) := dk_180 0 244 (dk_at dksX10_say_2 17 rfl rfl)
theorem dX10_say_68 : decode cX10_say 68 = .ok (.ifCond .eq 13, 3) := dk_153 0 13 (dk_at dksX10_say_2 20 rfl rfl)
theorem dX10_say_71 : decode cX10_say 71 = .ok (.bipush (-10), 2) := dk_16 246 (dk_at dksX10_say_3 0 rfl rfl)
theorem dX10_say_73 : decode cX10_say 73 = .ok (.aload_n 0, 1) := dk_42 (dk_at dksX10_say_3 2 rfl rfl)
theorem dX10_say_74 : decode cX10_say 74 = .ok (.getfield 244, 3) := dk_180 0 244 (dk_at dksX10_say_3 3 rfl rfl)
theorem dX10_say_77 : decode cX10_say 77 = .ok (.isub, 1) := dk_100 (dk_at dksX10_say_3 6 rfl rfl)
theorem dX10_say_78 : decode cX10_say 78 = .ok (.goto 15, 3) := dk_167 0 15 (dk_at dksX10_say_3 7 rfl rfl)
theorem dX10_say_81 : decode cX10_say 81 = .ok (.aload_n 0, 1) := dk_42 (dk_at dksX10_say_3 10 rfl rfl)
theorem dX10_say_82 : decode cX10_say 82 = .ok (.aload_n 0, 1) := dk_42 (dk_at dksX10_say_3 11 rfl rfl)
theorem dX10_say_83 : decode cX10_say 83 = .ok (.getfield 417, 3) := dk_180 1 161 (dk_at dksX10_say_3 12 rfl rfl)
theorem dX10_say_86 : decode cX10_say 86 = .ok (.aload_n 0, 1) := dk_42 (dk_at dksX10_say_3 15 rfl rfl)
theorem dX10_say_87 : decode cX10_say 87 = .ok (.getfield 421, 3) := dk_180 1 165 (dk_at dksX10_say_3 16 rfl rfl)
theorem dX10_say_90 : decode cX10_say 90 = .ok (.invokevirtual 288, 3) := dk_182 1 32 (dk_at dksX10_say_3 19 rfl rfl)
theorem dX10_say_93 : decode cX10_say 93 = .ok (.invokevirtual 406, 3) := dk_182 1 150 (dk_at dksX10_say_4 0 rfl rfl)
theorem dX10_say_96 : decode cX10_say 96 = .ok (.ireturn, 1) := dk_172 (dk_at dksX10_say_4 3 rfl rfl)
abbrev cX10_readsSay : ByteArray := prog_28_method_116_code
def yX10_readsSay : MethodName := ⟨RX10, "readsSay", "()V"⟩
def dkwX10_readsSay_0 : List UInt8 := [42, 42, 182, 1, 29, 181, 1, 161, 42, 7, 182, 1, 16, 42, 42, 182, 1, 29, 181, 1, 165, 177]
abbrev dktX10_readsSay_0 : List UInt8 := dkwX10_readsSay_0 ++ []
theorem dksX10_readsSay_0 : cX10_readsSay.data.toList.drop 0 = dktX10_readsSay_0 := by decide +kernel
theorem dX10_readsSay_0 : decode cX10_readsSay 0 = .ok (.aload_n 0, 1) := dk_42 (dk_at dksX10_readsSay_0 0 rfl rfl)
theorem dX10_readsSay_1 : decode cX10_readsSay 1 = .ok (.aload_n 0, 1) := dk_42 (dk_at dksX10_readsSay_0 1 rfl rfl)
theorem dX10_readsSay_2 : decode cX10_readsSay 2 = .ok (.invokevirtual 285, 3) := dk_182 1 29 (dk_at dksX10_readsSay_0 2 rfl rfl)
theorem dX10_readsSay_5 : decode cX10_readsSay 5 = .ok (.putfield 417, 3) := dk_181 1 161 (dk_at dksX10_readsSay_0 5 rfl rfl)
theorem dX10_readsSay_8 : decode cX10_readsSay 8 = .ok (.aload_n 0, 1) := dk_42 (dk_at dksX10_readsSay_0 8 rfl rfl)
theorem dX10_readsSay_9 : decode cX10_readsSay 9 = .ok (.iconst 4, 1) := dk_7 (dk_at dksX10_readsSay_0 9 rfl rfl)
theorem dX10_readsSay_10 : decode cX10_readsSay 10 = .ok (.invokevirtual 272, 3) := dk_182 1 16 (dk_at dksX10_readsSay_0 10 rfl rfl)
theorem dX10_readsSay_13 : decode cX10_readsSay 13 = .ok (.aload_n 0, 1) := dk_42 (dk_at dksX10_readsSay_0 13 rfl rfl)
theorem dX10_readsSay_14 : decode cX10_readsSay 14 = .ok (.aload_n 0, 1) := dk_42 (dk_at dksX10_readsSay_0 14 rfl rfl)
theorem dX10_readsSay_15 : decode cX10_readsSay 15 = .ok (.invokevirtual 285, 3) := dk_182 1 29 (dk_at dksX10_readsSay_0 15 rfl rfl)
theorem dX10_readsSay_18 : decode cX10_readsSay 18 = .ok (.putfield 421, 3) := dk_181 1 165 (dk_at dksX10_readsSay_0 18 rfl rfl)
theorem dX10_readsSay_21 : decode cX10_readsSay 21 = .ok (.return_, 1) := dk_177 (dk_at dksX10_readsSay_0 21 rfl rfl)
abbrev cX10_unsay : ByteArray := prog_28_method_118_code
def yX10_unsay : MethodName := ⟨RX10, "unsay", "(I)I"⟩
def dkwX10_unsay_1 : List UInt8 := [172]
abbrev dktX10_unsay_1 : List UInt8 := dkwX10_unsay_1 ++ []
def dkwX10_unsay_0 : List UInt8 := [42, 3, 181, 0, 1, 42, 27, 182, 1, 101, 153, 0, 7, 3, 167, 0, 10, 42, 5, 27, 3, 182, 1, 158]
abbrev dktX10_unsay_0 : List UInt8 := dkwX10_unsay_0 ++ dktX10_unsay_1
theorem dksX10_unsay_0 : cX10_unsay.data.toList.drop 0 = dktX10_unsay_0 := by decide +kernel
theorem dksX10_unsay_1 : cX10_unsay.data.toList.drop 24 = dktX10_unsay_1 := dk_seg dksX10_unsay_0 24 rfl rfl
theorem dX10_unsay_0 : decode cX10_unsay 0 = .ok (.aload_n 0, 1) := dk_42 (dk_at dksX10_unsay_0 0 rfl rfl)
theorem dX10_unsay_1 : decode cX10_unsay 1 = .ok (.iconst 0, 1) := dk_3 (dk_at dksX10_unsay_0 1 rfl rfl)
theorem dX10_unsay_2 : decode cX10_unsay 2 = .ok (.putfield 1, 3) := dk_181 0 1 (dk_at dksX10_unsay_0 2 rfl rfl)
theorem dX10_unsay_5 : decode cX10_unsay 5 = .ok (.aload_n 0, 1) := dk_42 (dk_at dksX10_unsay_0 5 rfl rfl)
theorem dX10_unsay_6 : decode cX10_unsay 6 = .ok (.iload_n 1, 1) := dk_27 (dk_at dksX10_unsay_0 6 rfl rfl)
theorem dX10_unsay_7 : decode cX10_unsay 7 = .ok (.invokevirtual 357, 3) := dk_182 1 101 (dk_at dksX10_unsay_0 7 rfl rfl)
theorem dX10_unsay_10 : decode cX10_unsay 10 = .ok (.ifCond .eq 7, 3) := dk_153 0 7 (dk_at dksX10_unsay_0 10 rfl rfl)
theorem dX10_unsay_13 : decode cX10_unsay 13 = .ok (.iconst 0, 1) := dk_3 (dk_at dksX10_unsay_0 13 rfl rfl)
theorem dX10_unsay_14 : decode cX10_unsay 14 = .ok (.goto 10, 3) := dk_167 0 10 (dk_at dksX10_unsay_0 14 rfl rfl)
theorem dX10_unsay_17 : decode cX10_unsay 17 = .ok (.aload_n 0, 1) := dk_42 (dk_at dksX10_unsay_0 17 rfl rfl)
theorem dX10_unsay_18 : decode cX10_unsay 18 = .ok (.iconst 2, 1) := dk_5 (dk_at dksX10_unsay_0 18 rfl rfl)
theorem dX10_unsay_19 : decode cX10_unsay 19 = .ok (.iload_n 1, 1) := dk_27 (dk_at dksX10_unsay_0 19 rfl rfl)
theorem dX10_unsay_20 : decode cX10_unsay 20 = .ok (.iconst 0, 1) := dk_3 (dk_at dksX10_unsay_0 20 rfl rfl)
theorem dX10_unsay_21 : decode cX10_unsay 21 = .ok (.invokevirtual 414, 3) := dk_182 1 158 (dk_at dksX10_unsay_0 21 rfl rfl)
theorem dX10_unsay_24 : decode cX10_unsay 24 = .ok (.ireturn, 1) := dk_172 (dk_at dksX10_unsay_1 0 rfl rfl)
abbrev cX10_setWidth : ByteArray := prog_28_method_119_code
def yX10_setWidth : MethodName := ⟨RX10, "setWidth", "(II)I"⟩
def dkwX10_setWidth_1 : List UInt8 := [182, 1, 43, 153, 0, 7, 3, 167, 0, 10, 42, 7, 27, 28, 182, 1, 158, 172]
abbrev dktX10_setWidth_1 : List UInt8 := dkwX10_setWidth_1 ++ []
def dkwX10_setWidth_0 : List UInt8 := [42, 3, 181, 0, 1, 42, 27, 182, 1, 82, 154, 0, 20, 42, 28, 133, 10, 20, 1, 153, 184, 0, 50, 5]
abbrev dktX10_setWidth_0 : List UInt8 := dkwX10_setWidth_0 ++ dktX10_setWidth_1
theorem dksX10_setWidth_0 : cX10_setWidth.data.toList.drop 0 = dktX10_setWidth_0 := by decide +kernel
theorem dksX10_setWidth_1 : cX10_setWidth.data.toList.drop 24 = dktX10_setWidth_1 := dk_seg dksX10_setWidth_0 24 rfl rfl
theorem dX10_setWidth_0 : decode cX10_setWidth 0 = .ok (.aload_n 0, 1) := dk_42 (dk_at dksX10_setWidth_0 0 rfl rfl)
theorem dX10_setWidth_1 : decode cX10_setWidth 1 = .ok (.iconst 0, 1) := dk_3 (dk_at dksX10_setWidth_0 1 rfl rfl)
theorem dX10_setWidth_2 : decode cX10_setWidth 2 = .ok (.putfield 1, 3) := dk_181 0 1 (dk_at dksX10_setWidth_0 2 rfl rfl)
theorem dX10_setWidth_5 : decode cX10_setWidth 5 = .ok (.aload_n 0, 1) := dk_42 (dk_at dksX10_setWidth_0 5 rfl rfl)
theorem dX10_setWidth_6 : decode cX10_setWidth 6 = .ok (.iload_n 1, 1) := dk_27 (dk_at dksX10_setWidth_0 6 rfl rfl)
theorem dX10_setWidth_7 : decode cX10_setWidth 7 = .ok (.invokevirtual 338, 3) := dk_182 1 82 (dk_at dksX10_setWidth_0 7 rfl rfl)
theorem dX10_setWidth_10 : decode cX10_setWidth 10 = .ok (.ifCond .ne 20, 3) := dk_154 0 20 (dk_at dksX10_setWidth_0 10 rfl rfl)
theorem dX10_setWidth_13 : decode cX10_setWidth 13 = .ok (.aload_n 0, 1) := dk_42 (dk_at dksX10_setWidth_0 13 rfl rfl)
theorem dX10_setWidth_14 : decode cX10_setWidth 14 = .ok (.iload_n 2, 1) := dk_28 (dk_at dksX10_setWidth_0 14 rfl rfl)
theorem dX10_setWidth_15 : decode cX10_setWidth 15 = .ok (.i2l, 1) := dk_133 (dk_at dksX10_setWidth_0 15 rfl rfl)
theorem dX10_setWidth_16 : decode cX10_setWidth 16 = .ok (.lconst 1, 1) := dk_10 (dk_at dksX10_setWidth_0 16 rfl rfl)
theorem dX10_setWidth_17 : decode cX10_setWidth 17 = .ok (.ldc2_w 409, 3) := dk_20 1 153 (dk_at dksX10_setWidth_0 17 rfl rfl)
theorem dX10_setWidth_20 : decode cX10_setWidth 20 = .ok (.invokestatic 50, 3) := dk_184 0 50 (dk_at dksX10_setWidth_0 20 rfl rfl)
theorem dX10_setWidth_23 : decode cX10_setWidth 23 = .ok (.iconst 2, 1) := dk_5 (dk_at dksX10_setWidth_0 23 rfl rfl)
theorem dX10_setWidth_24 : decode cX10_setWidth 24 = .ok (.invokevirtual 299, 3) := dk_182 1 43 (dk_at dksX10_setWidth_1 0 rfl rfl)
theorem dX10_setWidth_27 : decode cX10_setWidth 27 = .ok (.ifCond .eq 7, 3) := dk_153 0 7 (dk_at dksX10_setWidth_1 3 rfl rfl)
theorem dX10_setWidth_30 : decode cX10_setWidth 30 = .ok (.iconst 0, 1) := dk_3 (dk_at dksX10_setWidth_1 6 rfl rfl)
theorem dX10_setWidth_31 : decode cX10_setWidth 31 = .ok (.goto 10, 3) := dk_167 0 10 (dk_at dksX10_setWidth_1 7 rfl rfl)
theorem dX10_setWidth_34 : decode cX10_setWidth 34 = .ok (.aload_n 0, 1) := dk_42 (dk_at dksX10_setWidth_1 10 rfl rfl)
theorem dX10_setWidth_35 : decode cX10_setWidth 35 = .ok (.iconst 4, 1) := dk_7 (dk_at dksX10_setWidth_1 11 rfl rfl)
theorem dX10_setWidth_36 : decode cX10_setWidth 36 = .ok (.iload_n 1, 1) := dk_27 (dk_at dksX10_setWidth_1 12 rfl rfl)
theorem dX10_setWidth_37 : decode cX10_setWidth 37 = .ok (.iload_n 2, 1) := dk_28 (dk_at dksX10_setWidth_1 13 rfl rfl)
theorem dX10_setWidth_38 : decode cX10_setWidth 38 = .ok (.invokevirtual 414, 3) := dk_182 1 158 (dk_at dksX10_setWidth_1 14 rfl rfl)
theorem dX10_setWidth_41 : decode cX10_setWidth 41 = .ok (.ireturn, 1) := dk_172 (dk_at dksX10_setWidth_1 17 rfl rfl)
abbrev cX10_setBound : ByteArray := prog_28_method_120_code
def yX10_setBound : MethodName := ⟨RX10, "setBound", "(II)I"⟩
def dkwX10_setBound_1 : List UInt8 := [182, 1, 43, 153, 0, 7, 3, 167, 0, 10, 42, 8, 27, 28, 182, 1, 158, 172]
abbrev dktX10_setBound_1 : List UInt8 := dkwX10_setBound_1 ++ []
def dkwX10_setBound_0 : List UInt8 := [42, 3, 181, 0, 1, 42, 27, 182, 1, 104, 154, 0, 20, 42, 28, 133, 9, 20, 0, 208, 184, 0, 50, 5]
abbrev dktX10_setBound_0 : List UInt8 := dkwX10_setBound_0 ++ dktX10_setBound_1
theorem dksX10_setBound_0 : cX10_setBound.data.toList.drop 0 = dktX10_setBound_0 := by decide +kernel
theorem dksX10_setBound_1 : cX10_setBound.data.toList.drop 24 = dktX10_setBound_1 := dk_seg dksX10_setBound_0 24 rfl rfl
theorem dX10_setBound_0 : decode cX10_setBound 0 = .ok (.aload_n 0, 1) := dk_42 (dk_at dksX10_setBound_0 0 rfl rfl)
theorem dX10_setBound_1 : decode cX10_setBound 1 = .ok (.iconst 0, 1) := dk_3 (dk_at dksX10_setBound_0 1 rfl rfl)
theorem dX10_setBound_2 : decode cX10_setBound 2 = .ok (.putfield 1, 3) := dk_181 0 1 (dk_at dksX10_setBound_0 2 rfl rfl)
theorem dX10_setBound_5 : decode cX10_setBound 5 = .ok (.aload_n 0, 1) := dk_42 (dk_at dksX10_setBound_0 5 rfl rfl)
theorem dX10_setBound_6 : decode cX10_setBound 6 = .ok (.iload_n 1, 1) := dk_27 (dk_at dksX10_setBound_0 6 rfl rfl)
theorem dX10_setBound_7 : decode cX10_setBound 7 = .ok (.invokevirtual 360, 3) := dk_182 1 104 (dk_at dksX10_setBound_0 7 rfl rfl)
theorem dX10_setBound_10 : decode cX10_setBound 10 = .ok (.ifCond .ne 20, 3) := dk_154 0 20 (dk_at dksX10_setBound_0 10 rfl rfl)
theorem dX10_setBound_13 : decode cX10_setBound 13 = .ok (.aload_n 0, 1) := dk_42 (dk_at dksX10_setBound_0 13 rfl rfl)
theorem dX10_setBound_14 : decode cX10_setBound 14 = .ok (.iload_n 2, 1) := dk_28 (dk_at dksX10_setBound_0 14 rfl rfl)
theorem dX10_setBound_15 : decode cX10_setBound 15 = .ok (.i2l, 1) := dk_133 (dk_at dksX10_setBound_0 15 rfl rfl)
theorem dX10_setBound_16 : decode cX10_setBound 16 = .ok (.lconst 0, 1) := dk_9 (dk_at dksX10_setBound_0 16 rfl rfl)
theorem dX10_setBound_17 : decode cX10_setBound 17 = .ok (.ldc2_w 208, 3) := dk_20 0 208 (dk_at dksX10_setBound_0 17 rfl rfl)
theorem dX10_setBound_20 : decode cX10_setBound 20 = .ok (.invokestatic 50, 3) := dk_184 0 50 (dk_at dksX10_setBound_0 20 rfl rfl)
theorem dX10_setBound_23 : decode cX10_setBound 23 = .ok (.iconst 2, 1) := dk_5 (dk_at dksX10_setBound_0 23 rfl rfl)
theorem dX10_setBound_24 : decode cX10_setBound 24 = .ok (.invokevirtual 299, 3) := dk_182 1 43 (dk_at dksX10_setBound_1 0 rfl rfl)
theorem dX10_setBound_27 : decode cX10_setBound 27 = .ok (.ifCond .eq 7, 3) := dk_153 0 7 (dk_at dksX10_setBound_1 3 rfl rfl)
theorem dX10_setBound_30 : decode cX10_setBound 30 = .ok (.iconst 0, 1) := dk_3 (dk_at dksX10_setBound_1 6 rfl rfl)
theorem dX10_setBound_31 : decode cX10_setBound 31 = .ok (.goto 10, 3) := dk_167 0 10 (dk_at dksX10_setBound_1 7 rfl rfl)
theorem dX10_setBound_34 : decode cX10_setBound 34 = .ok (.aload_n 0, 1) := dk_42 (dk_at dksX10_setBound_1 10 rfl rfl)
theorem dX10_setBound_35 : decode cX10_setBound 35 = .ok (.iconst 5, 1) := dk_8 (dk_at dksX10_setBound_1 11 rfl rfl)
theorem dX10_setBound_36 : decode cX10_setBound 36 = .ok (.iload_n 1, 1) := dk_27 (dk_at dksX10_setBound_1 12 rfl rfl)
theorem dX10_setBound_37 : decode cX10_setBound 37 = .ok (.iload_n 2, 1) := dk_28 (dk_at dksX10_setBound_1 13 rfl rfl)
theorem dX10_setBound_38 : decode cX10_setBound 38 = .ok (.invokevirtual 414, 3) := dk_182 1 158 (dk_at dksX10_setBound_1 14 rfl rfl)
theorem dX10_setBound_41 : decode cX10_setBound 41 = .ok (.ireturn, 1) := dk_172 (dk_at dksX10_setBound_1 17 rfl rfl)
abbrev cX10_balance : ByteArray := prog_28_method_121_code
def yX10_balance : MethodName := ⟨RX10, "balance", "()I"⟩
def dkwX10_balance_0 : List UInt8 := [42, 3, 181, 0, 1, 42, 16, 6, 3, 3, 182, 1, 158, 172]
abbrev dktX10_balance_0 : List UInt8 := dkwX10_balance_0 ++ []
theorem dksX10_balance_0 : cX10_balance.data.toList.drop 0 = dktX10_balance_0 := by decide +kernel
theorem dX10_balance_0 : decode cX10_balance 0 = .ok (.aload_n 0, 1) := dk_42 (dk_at dksX10_balance_0 0 rfl rfl)
theorem dX10_balance_1 : decode cX10_balance 1 = .ok (.iconst 0, 1) := dk_3 (dk_at dksX10_balance_0 1 rfl rfl)
theorem dX10_balance_2 : decode cX10_balance 2 = .ok (.putfield 1, 3) := dk_181 0 1 (dk_at dksX10_balance_0 2 rfl rfl)
theorem dX10_balance_5 : decode cX10_balance 5 = .ok (.aload_n 0, 1) := dk_42 (dk_at dksX10_balance_0 5 rfl rfl)
theorem dX10_balance_6 : decode cX10_balance 6 = .ok (.bipush 6, 2) := dk_16 6 (dk_at dksX10_balance_0 6 rfl rfl)
theorem dX10_balance_8 : decode cX10_balance 8 = .ok (.iconst 0, 1) := dk_3 (dk_at dksX10_balance_0 8 rfl rfl)
theorem dX10_balance_9 : decode cX10_balance 9 = .ok (.iconst 0, 1) := dk_3 (dk_at dksX10_balance_0 9 rfl rfl)
theorem dX10_balance_10 : decode cX10_balance 10 = .ok (.invokevirtual 414, 3) := dk_182 1 158 (dk_at dksX10_balance_0 10 rfl rfl)
theorem dX10_balance_13 : decode cX10_balance 13 = .ok (.ireturn, 1) := dk_172 (dk_at dksX10_balance_0 13 rfl rfl)
abbrev cX10_respace : ByteArray := prog_28_method_122_code
def yX10_respace : MethodName := ⟨RX10, "respace", "()I"⟩
def dkwX10_respace_0 : List UInt8 := [42, 3, 181, 0, 1, 42, 16, 7, 3, 3, 182, 1, 158, 172]
abbrev dktX10_respace_0 : List UInt8 := dkwX10_respace_0 ++ []
theorem dksX10_respace_0 : cX10_respace.data.toList.drop 0 = dktX10_respace_0 := by decide +kernel
theorem dX10_respace_0 : decode cX10_respace 0 = .ok (.aload_n 0, 1) := dk_42 (dk_at dksX10_respace_0 0 rfl rfl)
theorem dX10_respace_1 : decode cX10_respace 1 = .ok (.iconst 0, 1) := dk_3 (dk_at dksX10_respace_0 1 rfl rfl)
theorem dX10_respace_2 : decode cX10_respace 2 = .ok (.putfield 1, 3) := dk_181 0 1 (dk_at dksX10_respace_0 2 rfl rfl)
theorem dX10_respace_5 : decode cX10_respace 5 = .ok (.aload_n 0, 1) := dk_42 (dk_at dksX10_respace_0 5 rfl rfl)
theorem dX10_respace_6 : decode cX10_respace 6 = .ok (.bipush 7, 2) := dk_16 7 (dk_at dksX10_respace_0 6 rfl rfl)
theorem dX10_respace_8 : decode cX10_respace 8 = .ok (.iconst 0, 1) := dk_3 (dk_at dksX10_respace_0 8 rfl rfl)
theorem dX10_respace_9 : decode cX10_respace 9 = .ok (.iconst 0, 1) := dk_3 (dk_at dksX10_respace_0 9 rfl rfl)
theorem dX10_respace_10 : decode cX10_respace 10 = .ok (.invokevirtual 414, 3) := dk_182 1 158 (dk_at dksX10_respace_0 10 rfl rfl)
theorem dX10_respace_13 : decode cX10_respace 13 = .ok (.ireturn, 1) := dk_172 (dk_at dksX10_respace_0 13 rfl rfl)
abbrev cX10_play : ByteArray := prog_28_method_128_code
def yX10_play : MethodName := ⟨RX10, "play", "(I)I"⟩
def dkwX10_play_5 : List UInt8 := [28, 172]
abbrev dktX10_play_5 : List UInt8 := dkwX10_play_5 ++ []
def dkwX10_play_4 : List UInt8 := [42, 180, 1, 185, 162, 0, 20, 42, 16, 9, 28, 104, 182, 1, 197, 153, 0, 9, 132, 2, 1, 167, 255, 234]
abbrev dktX10_play_4 : List UInt8 := dkwX10_play_4 ++ dktX10_play_5
def dkwX10_play_3 : List UInt8 := [172, 42, 180, 0, 60, 3, 42, 180, 0, 67, 3, 17, 2, 94, 184, 0, 176, 42, 182, 1, 144, 3, 61, 28]
abbrev dktX10_play_3 : List UInt8 := dkwX10_play_3 ++ dktX10_play_4
def dkwX10_play_2 : List UInt8 := [153, 0, 10, 42, 182, 1, 194, 167, 255, 238, 42, 180, 0, 244, 153, 0, 11, 16, 246, 42, 180, 0, 244, 100]
abbrev dktX10_play_2 : List UInt8 := dkwX10_play_2 ++ dktX10_play_3
def dkwX10_play_1 : List UInt8 := [3, 172, 42, 27, 182, 1, 47, 42, 3, 181, 1, 185, 42, 180, 0, 244, 154, 0, 17, 42, 180, 0, 232]
abbrev dktX10_play_1 : List UInt8 := dkwX10_play_1 ++ dktX10_play_2
def dkwX10_play_0 : List UInt8 := [42, 3, 181, 0, 1, 42, 27, 133, 9, 42, 180, 0, 112, 133, 184, 0, 50, 4, 182, 1, 43, 153, 0, 5]
abbrev dktX10_play_0 : List UInt8 := dkwX10_play_0 ++ dktX10_play_1
theorem dksX10_play_0 : cX10_play.data.toList.drop 0 = dktX10_play_0 := by decide +kernel
theorem dksX10_play_1 : cX10_play.data.toList.drop 24 = dktX10_play_1 := dk_seg dksX10_play_0 24 rfl rfl
theorem dksX10_play_2 : cX10_play.data.toList.drop 47 = dktX10_play_2 := dk_seg dksX10_play_1 23 rfl rfl
theorem dksX10_play_3 : cX10_play.data.toList.drop 71 = dktX10_play_3 := dk_seg dksX10_play_2 24 rfl rfl
theorem dksX10_play_4 : cX10_play.data.toList.drop 95 = dktX10_play_4 := dk_seg dksX10_play_3 24 rfl rfl
theorem dksX10_play_5 : cX10_play.data.toList.drop 119 = dktX10_play_5 := dk_seg dksX10_play_4 24 rfl rfl
theorem dX10_play_0 : decode cX10_play 0 = .ok (.aload_n 0, 1) := dk_42 (dk_at dksX10_play_0 0 rfl rfl)
theorem dX10_play_1 : decode cX10_play 1 = .ok (.iconst 0, 1) := dk_3 (dk_at dksX10_play_0 1 rfl rfl)
theorem dX10_play_2 : decode cX10_play 2 = .ok (.putfield 1, 3) := dk_181 0 1 (dk_at dksX10_play_0 2 rfl rfl)
theorem dX10_play_5 : decode cX10_play 5 = .ok (.aload_n 0, 1) := dk_42 (dk_at dksX10_play_0 5 rfl rfl)
theorem dX10_play_6 : decode cX10_play 6 = .ok (.iload_n 1, 1) := dk_27 (dk_at dksX10_play_0 6 rfl rfl)
theorem dX10_play_7 : decode cX10_play 7 = .ok (.i2l, 1) := dk_133 (dk_at dksX10_play_0 7 rfl rfl)
theorem dX10_play_8 : decode cX10_play 8 = .ok (.lconst 0, 1) := dk_9 (dk_at dksX10_play_0 8 rfl rfl)
theorem dX10_play_9 : decode cX10_play 9 = .ok (.aload_n 0, 1) := dk_42 (dk_at dksX10_play_0 9 rfl rfl)
theorem dX10_play_10 : decode cX10_play 10 = .ok (.getfield 112, 3) := dk_180 0 112 (dk_at dksX10_play_0 10 rfl rfl)
theorem dX10_play_13 : decode cX10_play 13 = .ok (.i2l, 1) := dk_133 (dk_at dksX10_play_0 13 rfl rfl)
theorem dX10_play_14 : decode cX10_play 14 = .ok (.invokestatic 50, 3) := dk_184 0 50 (dk_at dksX10_play_0 14 rfl rfl)
theorem dX10_play_17 : decode cX10_play 17 = .ok (.iconst 1, 1) := dk_4 (dk_at dksX10_play_0 17 rfl rfl)
theorem dX10_play_18 : decode cX10_play 18 = .ok (.invokevirtual 299, 3) := dk_182 1 43 (dk_at dksX10_play_0 18 rfl rfl)
theorem dX10_play_21 : decode cX10_play 21 = .ok (.ifCond .eq 5, 3) := dk_153 0 5 (dk_at dksX10_play_0 21 rfl rfl)
theorem dX10_play_24 : decode cX10_play 24 = .ok (.iconst 0, 1) := dk_3 (dk_at dksX10_play_1 0 rfl rfl)
theorem dX10_play_25 : decode cX10_play 25 = .ok (.ireturn, 1) := dk_172 (dk_at dksX10_play_1 1 rfl rfl)
theorem dX10_play_26 : decode cX10_play 26 = .ok (.aload_n 0, 1) := dk_42 (dk_at dksX10_play_1 2 rfl rfl)
theorem dX10_play_27 : decode cX10_play 27 = .ok (.iload_n 1, 1) := dk_27 (dk_at dksX10_play_1 3 rfl rfl)
theorem dX10_play_28 : decode cX10_play 28 = .ok (.invokevirtual 303, 3) := dk_182 1 47 (dk_at dksX10_play_1 4 rfl rfl)
theorem dX10_play_31 : decode cX10_play 31 = .ok (.aload_n 0, 1) := dk_42 (dk_at dksX10_play_1 7 rfl rfl)
theorem dX10_play_32 : decode cX10_play 32 = .ok (.iconst 0, 1) := dk_3 (dk_at dksX10_play_1 8 rfl rfl)
theorem dX10_play_33 : decode cX10_play 33 = .ok (.putfield 441, 3) := dk_181 1 185 (dk_at dksX10_play_1 9 rfl rfl)
theorem dX10_play_36 : decode cX10_play 36 = .ok (.aload_n 0, 1) := dk_42 (dk_at dksX10_play_1 12 rfl rfl)
theorem dX10_play_37 : decode cX10_play 37 = .ok (.getfield 244, 3) := dk_180 0 244 (dk_at dksX10_play_1 13 rfl rfl)
theorem dX10_play_40 : decode cX10_play 40 = .ok (.ifCond .ne 17, 3) := dk_154 0 17 (dk_at dksX10_play_1 16 rfl rfl)
theorem dX10_play_43 : decode cX10_play 43 = .ok (.aload_n 0, 1) := dk_42 (dk_at dksX10_play_1 19 rfl rfl)
theorem dX10_play_44 : decode cX10_play 44 = .ok (.getfield 232, 3) := dk_180 0 232 (dk_at dksX10_play_1 20 rfl rfl)
theorem dX10_play_47 : decode cX10_play 47 = .ok (.ifCond .eq 10, 3) := dk_153 0 10 (dk_at dksX10_play_2 0 rfl rfl)
theorem dX10_play_50 : decode cX10_play 50 = .ok (.aload_n 0, 1) := dk_42 (dk_at dksX10_play_2 3 rfl rfl)
theorem dX10_play_51 : decode cX10_play 51 = .ok (.invokevirtual 450, 3) := dk_182 1 194 (dk_at dksX10_play_2 4 rfl rfl)
theorem dX10_play_54 : decode cX10_play 54 = .ok (.goto (-18), 3) := dk_167 255 238 (dk_at dksX10_play_2 7 rfl rfl)
theorem dX10_play_57 : decode cX10_play 57 = .ok (.aload_n 0, 1) := dk_42 (dk_at dksX10_play_2 10 rfl rfl)
theorem dX10_play_58 : decode cX10_play 58 = .ok (.getfield 244, 3) := dk_180 0 244 (dk_at dksX10_play_2 11 rfl rfl)
theorem dX10_play_61 : decode cX10_play 61 = .ok (.ifCond .eq 11, 3) := dk_153 0 11 (dk_at dksX10_play_2 14 rfl rfl)
theorem dX10_play_64 : decode cX10_play 64 = .ok (.bipush (-10), 2) := dk_16 246 (dk_at dksX10_play_2 17 rfl rfl)
theorem dX10_play_66 : decode cX10_play 66 = .ok (.aload_n 0, 1) := dk_42 (dk_at dksX10_play_2 19 rfl rfl)
theorem dX10_play_67 : decode cX10_play 67 = .ok (.getfield 244, 3) := dk_180 0 244 (dk_at dksX10_play_2 20 rfl rfl)
theorem dX10_play_70 : decode cX10_play 70 = .ok (.isub, 1) := dk_100 (dk_at dksX10_play_2 23 rfl rfl)
theorem dX10_play_71 : decode cX10_play 71 = .ok (.ireturn, 1) := dk_172 (dk_at dksX10_play_3 0 rfl rfl)
theorem dX10_play_72 : decode cX10_play 72 = .ok (.aload_n 0, 1) := dk_42 (dk_at dksX10_play_3 1 rfl rfl)
theorem dX10_play_73 : decode cX10_play 73 = .ok (.getfield 60, 3) := dk_180 0 60 (dk_at dksX10_play_3 2 rfl rfl)
theorem dX10_play_76 : decode cX10_play 76 = .ok (.iconst 0, 1) := dk_3 (dk_at dksX10_play_3 5 rfl rfl)
theorem dX10_play_77 : decode cX10_play 77 = .ok (.aload_n 0, 1) := dk_42 (dk_at dksX10_play_3 6 rfl rfl)
theorem dX10_play_78 : decode cX10_play 78 = .ok (.getfield 67, 3) := dk_180 0 67 (dk_at dksX10_play_3 7 rfl rfl)
theorem dX10_play_81 : decode cX10_play 81 = .ok (.iconst 0, 1) := dk_3 (dk_at dksX10_play_3 10 rfl rfl)
theorem dX10_play_82 : decode cX10_play 82 = .ok (.sipush 606, 3) := dk_17 2 94 (dk_at dksX10_play_3 11 rfl rfl)
theorem dX10_play_85 : decode cX10_play 85 = .ok (.invokestatic 176, 3) := dk_184 0 176 (dk_at dksX10_play_3 14 rfl rfl)
theorem dX10_play_88 : decode cX10_play 88 = .ok (.aload_n 0, 1) := dk_42 (dk_at dksX10_play_3 17 rfl rfl)
theorem dX10_play_89 : decode cX10_play 89 = .ok (.invokevirtual 400, 3) := dk_182 1 144 (dk_at dksX10_play_3 18 rfl rfl)
theorem dX10_play_92 : decode cX10_play 92 = .ok (.iconst 0, 1) := dk_3 (dk_at dksX10_play_3 21 rfl rfl)
theorem dX10_play_93 : decode cX10_play 93 = .ok (.istore_n 2, 1) := dk_61 (dk_at dksX10_play_3 22 rfl rfl)
theorem dX10_play_94 : decode cX10_play 94 = .ok (.iload_n 2, 1) := dk_28 (dk_at dksX10_play_3 23 rfl rfl)
theorem dX10_play_95 : decode cX10_play 95 = .ok (.aload_n 0, 1) := dk_42 (dk_at dksX10_play_4 0 rfl rfl)
theorem dX10_play_96 : decode cX10_play 96 = .ok (.getfield 441, 3) := dk_180 1 185 (dk_at dksX10_play_4 1 rfl rfl)
theorem dX10_play_99 : decode cX10_play 99 = .ok (.if_icmp .ge 20, 3) := dk_162 0 20 (dk_at dksX10_play_4 4 rfl rfl)
theorem dX10_play_102 : decode cX10_play 102 = .ok (.aload_n 0, 1) := dk_42 (dk_at dksX10_play_4 7 rfl rfl)
theorem dX10_play_103 : decode cX10_play 103 = .ok (.bipush 9, 2) := dk_16 9 (dk_at dksX10_play_4 8 rfl rfl)
theorem dX10_play_105 : decode cX10_play 105 = .ok (.iload_n 2, 1) := dk_28 (dk_at dksX10_play_4 10 rfl rfl)
theorem dX10_play_106 : decode cX10_play 106 = .ok (.imul, 1) := dk_104 (dk_at dksX10_play_4 11 rfl rfl)
theorem dX10_play_107 : decode cX10_play 107 = .ok (.invokevirtual 453, 3) := dk_182 1 197 (dk_at dksX10_play_4 12 rfl rfl)
theorem dX10_play_110 : decode cX10_play 110 = .ok (.ifCond .eq 9, 3) := dk_153 0 9 (dk_at dksX10_play_4 15 rfl rfl)
theorem dX10_play_113 : decode cX10_play 113 = .ok (.iinc 2 1, 3) := dk_132 2 1 (dk_at dksX10_play_4 18 rfl rfl)
theorem dX10_play_116 : decode cX10_play 116 = .ok (.goto (-22), 3) := dk_167 255 234 (dk_at dksX10_play_4 21 rfl rfl)
theorem dX10_play_119 : decode cX10_play 119 = .ok (.iload_n 2, 1) := dk_28 (dk_at dksX10_play_5 0 rfl rfl)
theorem dX10_play_120 : decode cX10_play 120 = .ok (.ireturn, 1) := dk_172 (dk_at dksX10_play_5 1 rfl rfl)
abbrev cX10_readsOrder : ByteArray := prog_28_method_125_code
def yX10_readsOrder : MethodName := ⟨RX10, "readsOrder", "()V"⟩
def dkwX10_readsOrder_3 : List UInt8 := [4, 96, 181, 1, 185, 42, 6, 182, 1, 16, 177]
abbrev dktX10_readsOrder_3 : List UInt8 := dkwX10_readsOrder_3 ++ []
def dkwX10_readsOrder_2 : List UInt8 := [180, 1, 185, 104, 27, 133, 80, 42, 16, 9, 42, 180, 1, 185, 104, 27, 182, 1, 188, 42, 89, 180, 1, 185]
abbrev dktX10_readsOrder_2 : List UInt8 := dkwX10_readsOrder_2 ++ dktX10_readsOrder_3
def dkwX10_readsOrder_1 : List UInt8 := [42, 8, 182, 0, 250, 42, 180, 0, 244, 153, 0, 4, 177, 42, 182, 0, 247, 42, 180, 0, 91, 16, 9, 42]
abbrev dktX10_readsOrder_1 : List UInt8 := dkwX10_readsOrder_1 ++ dktX10_readsOrder_2
def dkwX10_readsOrder_0 : List UInt8 := [42, 182, 1, 182, 60, 27, 2, 160, 0, 8, 42, 4, 182, 0, 250, 42, 180, 1, 185, 16, 20, 160, 0, 8]
abbrev dktX10_readsOrder_0 : List UInt8 := dkwX10_readsOrder_0 ++ dktX10_readsOrder_1
theorem dksX10_readsOrder_0 : cX10_readsOrder.data.toList.drop 0 = dktX10_readsOrder_0 := by decide +kernel
theorem dksX10_readsOrder_1 : cX10_readsOrder.data.toList.drop 24 = dktX10_readsOrder_1 := dk_seg dksX10_readsOrder_0 24 rfl rfl
theorem dksX10_readsOrder_2 : cX10_readsOrder.data.toList.drop 48 = dktX10_readsOrder_2 := dk_seg dksX10_readsOrder_1 24 rfl rfl
theorem dksX10_readsOrder_3 : cX10_readsOrder.data.toList.drop 72 = dktX10_readsOrder_3 := dk_seg dksX10_readsOrder_2 24 rfl rfl
theorem dX10_readsOrder_0 : decode cX10_readsOrder 0 = .ok (.aload_n 0, 1) := dk_42 (dk_at dksX10_readsOrder_0 0 rfl rfl)
theorem dX10_readsOrder_1 : decode cX10_readsOrder 1 = .ok (.invokevirtual 438, 3) := dk_182 1 182 (dk_at dksX10_readsOrder_0 1 rfl rfl)
theorem dX10_readsOrder_4 : decode cX10_readsOrder 4 = .ok (.istore_n 1, 1) := dk_60 (dk_at dksX10_readsOrder_0 4 rfl rfl)
theorem dX10_readsOrder_5 : decode cX10_readsOrder 5 = .ok (.iload_n 1, 1) := dk_27 (dk_at dksX10_readsOrder_0 5 rfl rfl)
theorem dX10_readsOrder_6 : decode cX10_readsOrder 6 = .ok (.iconst (-1), 1) := dk_2 (dk_at dksX10_readsOrder_0 6 rfl rfl)
theorem dX10_readsOrder_7 : decode cX10_readsOrder 7 = .ok (.if_icmp .ne 8, 3) := dk_160 0 8 (dk_at dksX10_readsOrder_0 7 rfl rfl)
theorem dX10_readsOrder_10 : decode cX10_readsOrder 10 = .ok (.aload_n 0, 1) := dk_42 (dk_at dksX10_readsOrder_0 10 rfl rfl)
theorem dX10_readsOrder_11 : decode cX10_readsOrder 11 = .ok (.iconst 1, 1) := dk_4 (dk_at dksX10_readsOrder_0 11 rfl rfl)
theorem dX10_readsOrder_12 : decode cX10_readsOrder 12 = .ok (.invokevirtual 250, 3) := dk_182 0 250 (dk_at dksX10_readsOrder_0 12 rfl rfl)
theorem dX10_readsOrder_15 : decode cX10_readsOrder 15 = .ok (.aload_n 0, 1) := dk_42 (dk_at dksX10_readsOrder_0 15 rfl rfl)
theorem dX10_readsOrder_16 : decode cX10_readsOrder 16 = .ok (.getfield 441, 3) := dk_180 1 185 (dk_at dksX10_readsOrder_0 16 rfl rfl)
theorem dX10_readsOrder_19 : decode cX10_readsOrder 19 = .ok (.bipush 20, 2) := dk_16 20 (dk_at dksX10_readsOrder_0 19 rfl rfl)
theorem dX10_readsOrder_21 : decode cX10_readsOrder 21 = .ok (.if_icmp .ne 8, 3) := dk_160 0 8 (dk_at dksX10_readsOrder_0 21 rfl rfl)
theorem dX10_readsOrder_24 : decode cX10_readsOrder 24 = .ok (.aload_n 0, 1) := dk_42 (dk_at dksX10_readsOrder_1 0 rfl rfl)
theorem dX10_readsOrder_25 : decode cX10_readsOrder 25 = .ok (.iconst 5, 1) := dk_8 (dk_at dksX10_readsOrder_1 1 rfl rfl)
theorem dX10_readsOrder_26 : decode cX10_readsOrder 26 = .ok (.invokevirtual 250, 3) := dk_182 0 250 (dk_at dksX10_readsOrder_1 2 rfl rfl)
theorem dX10_readsOrder_29 : decode cX10_readsOrder 29 = .ok (.aload_n 0, 1) := dk_42 (dk_at dksX10_readsOrder_1 5 rfl rfl)
theorem dX10_readsOrder_30 : decode cX10_readsOrder 30 = .ok (.getfield 244, 3) := dk_180 0 244 (dk_at dksX10_readsOrder_1 6 rfl rfl)
theorem dX10_readsOrder_33 : decode cX10_readsOrder 33 = .ok (.ifCond .eq 4, 3) := dk_153 0 4 (dk_at dksX10_readsOrder_1 9 rfl rfl)
theorem dX10_readsOrder_36 : decode cX10_readsOrder 36 = .ok (.return_, 1) := dk_177 (dk_at dksX10_readsOrder_1 12 rfl rfl)
theorem dX10_readsOrder_37 : decode cX10_readsOrder 37 = .ok (.aload_n 0, 1) := dk_42 (dk_at dksX10_readsOrder_1 13 rfl rfl)
theorem dX10_readsOrder_38 : decode cX10_readsOrder 38 = .ok (.invokevirtual 247, 3) := dk_182 0 247 (dk_at dksX10_readsOrder_1 14 rfl rfl)
theorem dX10_readsOrder_41 : decode cX10_readsOrder 41 = .ok (.aload_n 0, 1) := dk_42 (dk_at dksX10_readsOrder_1 17 rfl rfl)
theorem dX10_readsOrder_42 : decode cX10_readsOrder 42 = .ok (.getfield 91, 3) := dk_180 0 91 (dk_at dksX10_readsOrder_1 18 rfl rfl)
theorem dX10_readsOrder_45 : decode cX10_readsOrder 45 = .ok (.bipush 9, 2) := dk_16 9 (dk_at dksX10_readsOrder_1 21 rfl rfl)
theorem dX10_readsOrder_47 : decode cX10_readsOrder 47 = .ok (.aload_n 0, 1) := dk_42 (dk_at dksX10_readsOrder_1 23 rfl rfl)
theorem dX10_readsOrder_48 : decode cX10_readsOrder 48 = .ok (.getfield 441, 3) := dk_180 1 185 (dk_at dksX10_readsOrder_2 0 rfl rfl)
theorem dX10_readsOrder_51 : decode cX10_readsOrder 51 = .ok (.imul, 1) := dk_104 (dk_at dksX10_readsOrder_2 3 rfl rfl)
theorem dX10_readsOrder_52 : decode cX10_readsOrder 52 = .ok (.iload_n 1, 1) := dk_27 (dk_at dksX10_readsOrder_2 4 rfl rfl)
theorem dX10_readsOrder_53 : decode cX10_readsOrder 53 = .ok (.i2l, 1) := dk_133 (dk_at dksX10_readsOrder_2 5 rfl rfl)
theorem dX10_readsOrder_54 : decode cX10_readsOrder 54 = .ok (.lastore, 1) := dk_80 (dk_at dksX10_readsOrder_2 6 rfl rfl)
theorem dX10_readsOrder_55 : decode cX10_readsOrder 55 = .ok (.aload_n 0, 1) := dk_42 (dk_at dksX10_readsOrder_2 7 rfl rfl)
theorem dX10_readsOrder_56 : decode cX10_readsOrder 56 = .ok (.bipush 9, 2) := dk_16 9 (dk_at dksX10_readsOrder_2 8 rfl rfl)
theorem dX10_readsOrder_58 : decode cX10_readsOrder 58 = .ok (.aload_n 0, 1) := dk_42 (dk_at dksX10_readsOrder_2 10 rfl rfl)
theorem dX10_readsOrder_59 : decode cX10_readsOrder 59 = .ok (.getfield 441, 3) := dk_180 1 185 (dk_at dksX10_readsOrder_2 11 rfl rfl)
theorem dX10_readsOrder_62 : decode cX10_readsOrder 62 = .ok (.imul, 1) := dk_104 (dk_at dksX10_readsOrder_2 14 rfl rfl)
theorem dX10_readsOrder_63 : decode cX10_readsOrder 63 = .ok (.iload_n 1, 1) := dk_27 (dk_at dksX10_readsOrder_2 15 rfl rfl)
theorem dX10_readsOrder_64 : decode cX10_readsOrder 64 = .ok (.invokevirtual 444, 3) := dk_182 1 188 (dk_at dksX10_readsOrder_2 16 rfl rfl)
theorem dX10_readsOrder_67 : decode cX10_readsOrder 67 = .ok (.aload_n 0, 1) := dk_42 (dk_at dksX10_readsOrder_2 19 rfl rfl)
theorem dX10_readsOrder_68 : decode cX10_readsOrder 68 = .ok (.dup, 1) := dk_89 (dk_at dksX10_readsOrder_2 20 rfl rfl)
theorem dX10_readsOrder_69 : decode cX10_readsOrder 69 = .ok (.getfield 441, 3) := dk_180 1 185 (dk_at dksX10_readsOrder_2 21 rfl rfl)
theorem dX10_readsOrder_72 : decode cX10_readsOrder 72 = .ok (.iconst 1, 1) := dk_4 (dk_at dksX10_readsOrder_3 0 rfl rfl)
theorem dX10_readsOrder_73 : decode cX10_readsOrder 73 = .ok (.iadd, 1) := dk_96 (dk_at dksX10_readsOrder_3 1 rfl rfl)
theorem dX10_readsOrder_74 : decode cX10_readsOrder 74 = .ok (.putfield 441, 3) := dk_181 1 185 (dk_at dksX10_readsOrder_3 2 rfl rfl)
theorem dX10_readsOrder_77 : decode cX10_readsOrder 77 = .ok (.aload_n 0, 1) := dk_42 (dk_at dksX10_readsOrder_3 5 rfl rfl)
theorem dX10_readsOrder_78 : decode cX10_readsOrder 78 = .ok (.iconst 3, 1) := dk_6 (dk_at dksX10_readsOrder_3 6 rfl rfl)
theorem dX10_readsOrder_79 : decode cX10_readsOrder 79 = .ok (.invokevirtual 272, 3) := dk_182 1 16 (dk_at dksX10_readsOrder_3 7 rfl rfl)
theorem dX10_readsOrder_82 : decode cX10_readsOrder 82 = .ok (.return_, 1) := dk_177 (dk_at dksX10_readsOrder_3 10 rfl rfl)
abbrev cX10_orderHere : ByteArray := prog_28_method_123_code
def yX10_orderHere : MethodName := ⟨RX10, "orderHere", "()I"⟩
def dkwX10_orderHere_4 : List UInt8 := [16, 7, 167, 0, 4, 2, 172]
abbrev dktX10_orderHere_4 : List UInt8 := dkwX10_orderHere_4 ++ []
def dkwX10_orderHere_3 : List UInt8 := [42, 19, 1, 178, 182, 1, 9, 153, 0, 6, 16, 6, 172, 42, 19, 1, 180, 182, 1, 9, 153, 0, 8]
abbrev dktX10_orderHere_3 : List UInt8 := dkwX10_orderHere_3 ++ dktX10_orderHere_4
def dkwX10_orderHere_2 : List UInt8 := [42, 19, 1, 175, 182, 1, 9, 153, 0, 5, 7, 172, 42, 19, 1, 177, 182, 1, 9, 153, 0, 5, 8, 172]
abbrev dktX10_orderHere_2 : List UInt8 := dkwX10_orderHere_2 ++ dktX10_orderHere_3
def dkwX10_orderHere_1 : List UInt8 := [42, 19, 1, 171, 182, 1, 9, 153, 0, 5, 5, 172, 42, 19, 1, 173, 182, 1, 9, 153, 0, 5, 6, 172]
abbrev dktX10_orderHere_1 : List UInt8 := dkwX10_orderHere_1 ++ dktX10_orderHere_2
def dkwX10_orderHere_0 : List UInt8 := [42, 19, 1, 19, 182, 1, 9, 153, 0, 5, 4, 172, 42, 19, 1, 24, 182, 1, 9, 153, 0, 5, 3, 172]
abbrev dktX10_orderHere_0 : List UInt8 := dkwX10_orderHere_0 ++ dktX10_orderHere_1
theorem dksX10_orderHere_0 : cX10_orderHere.data.toList.drop 0 = dktX10_orderHere_0 := by decide +kernel
theorem dksX10_orderHere_1 : cX10_orderHere.data.toList.drop 24 = dktX10_orderHere_1 := dk_seg dksX10_orderHere_0 24 rfl rfl
theorem dksX10_orderHere_2 : cX10_orderHere.data.toList.drop 48 = dktX10_orderHere_2 := dk_seg dksX10_orderHere_1 24 rfl rfl
theorem dksX10_orderHere_3 : cX10_orderHere.data.toList.drop 72 = dktX10_orderHere_3 := dk_seg dksX10_orderHere_2 24 rfl rfl
theorem dksX10_orderHere_4 : cX10_orderHere.data.toList.drop 95 = dktX10_orderHere_4 := dk_seg dksX10_orderHere_3 23 rfl rfl
theorem dX10_orderHere_0 : decode cX10_orderHere 0 = .ok (.aload_n 0, 1) := dk_42 (dk_at dksX10_orderHere_0 0 rfl rfl)
theorem dX10_orderHere_1 : decode cX10_orderHere 1 = .ok (.ldc_w 275, 3) := dk_19 1 19 (dk_at dksX10_orderHere_0 1 rfl rfl)
theorem dX10_orderHere_4 : decode cX10_orderHere 4 = .ok (.invokevirtual 265, 3) := dk_182 1 9 (dk_at dksX10_orderHere_0 4 rfl rfl)
theorem dX10_orderHere_7 : decode cX10_orderHere 7 = .ok (.ifCond .eq 5, 3) := dk_153 0 5 (dk_at dksX10_orderHere_0 7 rfl rfl)
theorem dX10_orderHere_10 : decode cX10_orderHere 10 = .ok (.iconst 1, 1) := dk_4 (dk_at dksX10_orderHere_0 10 rfl rfl)
theorem dX10_orderHere_11 : decode cX10_orderHere 11 = .ok (.ireturn, 1) := dk_172 (dk_at dksX10_orderHere_0 11 rfl rfl)
theorem dX10_orderHere_12 : decode cX10_orderHere 12 = .ok (.aload_n 0, 1) := dk_42 (dk_at dksX10_orderHere_0 12 rfl rfl)
theorem dX10_orderHere_13 : decode cX10_orderHere 13 = .ok (.ldc_w 280, 3) := dk_19 1 24 (dk_at dksX10_orderHere_0 13 rfl rfl)
theorem dX10_orderHere_16 : decode cX10_orderHere 16 = .ok (.invokevirtual 265, 3) := dk_182 1 9 (dk_at dksX10_orderHere_0 16 rfl rfl)
theorem dX10_orderHere_19 : decode cX10_orderHere 19 = .ok (.ifCond .eq 5, 3) := dk_153 0 5 (dk_at dksX10_orderHere_0 19 rfl rfl)
theorem dX10_orderHere_22 : decode cX10_orderHere 22 = .ok (.iconst 0, 1) := dk_3 (dk_at dksX10_orderHere_0 22 rfl rfl)
theorem dX10_orderHere_23 : decode cX10_orderHere 23 = .ok (.ireturn, 1) := dk_172 (dk_at dksX10_orderHere_0 23 rfl rfl)
theorem dX10_orderHere_24 : decode cX10_orderHere 24 = .ok (.aload_n 0, 1) := dk_42 (dk_at dksX10_orderHere_1 0 rfl rfl)
theorem dX10_orderHere_25 : decode cX10_orderHere 25 = .ok (.ldc_w 427, 3) := dk_19 1 171 (dk_at dksX10_orderHere_1 1 rfl rfl)
theorem dX10_orderHere_28 : decode cX10_orderHere 28 = .ok (.invokevirtual 265, 3) := dk_182 1 9 (dk_at dksX10_orderHere_1 4 rfl rfl)
theorem dX10_orderHere_31 : decode cX10_orderHere 31 = .ok (.ifCond .eq 5, 3) := dk_153 0 5 (dk_at dksX10_orderHere_1 7 rfl rfl)
theorem dX10_orderHere_34 : decode cX10_orderHere 34 = .ok (.iconst 2, 1) := dk_5 (dk_at dksX10_orderHere_1 10 rfl rfl)
theorem dX10_orderHere_35 : decode cX10_orderHere 35 = .ok (.ireturn, 1) := dk_172 (dk_at dksX10_orderHere_1 11 rfl rfl)
theorem dX10_orderHere_36 : decode cX10_orderHere 36 = .ok (.aload_n 0, 1) := dk_42 (dk_at dksX10_orderHere_1 12 rfl rfl)
theorem dX10_orderHere_37 : decode cX10_orderHere 37 = .ok (.ldc_w 429, 3) := dk_19 1 173 (dk_at dksX10_orderHere_1 13 rfl rfl)
theorem dX10_orderHere_40 : decode cX10_orderHere 40 = .ok (.invokevirtual 265, 3) := dk_182 1 9 (dk_at dksX10_orderHere_1 16 rfl rfl)
theorem dX10_orderHere_43 : decode cX10_orderHere 43 = .ok (.ifCond .eq 5, 3) := dk_153 0 5 (dk_at dksX10_orderHere_1 19 rfl rfl)
theorem dX10_orderHere_46 : decode cX10_orderHere 46 = .ok (.iconst 3, 1) := dk_6 (dk_at dksX10_orderHere_1 22 rfl rfl)
theorem dX10_orderHere_47 : decode cX10_orderHere 47 = .ok (.ireturn, 1) := dk_172 (dk_at dksX10_orderHere_1 23 rfl rfl)
theorem dX10_orderHere_48 : decode cX10_orderHere 48 = .ok (.aload_n 0, 1) := dk_42 (dk_at dksX10_orderHere_2 0 rfl rfl)
theorem dX10_orderHere_49 : decode cX10_orderHere 49 = .ok (.ldc_w 431, 3) := dk_19 1 175 (dk_at dksX10_orderHere_2 1 rfl rfl)
theorem dX10_orderHere_52 : decode cX10_orderHere 52 = .ok (.invokevirtual 265, 3) := dk_182 1 9 (dk_at dksX10_orderHere_2 4 rfl rfl)
theorem dX10_orderHere_55 : decode cX10_orderHere 55 = .ok (.ifCond .eq 5, 3) := dk_153 0 5 (dk_at dksX10_orderHere_2 7 rfl rfl)
theorem dX10_orderHere_58 : decode cX10_orderHere 58 = .ok (.iconst 4, 1) := dk_7 (dk_at dksX10_orderHere_2 10 rfl rfl)
theorem dX10_orderHere_59 : decode cX10_orderHere 59 = .ok (.ireturn, 1) := dk_172 (dk_at dksX10_orderHere_2 11 rfl rfl)
theorem dX10_orderHere_60 : decode cX10_orderHere 60 = .ok (.aload_n 0, 1) := dk_42 (dk_at dksX10_orderHere_2 12 rfl rfl)
theorem dX10_orderHere_61 : decode cX10_orderHere 61 = .ok (.ldc_w 433, 3) := dk_19 1 177 (dk_at dksX10_orderHere_2 13 rfl rfl)
theorem dX10_orderHere_64 : decode cX10_orderHere 64 = .ok (.invokevirtual 265, 3) := dk_182 1 9 (dk_at dksX10_orderHere_2 16 rfl rfl)
theorem dX10_orderHere_67 : decode cX10_orderHere 67 = .ok (.ifCond .eq 5, 3) := dk_153 0 5 (dk_at dksX10_orderHere_2 19 rfl rfl)
theorem dX10_orderHere_70 : decode cX10_orderHere 70 = .ok (.iconst 5, 1) := dk_8 (dk_at dksX10_orderHere_2 22 rfl rfl)
theorem dX10_orderHere_71 : decode cX10_orderHere 71 = .ok (.ireturn, 1) := dk_172 (dk_at dksX10_orderHere_2 23 rfl rfl)
theorem dX10_orderHere_72 : decode cX10_orderHere 72 = .ok (.aload_n 0, 1) := dk_42 (dk_at dksX10_orderHere_3 0 rfl rfl)
theorem dX10_orderHere_73 : decode cX10_orderHere 73 = .ok (.ldc_w 434, 3) := dk_19 1 178 (dk_at dksX10_orderHere_3 1 rfl rfl)
theorem dX10_orderHere_76 : decode cX10_orderHere 76 = .ok (.invokevirtual 265, 3) := dk_182 1 9 (dk_at dksX10_orderHere_3 4 rfl rfl)
theorem dX10_orderHere_79 : decode cX10_orderHere 79 = .ok (.ifCond .eq 6, 3) := dk_153 0 6 (dk_at dksX10_orderHere_3 7 rfl rfl)
theorem dX10_orderHere_82 : decode cX10_orderHere 82 = .ok (.bipush 6, 2) := dk_16 6 (dk_at dksX10_orderHere_3 10 rfl rfl)
theorem dX10_orderHere_84 : decode cX10_orderHere 84 = .ok (.ireturn, 1) := dk_172 (dk_at dksX10_orderHere_3 12 rfl rfl)
theorem dX10_orderHere_85 : decode cX10_orderHere 85 = .ok (.aload_n 0, 1) := dk_42 (dk_at dksX10_orderHere_3 13 rfl rfl)
theorem dX10_orderHere_86 : decode cX10_orderHere 86 = .ok (.ldc_w 436, 3) := dk_19 1 180 (dk_at dksX10_orderHere_3 14 rfl rfl)
theorem dX10_orderHere_89 : decode cX10_orderHere 89 = .ok (.invokevirtual 265, 3) := dk_182 1 9 (dk_at dksX10_orderHere_3 17 rfl rfl)
theorem dX10_orderHere_92 : decode cX10_orderHere 92 = .ok (.ifCond .eq 8, 3) := dk_153 0 8 (dk_at dksX10_orderHere_3 20 rfl rfl)
theorem dX10_orderHere_95 : decode cX10_orderHere 95 = .ok (.bipush 7, 2) := dk_16 7 (dk_at dksX10_orderHere_4 0 rfl rfl)
theorem dX10_orderHere_97 : decode cX10_orderHere 97 = .ok (.goto 4, 3) := dk_167 0 4 (dk_at dksX10_orderHere_4 2 rfl rfl)
theorem dX10_orderHere_100 : decode cX10_orderHere 100 = .ok (.iconst (-1), 1) := dk_2 (dk_at dksX10_orderHere_4 5 rfl rfl)
theorem dX10_orderHere_101 : decode cX10_orderHere 101 = .ok (.ireturn, 1) := dk_172 (dk_at dksX10_orderHere_4 6 rfl rfl)
abbrev cX10_readsRest : ByteArray := prog_28_method_124_code
def yX10_readsRest : MethodName := ⟨RX10, "readsRest", "(II)V"⟩
def dkwX10_readsRest_11 : List UInt8 := [167, 0, 3, 177]
abbrev dktX10_readsRest_11 : List UInt8 := dkwX10_readsRest_11 ++ []
def dkwX10_readsRest_10 : List UInt8 := [16, 7, 182, 1, 13, 133, 80, 42, 180, 0, 91, 27, 5, 96, 42, 3, 17, 39, 16, 182, 1, 13, 133, 80]
abbrev dktX10_readsRest_10 : List UInt8 := dkwX10_readsRest_10 ++ dktX10_readsRest_11
def dkwX10_readsRest_9 : List UInt8 := [27, 5, 96, 42, 4, 16, 20, 182, 1, 13, 133, 80, 167, 0, 39, 42, 180, 0, 91, 27, 4, 96, 42, 4]
abbrev dktX10_readsRest_9 : List UInt8 := dkwX10_readsRest_9 ++ dktX10_readsRest_10
def dkwX10_readsRest_8 : List UInt8 := [167, 0, 75, 42, 180, 0, 91, 27, 4, 96, 42, 4, 17, 39, 15, 182, 1, 13, 133, 80, 42, 180, 0, 91]
abbrev dktX10_readsRest_8 : List UInt8 := dkwX10_readsRest_8 ++ dktX10_readsRest_9
def dkwX10_readsRest_7 : List UInt8 := [133, 80, 167, 0, 95, 42, 180, 0, 91, 27, 4, 96, 42, 4, 17, 39, 15, 182, 1, 13, 133, 80]
abbrev dktX10_readsRest_7 : List UInt8 := dkwX10_readsRest_7 ++ dktX10_readsRest_8
def dkwX10_readsRest_6 : List UInt8 := [8, 96, 42, 180, 1, 165, 80, 167, 0, 114, 42, 180, 0, 91, 27, 4, 96, 42, 3, 16, 7, 182, 1, 13]
abbrev dktX10_readsRest_6 : List UInt8 := dkwX10_readsRest_6 ++ dktX10_readsRest_7
def dkwX10_readsRest_5 : List UInt8 := [167, 0, 145, 42, 182, 1, 168, 42, 180, 0, 91, 27, 7, 96, 42, 180, 1, 161, 80, 42, 180, 0, 91, 27]
abbrev dktX10_readsRest_5 : List UInt8 := dkwX10_readsRest_5 ++ dktX10_readsRest_6
def dkwX10_readsRest_4 : List UInt8 := [42, 180, 0, 91, 27, 7, 96, 29, 96, 42, 180, 0, 85, 29, 47, 80, 132, 3, 1, 167, 255, 229]
abbrev dktX10_readsRest_4 : List UInt8 := dkwX10_readsRest_4 ++ dktX10_readsRest_5
def dkwX10_readsRest_3 : List UInt8 := [80, 42, 180, 0, 91, 27, 6, 96, 42, 180, 1, 1, 133, 80, 3, 62, 29, 42, 180, 1, 1, 162, 0, 25]
abbrev dktX10_readsRest_3 : List UInt8 := dkwX10_readsRest_3 ++ dktX10_readsRest_4
def dkwX10_readsRest_2 : List UInt8 := [42, 182, 1, 36, 42, 7, 182, 1, 16, 42, 180, 0, 91, 27, 4, 96, 42, 4, 16, 20, 182, 1, 13, 133]
abbrev dktX10_readsRest_2 : List UInt8 := dkwX10_readsRest_2 ++ dktX10_readsRest_3
def dkwX10_readsRest_1 : List UInt8 := [170, 0, 0, 0, 0, 0, 254, 0, 0, 0, 0, 0, 0, 0, 5, 0, 0, 0, 39, 0, 0, 0, 112, 0, 0, 0, 143, 0, 0, 0, 162, 0, 0, 0, 182, 0, 0, 0, 218]
abbrev dktX10_readsRest_1 : List UInt8 := dkwX10_readsRest_1 ++ dktX10_readsRest_2
def dkwX10_readsRest_0 : List UInt8 := [28]
abbrev dktX10_readsRest_0 : List UInt8 := dkwX10_readsRest_0 ++ dktX10_readsRest_1
theorem dksX10_readsRest_0 : cX10_readsRest.data.toList.drop 0 = dktX10_readsRest_0 := by decide +kernel
theorem dksX10_readsRest_1 : cX10_readsRest.data.toList.drop 1 = dktX10_readsRest_1 := dk_seg dksX10_readsRest_0 1 rfl rfl
theorem dksX10_readsRest_2 : cX10_readsRest.data.toList.drop 40 = dktX10_readsRest_2 := dk_seg dksX10_readsRest_1 39 rfl rfl
theorem dksX10_readsRest_3 : cX10_readsRest.data.toList.drop 64 = dktX10_readsRest_3 := dk_seg dksX10_readsRest_2 24 rfl rfl
theorem dksX10_readsRest_4 : cX10_readsRest.data.toList.drop 88 = dktX10_readsRest_4 := dk_seg dksX10_readsRest_3 24 rfl rfl
theorem dksX10_readsRest_5 : cX10_readsRest.data.toList.drop 110 = dktX10_readsRest_5 := dk_seg dksX10_readsRest_4 22 rfl rfl
theorem dksX10_readsRest_6 : cX10_readsRest.data.toList.drop 134 = dktX10_readsRest_6 := dk_seg dksX10_readsRest_5 24 rfl rfl
theorem dksX10_readsRest_7 : cX10_readsRest.data.toList.drop 158 = dktX10_readsRest_7 := dk_seg dksX10_readsRest_6 24 rfl rfl
theorem dksX10_readsRest_8 : cX10_readsRest.data.toList.drop 180 = dktX10_readsRest_8 := dk_seg dksX10_readsRest_7 22 rfl rfl
theorem dksX10_readsRest_9 : cX10_readsRest.data.toList.drop 204 = dktX10_readsRest_9 := dk_seg dksX10_readsRest_8 24 rfl rfl
theorem dksX10_readsRest_10 : cX10_readsRest.data.toList.drop 228 = dktX10_readsRest_10 := dk_seg dksX10_readsRest_9 24 rfl rfl
theorem dksX10_readsRest_11 : cX10_readsRest.data.toList.drop 252 = dktX10_readsRest_11 := dk_seg dksX10_readsRest_10 24 rfl rfl
theorem dX10_readsRest_0 : decode cX10_readsRest 0 = .ok (.iload_n 2, 1) := dk_28 (dk_at dksX10_readsRest_0 0 rfl rfl)
theorem dX10_readsRest_1 : decode cX10_readsRest 1 = .ok (.tableswitch 254 0 5 #[39, 112, 143, 162, 182, 218], 39) := by decide +kernel
theorem dX10_readsRest_40 : decode cX10_readsRest 40 = .ok (.aload_n 0, 1) := dk_42 (dk_at dksX10_readsRest_2 0 rfl rfl)
theorem dX10_readsRest_41 : decode cX10_readsRest 41 = .ok (.invokevirtual 292, 3) := dk_182 1 36 (dk_at dksX10_readsRest_2 1 rfl rfl)
theorem dX10_readsRest_44 : decode cX10_readsRest 44 = .ok (.aload_n 0, 1) := dk_42 (dk_at dksX10_readsRest_2 4 rfl rfl)
theorem dX10_readsRest_45 : decode cX10_readsRest 45 = .ok (.iconst 4, 1) := dk_7 (dk_at dksX10_readsRest_2 5 rfl rfl)
theorem dX10_readsRest_46 : decode cX10_readsRest 46 = .ok (.invokevirtual 272, 3) := dk_182 1 16 (dk_at dksX10_readsRest_2 6 rfl rfl)
theorem dX10_readsRest_49 : decode cX10_readsRest 49 = .ok (.aload_n 0, 1) := dk_42 (dk_at dksX10_readsRest_2 9 rfl rfl)
theorem dX10_readsRest_50 : decode cX10_readsRest 50 = .ok (.getfield 91, 3) := dk_180 0 91 (dk_at dksX10_readsRest_2 10 rfl rfl)
theorem dX10_readsRest_53 : decode cX10_readsRest 53 = .ok (.iload_n 1, 1) := dk_27 (dk_at dksX10_readsRest_2 13 rfl rfl)
theorem dX10_readsRest_54 : decode cX10_readsRest 54 = .ok (.iconst 1, 1) := dk_4 (dk_at dksX10_readsRest_2 14 rfl rfl)
theorem dX10_readsRest_55 : decode cX10_readsRest 55 = .ok (.iadd, 1) := dk_96 (dk_at dksX10_readsRest_2 15 rfl rfl)
theorem dX10_readsRest_56 : decode cX10_readsRest 56 = .ok (.aload_n 0, 1) := dk_42 (dk_at dksX10_readsRest_2 16 rfl rfl)
theorem dX10_readsRest_57 : decode cX10_readsRest 57 = .ok (.iconst 1, 1) := dk_4 (dk_at dksX10_readsRest_2 17 rfl rfl)
theorem dX10_readsRest_58 : decode cX10_readsRest 58 = .ok (.bipush 20, 2) := dk_16 20 (dk_at dksX10_readsRest_2 18 rfl rfl)
theorem dX10_readsRest_60 : decode cX10_readsRest 60 = .ok (.invokevirtual 269, 3) := dk_182 1 13 (dk_at dksX10_readsRest_2 20 rfl rfl)
theorem dX10_readsRest_63 : decode cX10_readsRest 63 = .ok (.i2l, 1) := dk_133 (dk_at dksX10_readsRest_2 23 rfl rfl)
theorem dX10_readsRest_64 : decode cX10_readsRest 64 = .ok (.lastore, 1) := dk_80 (dk_at dksX10_readsRest_3 0 rfl rfl)
theorem dX10_readsRest_65 : decode cX10_readsRest 65 = .ok (.aload_n 0, 1) := dk_42 (dk_at dksX10_readsRest_3 1 rfl rfl)
theorem dX10_readsRest_66 : decode cX10_readsRest 66 = .ok (.getfield 91, 3) := dk_180 0 91 (dk_at dksX10_readsRest_3 2 rfl rfl)
theorem dX10_readsRest_69 : decode cX10_readsRest 69 = .ok (.iload_n 1, 1) := dk_27 (dk_at dksX10_readsRest_3 5 rfl rfl)
theorem dX10_readsRest_70 : decode cX10_readsRest 70 = .ok (.iconst 3, 1) := dk_6 (dk_at dksX10_readsRest_3 6 rfl rfl)
theorem dX10_readsRest_71 : decode cX10_readsRest 71 = .ok (.iadd, 1) := dk_96 (dk_at dksX10_readsRest_3 7 rfl rfl)
theorem dX10_readsRest_72 : decode cX10_readsRest 72 = .ok (.aload_n 0, 1) := dk_42 (dk_at dksX10_readsRest_3 8 rfl rfl)
theorem dX10_readsRest_73 : decode cX10_readsRest 73 = .ok (.getfield 257, 3) := dk_180 1 1 (dk_at dksX10_readsRest_3 9 rfl rfl)
theorem dX10_readsRest_76 : decode cX10_readsRest 76 = .ok (.i2l, 1) := dk_133 (dk_at dksX10_readsRest_3 12 rfl rfl)
theorem dX10_readsRest_77 : decode cX10_readsRest 77 = .ok (.lastore, 1) := dk_80 (dk_at dksX10_readsRest_3 13 rfl rfl)
theorem dX10_readsRest_78 : decode cX10_readsRest 78 = .ok (.iconst 0, 1) := dk_3 (dk_at dksX10_readsRest_3 14 rfl rfl)
theorem dX10_readsRest_79 : decode cX10_readsRest 79 = .ok (.istore_n 3, 1) := dk_62 (dk_at dksX10_readsRest_3 15 rfl rfl)
theorem dX10_readsRest_80 : decode cX10_readsRest 80 = .ok (.iload_n 3, 1) := dk_29 (dk_at dksX10_readsRest_3 16 rfl rfl)
theorem dX10_readsRest_81 : decode cX10_readsRest 81 = .ok (.aload_n 0, 1) := dk_42 (dk_at dksX10_readsRest_3 17 rfl rfl)
theorem dX10_readsRest_82 : decode cX10_readsRest 82 = .ok (.getfield 257, 3) := dk_180 1 1 (dk_at dksX10_readsRest_3 18 rfl rfl)
theorem dX10_readsRest_85 : decode cX10_readsRest 85 = .ok (.if_icmp .ge 25, 3) := dk_162 0 25 (dk_at dksX10_readsRest_3 21 rfl rfl)
theorem dX10_readsRest_88 : decode cX10_readsRest 88 = .ok (.aload_n 0, 1) := dk_42 (dk_at dksX10_readsRest_4 0 rfl rfl)
theorem dX10_readsRest_89 : decode cX10_readsRest 89 = .ok (.getfield 91, 3) := dk_180 0 91 (dk_at dksX10_readsRest_4 1 rfl rfl)
theorem dX10_readsRest_92 : decode cX10_readsRest 92 = .ok (.iload_n 1, 1) := dk_27 (dk_at dksX10_readsRest_4 4 rfl rfl)
theorem dX10_readsRest_93 : decode cX10_readsRest 93 = .ok (.iconst 4, 1) := dk_7 (dk_at dksX10_readsRest_4 5 rfl rfl)
theorem dX10_readsRest_94 : decode cX10_readsRest 94 = .ok (.iadd, 1) := dk_96 (dk_at dksX10_readsRest_4 6 rfl rfl)
theorem dX10_readsRest_95 : decode cX10_readsRest 95 = .ok (.iload_n 3, 1) := dk_29 (dk_at dksX10_readsRest_4 7 rfl rfl)
theorem dX10_readsRest_96 : decode cX10_readsRest 96 = .ok (.iadd, 1) := dk_96 (dk_at dksX10_readsRest_4 8 rfl rfl)
theorem dX10_readsRest_97 : decode cX10_readsRest 97 = .ok (.aload_n 0, 1) := dk_42 (dk_at dksX10_readsRest_4 9 rfl rfl)
theorem dX10_readsRest_98 : decode cX10_readsRest 98 = .ok (.getfield 85, 3) := dk_180 0 85 (dk_at dksX10_readsRest_4 10 rfl rfl)
theorem dX10_readsRest_101 : decode cX10_readsRest 101 = .ok (.iload_n 3, 1) := dk_29 (dk_at dksX10_readsRest_4 13 rfl rfl)
theorem dX10_readsRest_102 : decode cX10_readsRest 102 = .ok (.laload, 1) := dk_47 (dk_at dksX10_readsRest_4 14 rfl rfl)
theorem dX10_readsRest_103 : decode cX10_readsRest 103 = .ok (.lastore, 1) := dk_80 (dk_at dksX10_readsRest_4 15 rfl rfl)
theorem dX10_readsRest_104 : decode cX10_readsRest 104 = .ok (.iinc 3 1, 3) := dk_132 3 1 (dk_at dksX10_readsRest_4 16 rfl rfl)
theorem dX10_readsRest_107 : decode cX10_readsRest 107 = .ok (.goto (-27), 3) := dk_167 255 229 (dk_at dksX10_readsRest_4 19 rfl rfl)
theorem dX10_readsRest_110 : decode cX10_readsRest 110 = .ok (.goto 145, 3) := dk_167 0 145 (dk_at dksX10_readsRest_5 0 rfl rfl)
theorem dX10_readsRest_113 : decode cX10_readsRest 113 = .ok (.aload_n 0, 1) := dk_42 (dk_at dksX10_readsRest_5 3 rfl rfl)
theorem dX10_readsRest_114 : decode cX10_readsRest 114 = .ok (.invokevirtual 424, 3) := dk_182 1 168 (dk_at dksX10_readsRest_5 4 rfl rfl)
theorem dX10_readsRest_117 : decode cX10_readsRest 117 = .ok (.aload_n 0, 1) := dk_42 (dk_at dksX10_readsRest_5 7 rfl rfl)
theorem dX10_readsRest_118 : decode cX10_readsRest 118 = .ok (.getfield 91, 3) := dk_180 0 91 (dk_at dksX10_readsRest_5 8 rfl rfl)
theorem dX10_readsRest_121 : decode cX10_readsRest 121 = .ok (.iload_n 1, 1) := dk_27 (dk_at dksX10_readsRest_5 11 rfl rfl)
theorem dX10_readsRest_122 : decode cX10_readsRest 122 = .ok (.iconst 4, 1) := dk_7 (dk_at dksX10_readsRest_5 12 rfl rfl)
theorem dX10_readsRest_123 : decode cX10_readsRest 123 = .ok (.iadd, 1) := dk_96 (dk_at dksX10_readsRest_5 13 rfl rfl)
theorem dX10_readsRest_124 : decode cX10_readsRest 124 = .ok (.aload_n 0, 1) := dk_42 (dk_at dksX10_readsRest_5 14 rfl rfl)
theorem dX10_readsRest_125 : decode cX10_readsRest 125 = .ok (.getfield 417, 3) := dk_180 1 161 (dk_at dksX10_readsRest_5 15 rfl rfl)
theorem dX10_readsRest_128 : decode cX10_readsRest 128 = .ok (.lastore, 1) := dk_80 (dk_at dksX10_readsRest_5 18 rfl rfl)
theorem dX10_readsRest_129 : decode cX10_readsRest 129 = .ok (.aload_n 0, 1) := dk_42 (dk_at dksX10_readsRest_5 19 rfl rfl)
theorem dX10_readsRest_130 : decode cX10_readsRest 130 = .ok (.getfield 91, 3) := dk_180 0 91 (dk_at dksX10_readsRest_5 20 rfl rfl)
theorem dX10_readsRest_133 : decode cX10_readsRest 133 = .ok (.iload_n 1, 1) := dk_27 (dk_at dksX10_readsRest_5 23 rfl rfl)
theorem dX10_readsRest_134 : decode cX10_readsRest 134 = .ok (.iconst 5, 1) := dk_8 (dk_at dksX10_readsRest_6 0 rfl rfl)
theorem dX10_readsRest_135 : decode cX10_readsRest 135 = .ok (.iadd, 1) := dk_96 (dk_at dksX10_readsRest_6 1 rfl rfl)
theorem dX10_readsRest_136 : decode cX10_readsRest 136 = .ok (.aload_n 0, 1) := dk_42 (dk_at dksX10_readsRest_6 2 rfl rfl)
theorem dX10_readsRest_137 : decode cX10_readsRest 137 = .ok (.getfield 421, 3) := dk_180 1 165 (dk_at dksX10_readsRest_6 3 rfl rfl)
theorem dX10_readsRest_140 : decode cX10_readsRest 140 = .ok (.lastore, 1) := dk_80 (dk_at dksX10_readsRest_6 6 rfl rfl)
theorem dX10_readsRest_141 : decode cX10_readsRest 141 = .ok (.goto 114, 3) := dk_167 0 114 (dk_at dksX10_readsRest_6 7 rfl rfl)
theorem dX10_readsRest_144 : decode cX10_readsRest 144 = .ok (.aload_n 0, 1) := dk_42 (dk_at dksX10_readsRest_6 10 rfl rfl)
theorem dX10_readsRest_145 : decode cX10_readsRest 145 = .ok (.getfield 91, 3) := dk_180 0 91 (dk_at dksX10_readsRest_6 11 rfl rfl)
theorem dX10_readsRest_148 : decode cX10_readsRest 148 = .ok (.iload_n 1, 1) := dk_27 (dk_at dksX10_readsRest_6 14 rfl rfl)
theorem dX10_readsRest_149 : decode cX10_readsRest 149 = .ok (.iconst 1, 1) := dk_4 (dk_at dksX10_readsRest_6 15 rfl rfl)
theorem dX10_readsRest_150 : decode cX10_readsRest 150 = .ok (.iadd, 1) := dk_96 (dk_at dksX10_readsRest_6 16 rfl rfl)
theorem dX10_readsRest_151 : decode cX10_readsRest 151 = .ok (.aload_n 0, 1) := dk_42 (dk_at dksX10_readsRest_6 17 rfl rfl)
theorem dX10_readsRest_152 : decode cX10_readsRest 152 = .ok (.iconst 0, 1) := dk_3 (dk_at dksX10_readsRest_6 18 rfl rfl)
theorem dX10_readsRest_153 : decode cX10_readsRest 153 = .ok (.bipush 7, 2) := dk_16 7 (dk_at dksX10_readsRest_6 19 rfl rfl)
theorem dX10_readsRest_155 : decode cX10_readsRest 155 = .ok (.invokevirtual 269, 3) := dk_182 1 13 (dk_at dksX10_readsRest_6 21 rfl rfl)
theorem dX10_readsRest_158 : decode cX10_readsRest 158 = .ok (.i2l, 1) := dk_133 (dk_at dksX10_readsRest_7 0 rfl rfl)
theorem dX10_readsRest_159 : decode cX10_readsRest 159 = .ok (.lastore, 1) := dk_80 (dk_at dksX10_readsRest_7 1 rfl rfl)
theorem dX10_readsRest_160 : decode cX10_readsRest 160 = .ok (.goto 95, 3) := dk_167 0 95 (dk_at dksX10_readsRest_7 2 rfl rfl)
theorem dX10_readsRest_163 : decode cX10_readsRest 163 = .ok (.aload_n 0, 1) := dk_42 (dk_at dksX10_readsRest_7 5 rfl rfl)
theorem dX10_readsRest_164 : decode cX10_readsRest 164 = .ok (.getfield 91, 3) := dk_180 0 91 (dk_at dksX10_readsRest_7 6 rfl rfl)
theorem dX10_readsRest_167 : decode cX10_readsRest 167 = .ok (.iload_n 1, 1) := dk_27 (dk_at dksX10_readsRest_7 9 rfl rfl)
theorem dX10_readsRest_168 : decode cX10_readsRest 168 = .ok (.iconst 1, 1) := dk_4 (dk_at dksX10_readsRest_7 10 rfl rfl)
theorem dX10_readsRest_169 : decode cX10_readsRest 169 = .ok (.iadd, 1) := dk_96 (dk_at dksX10_readsRest_7 11 rfl rfl)
theorem dX10_readsRest_170 : decode cX10_readsRest 170 = .ok (.aload_n 0, 1) := dk_42 (dk_at dksX10_readsRest_7 12 rfl rfl)
theorem dX10_readsRest_171 : decode cX10_readsRest 171 = .ok (.iconst 1, 1) := dk_4 (dk_at dksX10_readsRest_7 13 rfl rfl)
theorem dX10_readsRest_172 : decode cX10_readsRest 172 = .ok (.sipush 9999, 3) := dk_17 39 15 (dk_at dksX10_readsRest_7 14 rfl rfl)
theorem dX10_readsRest_175 : decode cX10_readsRest 175 = .ok (.invokevirtual 269, 3) := dk_182 1 13 (dk_at dksX10_readsRest_7 17 rfl rfl)
theorem dX10_readsRest_178 : decode cX10_readsRest 178 = .ok (.i2l, 1) := dk_133 (dk_at dksX10_readsRest_7 20 rfl rfl)
theorem dX10_readsRest_179 : decode cX10_readsRest 179 = .ok (.lastore, 1) := dk_80 (dk_at dksX10_readsRest_7 21 rfl rfl)
theorem dX10_readsRest_180 : decode cX10_readsRest 180 = .ok (.goto 75, 3) := dk_167 0 75 (dk_at dksX10_readsRest_8 0 rfl rfl)
theorem dX10_readsRest_183 : decode cX10_readsRest 183 = .ok (.aload_n 0, 1) := dk_42 (dk_at dksX10_readsRest_8 3 rfl rfl)
theorem dX10_readsRest_184 : decode cX10_readsRest 184 = .ok (.getfield 91, 3) := dk_180 0 91 (dk_at dksX10_readsRest_8 4 rfl rfl)
theorem dX10_readsRest_187 : decode cX10_readsRest 187 = .ok (.iload_n 1, 1) := dk_27 (dk_at dksX10_readsRest_8 7 rfl rfl)
theorem dX10_readsRest_188 : decode cX10_readsRest 188 = .ok (.iconst 1, 1) := dk_4 (dk_at dksX10_readsRest_8 8 rfl rfl)
theorem dX10_readsRest_189 : decode cX10_readsRest 189 = .ok (.iadd, 1) := dk_96 (dk_at dksX10_readsRest_8 9 rfl rfl)
theorem dX10_readsRest_190 : decode cX10_readsRest 190 = .ok (.aload_n 0, 1) := dk_42 (dk_at dksX10_readsRest_8 10 rfl rfl)
theorem dX10_readsRest_191 : decode cX10_readsRest 191 = .ok (.iconst 1, 1) := dk_4 (dk_at dksX10_readsRest_8 11 rfl rfl)
theorem dX10_readsRest_192 : decode cX10_readsRest 192 = .ok (.sipush 9999, 3) := dk_17 39 15 (dk_at dksX10_readsRest_8 12 rfl rfl)
theorem dX10_readsRest_195 : decode cX10_readsRest 195 = .ok (.invokevirtual 269, 3) := dk_182 1 13 (dk_at dksX10_readsRest_8 15 rfl rfl)
theorem dX10_readsRest_198 : decode cX10_readsRest 198 = .ok (.i2l, 1) := dk_133 (dk_at dksX10_readsRest_8 18 rfl rfl)
theorem dX10_readsRest_199 : decode cX10_readsRest 199 = .ok (.lastore, 1) := dk_80 (dk_at dksX10_readsRest_8 19 rfl rfl)
theorem dX10_readsRest_200 : decode cX10_readsRest 200 = .ok (.aload_n 0, 1) := dk_42 (dk_at dksX10_readsRest_8 20 rfl rfl)
theorem dX10_readsRest_201 : decode cX10_readsRest 201 = .ok (.getfield 91, 3) := dk_180 0 91 (dk_at dksX10_readsRest_8 21 rfl rfl)
theorem dX10_readsRest_204 : decode cX10_readsRest 204 = .ok (.iload_n 1, 1) := dk_27 (dk_at dksX10_readsRest_9 0 rfl rfl)
theorem dX10_readsRest_205 : decode cX10_readsRest 205 = .ok (.iconst 2, 1) := dk_5 (dk_at dksX10_readsRest_9 1 rfl rfl)
theorem dX10_readsRest_206 : decode cX10_readsRest 206 = .ok (.iadd, 1) := dk_96 (dk_at dksX10_readsRest_9 2 rfl rfl)
theorem dX10_readsRest_207 : decode cX10_readsRest 207 = .ok (.aload_n 0, 1) := dk_42 (dk_at dksX10_readsRest_9 3 rfl rfl)
theorem dX10_readsRest_208 : decode cX10_readsRest 208 = .ok (.iconst 1, 1) := dk_4 (dk_at dksX10_readsRest_9 4 rfl rfl)
theorem dX10_readsRest_209 : decode cX10_readsRest 209 = .ok (.bipush 20, 2) := dk_16 20 (dk_at dksX10_readsRest_9 5 rfl rfl)
theorem dX10_readsRest_211 : decode cX10_readsRest 211 = .ok (.invokevirtual 269, 3) := dk_182 1 13 (dk_at dksX10_readsRest_9 7 rfl rfl)
theorem dX10_readsRest_214 : decode cX10_readsRest 214 = .ok (.i2l, 1) := dk_133 (dk_at dksX10_readsRest_9 10 rfl rfl)
theorem dX10_readsRest_215 : decode cX10_readsRest 215 = .ok (.lastore, 1) := dk_80 (dk_at dksX10_readsRest_9 11 rfl rfl)
theorem dX10_readsRest_216 : decode cX10_readsRest 216 = .ok (.goto 39, 3) := dk_167 0 39 (dk_at dksX10_readsRest_9 12 rfl rfl)
theorem dX10_readsRest_219 : decode cX10_readsRest 219 = .ok (.aload_n 0, 1) := dk_42 (dk_at dksX10_readsRest_9 15 rfl rfl)
theorem dX10_readsRest_220 : decode cX10_readsRest 220 = .ok (.getfield 91, 3) := dk_180 0 91 (dk_at dksX10_readsRest_9 16 rfl rfl)
theorem dX10_readsRest_223 : decode cX10_readsRest 223 = .ok (.iload_n 1, 1) := dk_27 (dk_at dksX10_readsRest_9 19 rfl rfl)
theorem dX10_readsRest_224 : decode cX10_readsRest 224 = .ok (.iconst 1, 1) := dk_4 (dk_at dksX10_readsRest_9 20 rfl rfl)
theorem dX10_readsRest_225 : decode cX10_readsRest 225 = .ok (.iadd, 1) := dk_96 (dk_at dksX10_readsRest_9 21 rfl rfl)
theorem dX10_readsRest_226 : decode cX10_readsRest 226 = .ok (.aload_n 0, 1) := dk_42 (dk_at dksX10_readsRest_9 22 rfl rfl)
theorem dX10_readsRest_227 : decode cX10_readsRest 227 = .ok (.iconst 1, 1) := dk_4 (dk_at dksX10_readsRest_9 23 rfl rfl)
theorem dX10_readsRest_228 : decode cX10_readsRest 228 = .ok (.bipush 7, 2) := dk_16 7 (dk_at dksX10_readsRest_10 0 rfl rfl)
theorem dX10_readsRest_230 : decode cX10_readsRest 230 = .ok (.invokevirtual 269, 3) := dk_182 1 13 (dk_at dksX10_readsRest_10 2 rfl rfl)
theorem dX10_readsRest_233 : decode cX10_readsRest 233 = .ok (.i2l, 1) := dk_133 (dk_at dksX10_readsRest_10 5 rfl rfl)
theorem dX10_readsRest_234 : decode cX10_readsRest 234 = .ok (.lastore, 1) := dk_80 (dk_at dksX10_readsRest_10 6 rfl rfl)
theorem dX10_readsRest_235 : decode cX10_readsRest 235 = .ok (.aload_n 0, 1) := dk_42 (dk_at dksX10_readsRest_10 7 rfl rfl)
theorem dX10_readsRest_236 : decode cX10_readsRest 236 = .ok (.getfield 91, 3) := dk_180 0 91 (dk_at dksX10_readsRest_10 8 rfl rfl)
theorem dX10_readsRest_239 : decode cX10_readsRest 239 = .ok (.iload_n 1, 1) := dk_27 (dk_at dksX10_readsRest_10 11 rfl rfl)
theorem dX10_readsRest_240 : decode cX10_readsRest 240 = .ok (.iconst 2, 1) := dk_5 (dk_at dksX10_readsRest_10 12 rfl rfl)
theorem dX10_readsRest_241 : decode cX10_readsRest 241 = .ok (.iadd, 1) := dk_96 (dk_at dksX10_readsRest_10 13 rfl rfl)
theorem dX10_readsRest_242 : decode cX10_readsRest 242 = .ok (.aload_n 0, 1) := dk_42 (dk_at dksX10_readsRest_10 14 rfl rfl)
theorem dX10_readsRest_243 : decode cX10_readsRest 243 = .ok (.iconst 0, 1) := dk_3 (dk_at dksX10_readsRest_10 15 rfl rfl)
theorem dX10_readsRest_244 : decode cX10_readsRest 244 = .ok (.sipush 10000, 3) := dk_17 39 16 (dk_at dksX10_readsRest_10 16 rfl rfl)
theorem dX10_readsRest_247 : decode cX10_readsRest 247 = .ok (.invokevirtual 269, 3) := dk_182 1 13 (dk_at dksX10_readsRest_10 19 rfl rfl)
theorem dX10_readsRest_250 : decode cX10_readsRest 250 = .ok (.i2l, 1) := dk_133 (dk_at dksX10_readsRest_10 22 rfl rfl)
theorem dX10_readsRest_251 : decode cX10_readsRest 251 = .ok (.lastore, 1) := dk_80 (dk_at dksX10_readsRest_10 23 rfl rfl)
theorem dX10_readsRest_252 : decode cX10_readsRest 252 = .ok (.goto 3, 3) := dk_167 0 3 (dk_at dksX10_readsRest_11 0 rfl rfl)
theorem dX10_readsRest_255 : decode cX10_readsRest 255 = .ok (.return_, 1) := dk_177 (dk_at dksX10_readsRest_11 3 rfl rfl)
abbrev cX10_isDoneNow : ByteArray := prog_28_method_127_code
def yX10_isDoneNow : MethodName := ⟨RX10, "isDoneNow", "(I)Z"⟩
def dkwX10_isDoneNow_1 : List UInt8 := [89, 180, 1, 70, 4, 96, 181, 1, 70, 28, 155, 0, 7, 4, 167, 0, 4, 3, 172]
abbrev dktX10_isDoneNow_1 : List UInt8 := dkwX10_isDoneNow_1 ++ []
def dkwX10_isDoneNow_0 : List UInt8 := [42, 27, 182, 1, 191, 61, 28, 156, 0, 16, 42, 89, 180, 1, 73, 4, 96, 181, 1, 73, 167, 0, 13, 42]
abbrev dktX10_isDoneNow_0 : List UInt8 := dkwX10_isDoneNow_0 ++ dktX10_isDoneNow_1
theorem dksX10_isDoneNow_0 : cX10_isDoneNow.data.toList.drop 0 = dktX10_isDoneNow_0 := by decide +kernel
theorem dksX10_isDoneNow_1 : cX10_isDoneNow.data.toList.drop 24 = dktX10_isDoneNow_1 := dk_seg dksX10_isDoneNow_0 24 rfl rfl
theorem dX10_isDoneNow_0 : decode cX10_isDoneNow 0 = .ok (.aload_n 0, 1) := dk_42 (dk_at dksX10_isDoneNow_0 0 rfl rfl)
theorem dX10_isDoneNow_1 : decode cX10_isDoneNow 1 = .ok (.iload_n 1, 1) := dk_27 (dk_at dksX10_isDoneNow_0 1 rfl rfl)
theorem dX10_isDoneNow_2 : decode cX10_isDoneNow 2 = .ok (.invokevirtual 447, 3) := dk_182 1 191 (dk_at dksX10_isDoneNow_0 2 rfl rfl)
theorem dX10_isDoneNow_5 : decode cX10_isDoneNow 5 = .ok (.istore_n 2, 1) := dk_61 (dk_at dksX10_isDoneNow_0 5 rfl rfl)
theorem dX10_isDoneNow_6 : decode cX10_isDoneNow 6 = .ok (.iload_n 2, 1) := dk_28 (dk_at dksX10_isDoneNow_0 6 rfl rfl)
theorem dX10_isDoneNow_7 : decode cX10_isDoneNow 7 = .ok (.ifCond .ge 16, 3) := dk_156 0 16 (dk_at dksX10_isDoneNow_0 7 rfl rfl)
theorem dX10_isDoneNow_10 : decode cX10_isDoneNow 10 = .ok (.aload_n 0, 1) := dk_42 (dk_at dksX10_isDoneNow_0 10 rfl rfl)
theorem dX10_isDoneNow_11 : decode cX10_isDoneNow 11 = .ok (.dup, 1) := dk_89 (dk_at dksX10_isDoneNow_0 11 rfl rfl)
theorem dX10_isDoneNow_12 : decode cX10_isDoneNow 12 = .ok (.getfield 329, 3) := dk_180 1 73 (dk_at dksX10_isDoneNow_0 12 rfl rfl)
theorem dX10_isDoneNow_15 : decode cX10_isDoneNow 15 = .ok (.iconst 1, 1) := dk_4 (dk_at dksX10_isDoneNow_0 15 rfl rfl)
theorem dX10_isDoneNow_16 : decode cX10_isDoneNow 16 = .ok (.iadd, 1) := dk_96 (dk_at dksX10_isDoneNow_0 16 rfl rfl)
theorem dX10_isDoneNow_17 : decode cX10_isDoneNow 17 = .ok (.putfield 329, 3) := dk_181 1 73 (dk_at dksX10_isDoneNow_0 17 rfl rfl)
theorem dX10_isDoneNow_20 : decode cX10_isDoneNow 20 = .ok (.goto 13, 3) := dk_167 0 13 (dk_at dksX10_isDoneNow_0 20 rfl rfl)
theorem dX10_isDoneNow_23 : decode cX10_isDoneNow 23 = .ok (.aload_n 0, 1) := dk_42 (dk_at dksX10_isDoneNow_0 23 rfl rfl)
theorem dX10_isDoneNow_24 : decode cX10_isDoneNow 24 = .ok (.dup, 1) := dk_89 (dk_at dksX10_isDoneNow_1 0 rfl rfl)
theorem dX10_isDoneNow_25 : decode cX10_isDoneNow 25 = .ok (.getfield 326, 3) := dk_180 1 70 (dk_at dksX10_isDoneNow_1 1 rfl rfl)
theorem dX10_isDoneNow_28 : decode cX10_isDoneNow 28 = .ok (.iconst 1, 1) := dk_4 (dk_at dksX10_isDoneNow_1 4 rfl rfl)
theorem dX10_isDoneNow_29 : decode cX10_isDoneNow 29 = .ok (.iadd, 1) := dk_96 (dk_at dksX10_isDoneNow_1 5 rfl rfl)
theorem dX10_isDoneNow_30 : decode cX10_isDoneNow 30 = .ok (.putfield 326, 3) := dk_181 1 70 (dk_at dksX10_isDoneNow_1 6 rfl rfl)
theorem dX10_isDoneNow_33 : decode cX10_isDoneNow 33 = .ok (.iload_n 2, 1) := dk_28 (dk_at dksX10_isDoneNow_1 9 rfl rfl)
theorem dX10_isDoneNow_34 : decode cX10_isDoneNow 34 = .ok (.ifCond .lt 7, 3) := dk_155 0 7 (dk_at dksX10_isDoneNow_1 10 rfl rfl)
theorem dX10_isDoneNow_37 : decode cX10_isDoneNow 37 = .ok (.iconst 1, 1) := dk_4 (dk_at dksX10_isDoneNow_1 13 rfl rfl)
theorem dX10_isDoneNow_38 : decode cX10_isDoneNow 38 = .ok (.goto 4, 3) := dk_167 0 4 (dk_at dksX10_isDoneNow_1 14 rfl rfl)
theorem dX10_isDoneNow_41 : decode cX10_isDoneNow 41 = .ok (.iconst 0, 1) := dk_3 (dk_at dksX10_isDoneNow_1 17 rfl rfl)
theorem dX10_isDoneNow_42 : decode cX10_isDoneNow 42 = .ok (.ireturn, 1) := dk_172 (dk_at dksX10_isDoneNow_1 18 rfl rfl)
abbrev cX10_doesNow : ByteArray := prog_28_method_126_code
def yX10_doesNow : MethodName := ⟨RX10, "doesNow", "(I)I"⟩
def dkwX10_doesNow_4 : List UInt8 := [172]
abbrev dktX10_doesNow_4 : List UInt8 := dkwX10_doesNow_4 ++ []
def dkwX10_doesNow_3 : List UInt8 := [180, 0, 91, 27, 6, 96, 47, 136, 182, 1, 39, 42, 42, 180, 0, 91, 27, 4, 96, 47, 136, 182, 1, 155]
abbrev dktX10_doesNow_3 : List UInt8 := dkwX10_doesNow_3 ++ dktX10_doesNow_4
def dkwX10_doesNow_2 : List UInt8 := [47, 136, 42, 180, 0, 91, 27, 5, 96, 47, 136, 182, 1, 147, 172, 42, 42, 180, 0, 91, 27, 7, 96, 42]
abbrev dktX10_doesNow_2 : List UInt8 := dkwX10_doesNow_2 ++ dktX10_doesNow_3
def dkwX10_doesNow_1 : List UInt8 := [180, 0, 91, 27, 8, 96, 47, 182, 1, 32, 172, 28, 153, 0, 27, 42, 28, 42, 180, 0, 91, 27, 4, 96]
abbrev dktX10_doesNow_1 : List UInt8 := dkwX10_doesNow_1 ++ dktX10_doesNow_2
def dkwX10_doesNow_0 : List UInt8 := [42, 180, 0, 91, 27, 47, 136, 61, 28, 4, 160, 0, 24, 42, 42, 180, 0, 91, 27, 7, 96, 47, 42]
abbrev dktX10_doesNow_0 : List UInt8 := dkwX10_doesNow_0 ++ dktX10_doesNow_1
theorem dksX10_doesNow_0 : cX10_doesNow.data.toList.drop 0 = dktX10_doesNow_0 := by decide +kernel
theorem dksX10_doesNow_1 : cX10_doesNow.data.toList.drop 23 = dktX10_doesNow_1 := dk_seg dksX10_doesNow_0 23 rfl rfl
theorem dksX10_doesNow_2 : cX10_doesNow.data.toList.drop 47 = dktX10_doesNow_2 := dk_seg dksX10_doesNow_1 24 rfl rfl
theorem dksX10_doesNow_3 : cX10_doesNow.data.toList.drop 71 = dktX10_doesNow_3 := dk_seg dksX10_doesNow_2 24 rfl rfl
theorem dksX10_doesNow_4 : cX10_doesNow.data.toList.drop 95 = dktX10_doesNow_4 := dk_seg dksX10_doesNow_3 24 rfl rfl
theorem dX10_doesNow_0 : decode cX10_doesNow 0 = .ok (.aload_n 0, 1) := dk_42 (dk_at dksX10_doesNow_0 0 rfl rfl)
theorem dX10_doesNow_1 : decode cX10_doesNow 1 = .ok (.getfield 91, 3) := dk_180 0 91 (dk_at dksX10_doesNow_0 1 rfl rfl)
theorem dX10_doesNow_4 : decode cX10_doesNow 4 = .ok (.iload_n 1, 1) := dk_27 (dk_at dksX10_doesNow_0 4 rfl rfl)
theorem dX10_doesNow_5 : decode cX10_doesNow 5 = .ok (.laload, 1) := dk_47 (dk_at dksX10_doesNow_0 5 rfl rfl)
theorem dX10_doesNow_6 : decode cX10_doesNow 6 = .ok (.l2i, 1) := dk_136 (dk_at dksX10_doesNow_0 6 rfl rfl)
theorem dX10_doesNow_7 : decode cX10_doesNow 7 = .ok (.istore_n 2, 1) := dk_61 (dk_at dksX10_doesNow_0 7 rfl rfl)
theorem dX10_doesNow_8 : decode cX10_doesNow 8 = .ok (.iload_n 2, 1) := dk_28 (dk_at dksX10_doesNow_0 8 rfl rfl)
theorem dX10_doesNow_9 : decode cX10_doesNow 9 = .ok (.iconst 1, 1) := dk_4 (dk_at dksX10_doesNow_0 9 rfl rfl)
theorem dX10_doesNow_10 : decode cX10_doesNow 10 = .ok (.if_icmp .ne 24, 3) := dk_160 0 24 (dk_at dksX10_doesNow_0 10 rfl rfl)
theorem dX10_doesNow_13 : decode cX10_doesNow 13 = .ok (.aload_n 0, 1) := dk_42 (dk_at dksX10_doesNow_0 13 rfl rfl)
theorem dX10_doesNow_14 : decode cX10_doesNow 14 = .ok (.aload_n 0, 1) := dk_42 (dk_at dksX10_doesNow_0 14 rfl rfl)
theorem dX10_doesNow_15 : decode cX10_doesNow 15 = .ok (.getfield 91, 3) := dk_180 0 91 (dk_at dksX10_doesNow_0 15 rfl rfl)
theorem dX10_doesNow_18 : decode cX10_doesNow 18 = .ok (.iload_n 1, 1) := dk_27 (dk_at dksX10_doesNow_0 18 rfl rfl)
theorem dX10_doesNow_19 : decode cX10_doesNow 19 = .ok (.iconst 4, 1) := dk_7 (dk_at dksX10_doesNow_0 19 rfl rfl)
theorem dX10_doesNow_20 : decode cX10_doesNow 20 = .ok (.iadd, 1) := dk_96 (dk_at dksX10_doesNow_0 20 rfl rfl)
theorem dX10_doesNow_21 : decode cX10_doesNow 21 = .ok (.laload, 1) := dk_47 (dk_at dksX10_doesNow_0 21 rfl rfl)
theorem dX10_doesNow_22 : decode cX10_doesNow 22 = .ok (.aload_n 0, 1) := dk_42 (dk_at dksX10_doesNow_0 22 rfl rfl)
theorem dX10_doesNow_23 : decode cX10_doesNow 23 = .ok (.getfield 91, 3) := dk_180 0 91 (dk_at dksX10_doesNow_1 0 rfl rfl)
theorem dX10_doesNow_26 : decode cX10_doesNow 26 = .ok (.iload_n 1, 1) := dk_27 (dk_at dksX10_doesNow_1 3 rfl rfl)
theorem dX10_doesNow_27 : decode cX10_doesNow 27 = .ok (.iconst 5, 1) := dk_8 (dk_at dksX10_doesNow_1 4 rfl rfl)
theorem dX10_doesNow_28 : decode cX10_doesNow 28 = .ok (.iadd, 1) := dk_96 (dk_at dksX10_doesNow_1 5 rfl rfl)
theorem dX10_doesNow_29 : decode cX10_doesNow 29 = .ok (.laload, 1) := dk_47 (dk_at dksX10_doesNow_1 6 rfl rfl)
theorem dX10_doesNow_30 : decode cX10_doesNow 30 = .ok (.invokevirtual 288, 3) := dk_182 1 32 (dk_at dksX10_doesNow_1 7 rfl rfl)
theorem dX10_doesNow_33 : decode cX10_doesNow 33 = .ok (.ireturn, 1) := dk_172 (dk_at dksX10_doesNow_1 10 rfl rfl)
theorem dX10_doesNow_34 : decode cX10_doesNow 34 = .ok (.iload_n 2, 1) := dk_28 (dk_at dksX10_doesNow_1 11 rfl rfl)
theorem dX10_doesNow_35 : decode cX10_doesNow 35 = .ok (.ifCond .eq 27, 3) := dk_153 0 27 (dk_at dksX10_doesNow_1 12 rfl rfl)
theorem dX10_doesNow_38 : decode cX10_doesNow 38 = .ok (.aload_n 0, 1) := dk_42 (dk_at dksX10_doesNow_1 15 rfl rfl)
theorem dX10_doesNow_39 : decode cX10_doesNow 39 = .ok (.iload_n 2, 1) := dk_28 (dk_at dksX10_doesNow_1 16 rfl rfl)
theorem dX10_doesNow_40 : decode cX10_doesNow 40 = .ok (.aload_n 0, 1) := dk_42 (dk_at dksX10_doesNow_1 17 rfl rfl)
theorem dX10_doesNow_41 : decode cX10_doesNow 41 = .ok (.getfield 91, 3) := dk_180 0 91 (dk_at dksX10_doesNow_1 18 rfl rfl)
theorem dX10_doesNow_44 : decode cX10_doesNow 44 = .ok (.iload_n 1, 1) := dk_27 (dk_at dksX10_doesNow_1 21 rfl rfl)
theorem dX10_doesNow_45 : decode cX10_doesNow 45 = .ok (.iconst 1, 1) := dk_4 (dk_at dksX10_doesNow_1 22 rfl rfl)
theorem dX10_doesNow_46 : decode cX10_doesNow 46 = .ok (.iadd, 1) := dk_96 (dk_at dksX10_doesNow_1 23 rfl rfl)
theorem dX10_doesNow_47 : decode cX10_doesNow 47 = .ok (.laload, 1) := dk_47 (dk_at dksX10_doesNow_2 0 rfl rfl)
theorem dX10_doesNow_48 : decode cX10_doesNow 48 = .ok (.l2i, 1) := dk_136 (dk_at dksX10_doesNow_2 1 rfl rfl)
theorem dX10_doesNow_49 : decode cX10_doesNow 49 = .ok (.aload_n 0, 1) := dk_42 (dk_at dksX10_doesNow_2 2 rfl rfl)
theorem dX10_doesNow_50 : decode cX10_doesNow 50 = .ok (.getfield 91, 3) := dk_180 0 91 (dk_at dksX10_doesNow_2 3 rfl rfl)
theorem dX10_doesNow_53 : decode cX10_doesNow 53 = .ok (.iload_n 1, 1) := dk_27 (dk_at dksX10_doesNow_2 6 rfl rfl)
theorem dX10_doesNow_54 : decode cX10_doesNow 54 = .ok (.iconst 2, 1) := dk_5 (dk_at dksX10_doesNow_2 7 rfl rfl)
theorem dX10_doesNow_55 : decode cX10_doesNow 55 = .ok (.iadd, 1) := dk_96 (dk_at dksX10_doesNow_2 8 rfl rfl)
theorem dX10_doesNow_56 : decode cX10_doesNow 56 = .ok (.laload, 1) := dk_47 (dk_at dksX10_doesNow_2 9 rfl rfl)
theorem dX10_doesNow_57 : decode cX10_doesNow 57 = .ok (.l2i, 1) := dk_136 (dk_at dksX10_doesNow_2 10 rfl rfl)
theorem dX10_doesNow_58 : decode cX10_doesNow 58 = .ok (.invokevirtual 403, 3) := dk_182 1 147 (dk_at dksX10_doesNow_2 11 rfl rfl)
theorem dX10_doesNow_61 : decode cX10_doesNow 61 = .ok (.ireturn, 1) := dk_172 (dk_at dksX10_doesNow_2 14 rfl rfl)
theorem dX10_doesNow_62 : decode cX10_doesNow 62 = .ok (.aload_n 0, 1) := dk_42 (dk_at dksX10_doesNow_2 15 rfl rfl)
theorem dX10_doesNow_63 : decode cX10_doesNow 63 = .ok (.aload_n 0, 1) := dk_42 (dk_at dksX10_doesNow_2 16 rfl rfl)
theorem dX10_doesNow_64 : decode cX10_doesNow 64 = .ok (.getfield 91, 3) := dk_180 0 91 (dk_at dksX10_doesNow_2 17 rfl rfl)
theorem dX10_doesNow_67 : decode cX10_doesNow 67 = .ok (.iload_n 1, 1) := dk_27 (dk_at dksX10_doesNow_2 20 rfl rfl)
theorem dX10_doesNow_68 : decode cX10_doesNow 68 = .ok (.iconst 4, 1) := dk_7 (dk_at dksX10_doesNow_2 21 rfl rfl)
theorem dX10_doesNow_69 : decode cX10_doesNow 69 = .ok (.iadd, 1) := dk_96 (dk_at dksX10_doesNow_2 22 rfl rfl)
theorem dX10_doesNow_70 : decode cX10_doesNow 70 = .ok (.aload_n 0, 1) := dk_42 (dk_at dksX10_doesNow_2 23 rfl rfl)
theorem dX10_doesNow_71 : decode cX10_doesNow 71 = .ok (.getfield 91, 3) := dk_180 0 91 (dk_at dksX10_doesNow_3 0 rfl rfl)
theorem dX10_doesNow_74 : decode cX10_doesNow 74 = .ok (.iload_n 1, 1) := dk_27 (dk_at dksX10_doesNow_3 3 rfl rfl)
theorem dX10_doesNow_75 : decode cX10_doesNow 75 = .ok (.iconst 3, 1) := dk_6 (dk_at dksX10_doesNow_3 4 rfl rfl)
theorem dX10_doesNow_76 : decode cX10_doesNow 76 = .ok (.iadd, 1) := dk_96 (dk_at dksX10_doesNow_3 5 rfl rfl)
theorem dX10_doesNow_77 : decode cX10_doesNow 77 = .ok (.laload, 1) := dk_47 (dk_at dksX10_doesNow_3 6 rfl rfl)
theorem dX10_doesNow_78 : decode cX10_doesNow 78 = .ok (.l2i, 1) := dk_136 (dk_at dksX10_doesNow_3 7 rfl rfl)
theorem dX10_doesNow_79 : decode cX10_doesNow 79 = .ok (.invokevirtual 295, 3) := dk_182 1 39 (dk_at dksX10_doesNow_3 8 rfl rfl)
theorem dX10_doesNow_82 : decode cX10_doesNow 82 = .ok (.aload_n 0, 1) := dk_42 (dk_at dksX10_doesNow_3 11 rfl rfl)
theorem dX10_doesNow_83 : decode cX10_doesNow 83 = .ok (.aload_n 0, 1) := dk_42 (dk_at dksX10_doesNow_3 12 rfl rfl)
theorem dX10_doesNow_84 : decode cX10_doesNow 84 = .ok (.getfield 91, 3) := dk_180 0 91 (dk_at dksX10_doesNow_3 13 rfl rfl)
theorem dX10_doesNow_87 : decode cX10_doesNow 87 = .ok (.iload_n 1, 1) := dk_27 (dk_at dksX10_doesNow_3 16 rfl rfl)
theorem dX10_doesNow_88 : decode cX10_doesNow 88 = .ok (.iconst 1, 1) := dk_4 (dk_at dksX10_doesNow_3 17 rfl rfl)
theorem dX10_doesNow_89 : decode cX10_doesNow 89 = .ok (.iadd, 1) := dk_96 (dk_at dksX10_doesNow_3 18 rfl rfl)
theorem dX10_doesNow_90 : decode cX10_doesNow 90 = .ok (.laload, 1) := dk_47 (dk_at dksX10_doesNow_3 19 rfl rfl)
theorem dX10_doesNow_91 : decode cX10_doesNow 91 = .ok (.l2i, 1) := dk_136 (dk_at dksX10_doesNow_3 20 rfl rfl)
theorem dX10_doesNow_92 : decode cX10_doesNow 92 = .ok (.invokevirtual 411, 3) := dk_182 1 155 (dk_at dksX10_doesNow_3 21 rfl rfl)
theorem dX10_doesNow_95 : decode cX10_doesNow 95 = .ok (.ireturn, 1) := dk_172 (dk_at dksX10_doesNow_4 0 rfl rfl)
abbrev cX10_format : ByteArray := prog_28_method_131_code
def yX10_format : MethodName := ⟨RX10, "format", "(I)I"⟩
def dkwX10_format_4 : List UInt8 := [182, 1, 206, 132, 3, 1, 167, 255, 188, 42, 180, 1, 200, 172]
abbrev dktX10_format_4 : List UInt8 := dkwX10_format_4 ++ []
def dkwX10_format_3 : List UInt8 := [182, 0, 137, 148, 154, 0, 6, 167, 0, 19, 42, 16, 47, 182, 1, 203, 42, 42, 28, 29, 182, 1, 94]
abbrev dktX10_format_3 : List UInt8 := dkwX10_format_3 ++ dktX10_format_4
def dkwX10_format_2 : List UInt8 := [182, 1, 203, 42, 42, 28, 29, 182, 0, 137, 182, 1, 206, 42, 28, 29, 182, 1, 94, 42, 28, 29]
abbrev dktX10_format_2 : List UInt8 := dkwX10_format_2 ++ dktX10_format_3
def dkwX10_format_1 : List UInt8 := [181, 1, 200, 3, 62, 29, 42, 28, 6, 182, 0, 129, 162, 0, 64, 29, 158, 0, 9, 42, 16, 32]
abbrev dktX10_format_1 : List UInt8 := dkwX10_format_1 ++ dktX10_format_2
def dkwX10_format_0 : List UInt8 := [42, 3, 181, 0, 1, 42, 27, 182, 1, 82, 153, 0, 5, 3, 172, 42, 27, 182, 1, 79, 61, 42, 3]
abbrev dktX10_format_0 : List UInt8 := dkwX10_format_0 ++ dktX10_format_1
theorem dksX10_format_0 : cX10_format.data.toList.drop 0 = dktX10_format_0 := by decide +kernel
theorem dksX10_format_1 : cX10_format.data.toList.drop 23 = dktX10_format_1 := dk_seg dksX10_format_0 23 rfl rfl
theorem dksX10_format_2 : cX10_format.data.toList.drop 45 = dktX10_format_2 := dk_seg dksX10_format_1 22 rfl rfl
theorem dksX10_format_3 : cX10_format.data.toList.drop 67 = dktX10_format_3 := dk_seg dksX10_format_2 22 rfl rfl
theorem dksX10_format_4 : cX10_format.data.toList.drop 90 = dktX10_format_4 := dk_seg dksX10_format_3 23 rfl rfl
theorem dX10_format_0 : decode cX10_format 0 = .ok (.aload_n 0, 1) := dk_42 (dk_at dksX10_format_0 0 rfl rfl)
theorem dX10_format_1 : decode cX10_format 1 = .ok (.iconst 0, 1) := dk_3 (dk_at dksX10_format_0 1 rfl rfl)
theorem dX10_format_2 : decode cX10_format 2 = .ok (.putfield 1, 3) := dk_181 0 1 (dk_at dksX10_format_0 2 rfl rfl)
theorem dX10_format_5 : decode cX10_format 5 = .ok (.aload_n 0, 1) := dk_42 (dk_at dksX10_format_0 5 rfl rfl)
theorem dX10_format_6 : decode cX10_format 6 = .ok (.iload_n 1, 1) := dk_27 (dk_at dksX10_format_0 6 rfl rfl)
theorem dX10_format_7 : decode cX10_format 7 = .ok (.invokevirtual 338, 3) := dk_182 1 82 (dk_at dksX10_format_0 7 rfl rfl)
theorem dX10_format_10 : decode cX10_format 10 = .ok (.ifCond .eq 5, 3) := dk_153 0 5 (dk_at dksX10_format_0 10 rfl rfl)
theorem dX10_format_13 : decode cX10_format 13 = .ok (.iconst 0, 1) := dk_3 (dk_at dksX10_format_0 13 rfl rfl)
theorem dX10_format_14 : decode cX10_format 14 = .ok (.ireturn, 1) := dk_172 (dk_at dksX10_format_0 14 rfl rfl)
theorem dX10_format_15 : decode cX10_format 15 = .ok (.aload_n 0, 1) := dk_42 (dk_at dksX10_format_0 15 rfl rfl)
theorem dX10_format_16 : decode cX10_format 16 = .ok (.iload_n 1, 1) := dk_27 (dk_at dksX10_format_0 16 rfl rfl)
theorem dX10_format_17 : decode cX10_format 17 = .ok (.invokevirtual 335, 3) := dk_182 1 79 (dk_at dksX10_format_0 17 rfl rfl)
theorem dX10_format_20 : decode cX10_format 20 = .ok (.istore_n 2, 1) := dk_61 (dk_at dksX10_format_0 20 rfl rfl)
theorem dX10_format_21 : decode cX10_format 21 = .ok (.aload_n 0, 1) := dk_42 (dk_at dksX10_format_0 21 rfl rfl)
theorem dX10_format_22 : decode cX10_format 22 = .ok (.iconst 0, 1) := dk_3 (dk_at dksX10_format_0 22 rfl rfl)
theorem dX10_format_23 : decode cX10_format 23 = .ok (.putfield 456, 3) := dk_181 1 200 (dk_at dksX10_format_1 0 rfl rfl)
theorem dX10_format_26 : decode cX10_format 26 = .ok (.iconst 0, 1) := dk_3 (dk_at dksX10_format_1 3 rfl rfl)
theorem dX10_format_27 : decode cX10_format 27 = .ok (.istore_n 3, 1) := dk_62 (dk_at dksX10_format_1 4 rfl rfl)
theorem dX10_format_28 : decode cX10_format 28 = .ok (.iload_n 3, 1) := dk_29 (dk_at dksX10_format_1 5 rfl rfl)
theorem dX10_format_29 : decode cX10_format 29 = .ok (.aload_n 0, 1) := dk_42 (dk_at dksX10_format_1 6 rfl rfl)
theorem dX10_format_30 : decode cX10_format 30 = .ok (.iload_n 2, 1) := dk_28 (dk_at dksX10_format_1 7 rfl rfl)
theorem dX10_format_31 : decode cX10_format 31 = .ok (.iconst 3, 1) := dk_6 (dk_at dksX10_format_1 8 rfl rfl)
theorem dX10_format_32 : decode cX10_format 32 = .ok (.invokevirtual 129, 3) := dk_182 0 129 (dk_at dksX10_format_1 9 rfl rfl)
theorem dX10_format_35 : decode cX10_format 35 = .ok (.if_icmp .ge 64, 3) := dk_162 0 64 (dk_at dksX10_format_1 12 rfl rfl)
theorem dX10_format_38 : decode cX10_format 38 = .ok (.iload_n 3, 1) := dk_29 (dk_at dksX10_format_1 15 rfl rfl)
theorem dX10_format_39 : decode cX10_format 39 = .ok (.ifCond .le 9, 3) := dk_158 0 9 (dk_at dksX10_format_1 16 rfl rfl)
theorem dX10_format_42 : decode cX10_format 42 = .ok (.aload_n 0, 1) := dk_42 (dk_at dksX10_format_1 19 rfl rfl)
theorem dX10_format_43 : decode cX10_format 43 = .ok (.bipush 32, 2) := dk_16 32 (dk_at dksX10_format_1 20 rfl rfl)
theorem dX10_format_45 : decode cX10_format 45 = .ok (.invokevirtual 459, 3) := dk_182 1 203 (dk_at dksX10_format_2 0 rfl rfl)
theorem dX10_format_48 : decode cX10_format 48 = .ok (.aload_n 0, 1) := dk_42 (dk_at dksX10_format_2 3 rfl rfl)
theorem dX10_format_49 : decode cX10_format 49 = .ok (.aload_n 0, 1) := dk_42 (dk_at dksX10_format_2 4 rfl rfl)
theorem dX10_format_50 : decode cX10_format 50 = .ok (.iload_n 2, 1) := dk_28 (dk_at dksX10_format_2 5 rfl rfl)
theorem dX10_format_51 : decode cX10_format 51 = .ok (.iload_n 3, 1) := dk_29 (dk_at dksX10_format_2 6 rfl rfl)
theorem dX10_format_52 : decode cX10_format 52 = .ok (.invokevirtual 137, 3) := dk_182 0 137 (dk_at dksX10_format_2 7 rfl rfl)
theorem dX10_format_55 : decode cX10_format 55 = .ok (.invokevirtual 462, 3) := dk_182 1 206 (dk_at dksX10_format_2 10 rfl rfl)
theorem dX10_format_58 : decode cX10_format 58 = .ok (.aload_n 0, 1) := dk_42 (dk_at dksX10_format_2 13 rfl rfl)
theorem dX10_format_59 : decode cX10_format 59 = .ok (.iload_n 2, 1) := dk_28 (dk_at dksX10_format_2 14 rfl rfl)
theorem dX10_format_60 : decode cX10_format 60 = .ok (.iload_n 3, 1) := dk_29 (dk_at dksX10_format_2 15 rfl rfl)
theorem dX10_format_61 : decode cX10_format 61 = .ok (.invokevirtual 350, 3) := dk_182 1 94 (dk_at dksX10_format_2 16 rfl rfl)
theorem dX10_format_64 : decode cX10_format 64 = .ok (.aload_n 0, 1) := dk_42 (dk_at dksX10_format_2 19 rfl rfl)
theorem dX10_format_65 : decode cX10_format 65 = .ok (.iload_n 2, 1) := dk_28 (dk_at dksX10_format_2 20 rfl rfl)
theorem dX10_format_66 : decode cX10_format 66 = .ok (.iload_n 3, 1) := dk_29 (dk_at dksX10_format_2 21 rfl rfl)
theorem dX10_format_67 : decode cX10_format 67 = .ok (.invokevirtual 137, 3) := dk_182 0 137 (dk_at dksX10_format_3 0 rfl rfl)
theorem dX10_format_70 : decode cX10_format 70 = .ok (.lcmp, 1) := dk_148 (dk_at dksX10_format_3 3 rfl rfl)
theorem dX10_format_71 : decode cX10_format 71 = .ok (.ifCond .ne 6, 3) := dk_154 0 6 (dk_at dksX10_format_3 4 rfl rfl)
theorem dX10_format_74 : decode cX10_format 74 = .ok (.goto 19, 3) := dk_167 0 19 (dk_at dksX10_format_3 7 rfl rfl)
theorem dX10_format_77 : decode cX10_format 77 = .ok (.aload_n 0, 1) := dk_42 (dk_at dksX10_format_3 10 rfl rfl)
theorem dX10_format_78 : decode cX10_format 78 = .ok (.bipush 47, 2) := dk_16 47 (dk_at dksX10_format_3 11 rfl rfl)
theorem dX10_format_80 : decode cX10_format 80 = .ok (.invokevirtual 459, 3) := dk_182 1 203 (dk_at dksX10_format_3 13 rfl rfl)
theorem dX10_format_83 : decode cX10_format 83 = .ok (.aload_n 0, 1) := dk_42 (dk_at dksX10_format_3 16 rfl rfl)
theorem dX10_format_84 : decode cX10_format 84 = .ok (.aload_n 0, 1) := dk_42 (dk_at dksX10_format_3 17 rfl rfl)
theorem dX10_format_85 : decode cX10_format 85 = .ok (.iload_n 2, 1) := dk_28 (dk_at dksX10_format_3 18 rfl rfl)
theorem dX10_format_86 : decode cX10_format 86 = .ok (.iload_n 3, 1) := dk_29 (dk_at dksX10_format_3 19 rfl rfl)
theorem dX10_format_87 : decode cX10_format 87 = .ok (.invokevirtual 350, 3) := dk_182 1 94 (dk_at dksX10_format_3 20 rfl rfl)
theorem dX10_format_90 : decode cX10_format 90 = .ok (.invokevirtual 462, 3) := dk_182 1 206 (dk_at dksX10_format_4 0 rfl rfl)
theorem dX10_format_93 : decode cX10_format 93 = .ok (.iinc 3 1, 3) := dk_132 3 1 (dk_at dksX10_format_4 3 rfl rfl)
theorem dX10_format_96 : decode cX10_format 96 = .ok (.goto (-68), 3) := dk_167 255 188 (dk_at dksX10_format_4 6 rfl rfl)
theorem dX10_format_99 : decode cX10_format 99 = .ok (.aload_n 0, 1) := dk_42 (dk_at dksX10_format_4 9 rfl rfl)
theorem dX10_format_100 : decode cX10_format 100 = .ok (.getfield 456, 3) := dk_180 1 200 (dk_at dksX10_format_4 10 rfl rfl)
theorem dX10_format_103 : decode cX10_format 103 = .ok (.ireturn, 1) := dk_172 (dk_at dksX10_format_4 13 rfl rfl)
abbrev cX10_writes : ByteArray := prog_28_method_129_code
def yX10_writes : MethodName := ⟨RX10, "writes", "(I)V"⟩
def dkwX10_writes_0 : List UInt8 := [42, 180, 0, 94, 42, 180, 1, 200, 27, 79, 42, 89, 180, 1, 200, 4, 96, 181, 1, 200, 177]
abbrev dktX10_writes_0 : List UInt8 := dkwX10_writes_0 ++ []
theorem dksX10_writes_0 : cX10_writes.data.toList.drop 0 = dktX10_writes_0 := by decide +kernel
theorem dX10_writes_0 : decode cX10_writes 0 = .ok (.aload_n 0, 1) := dk_42 (dk_at dksX10_writes_0 0 rfl rfl)
theorem dX10_writes_1 : decode cX10_writes 1 = .ok (.getfield 94, 3) := dk_180 0 94 (dk_at dksX10_writes_0 1 rfl rfl)
theorem dX10_writes_4 : decode cX10_writes 4 = .ok (.aload_n 0, 1) := dk_42 (dk_at dksX10_writes_0 4 rfl rfl)
theorem dX10_writes_5 : decode cX10_writes 5 = .ok (.getfield 456, 3) := dk_180 1 200 (dk_at dksX10_writes_0 5 rfl rfl)
theorem dX10_writes_8 : decode cX10_writes 8 = .ok (.iload_n 1, 1) := dk_27 (dk_at dksX10_writes_0 8 rfl rfl)
theorem dX10_writes_9 : decode cX10_writes 9 = .ok (.iastore, 1) := dk_79 (dk_at dksX10_writes_0 9 rfl rfl)
theorem dX10_writes_10 : decode cX10_writes 10 = .ok (.aload_n 0, 1) := dk_42 (dk_at dksX10_writes_0 10 rfl rfl)
theorem dX10_writes_11 : decode cX10_writes 11 = .ok (.dup, 1) := dk_89 (dk_at dksX10_writes_0 11 rfl rfl)
theorem dX10_writes_12 : decode cX10_writes 12 = .ok (.getfield 456, 3) := dk_180 1 200 (dk_at dksX10_writes_0 12 rfl rfl)
theorem dX10_writes_15 : decode cX10_writes 15 = .ok (.iconst 1, 1) := dk_4 (dk_at dksX10_writes_0 15 rfl rfl)
theorem dX10_writes_16 : decode cX10_writes 16 = .ok (.iadd, 1) := dk_96 (dk_at dksX10_writes_0 16 rfl rfl)
theorem dX10_writes_17 : decode cX10_writes 17 = .ok (.putfield 456, 3) := dk_181 1 200 (dk_at dksX10_writes_0 17 rfl rfl)
theorem dX10_writes_20 : decode cX10_writes 20 = .ok (.return_, 1) := dk_177 (dk_at dksX10_writes_0 20 rfl rfl)
abbrev cX10_writesPart : ByteArray := prog_28_method_130_code
def yX10_writesPart : MethodName := ⟨RX10, "writesPart", "(J)V"⟩
def dkwX10_writesPart_4 : List UInt8 := [96, 182, 1, 203, 132, 5, 255, 167, 255, 234, 177]
abbrev dktX10_writesPart_4 : List UInt8 := dkwX10_writesPart_4 ++ []
def dkwX10_writesPart_3 : List UInt8 := [157, 255, 236, 21, 4, 4, 100, 54, 5, 21, 5, 155, 0, 23, 42, 16, 48, 42, 180, 0, 97, 21, 5, 46]
abbrev dktX10_writesPart_3 : List UInt8 := dkwX10_writesPart_3 ++ dktX10_writesPart_4
def dkwX10_writesPart_2 : List UInt8 := [54, 4, 42, 180, 0, 97, 21, 4, 29, 16, 10, 112, 79, 29, 16, 10, 108, 62, 132, 4, 1, 29]
abbrev dktX10_writesPart_2 : List UInt8 := dkwX10_writesPart_2 ++ dktX10_writesPart_3
def dkwX10_writesPart_1 : List UInt8 := [16, 96, 42, 180, 0, 9, 29, 46, 96, 182, 1, 203, 132, 3, 1, 167, 255, 232, 177, 31, 136, 62, 3]
abbrev dktX10_writesPart_1 : List UInt8 := dkwX10_writesPart_1 ++ dktX10_writesPart_2
def dkwX10_writesPart_0 : List UInt8 := [31, 184, 0, 26, 153, 0, 38, 42, 31, 182, 0, 34, 3, 62, 29, 42, 180, 0, 15, 162, 0, 22, 42]
abbrev dktX10_writesPart_0 : List UInt8 := dkwX10_writesPart_0 ++ dktX10_writesPart_1
theorem dksX10_writesPart_0 : cX10_writesPart.data.toList.drop 0 = dktX10_writesPart_0 := by decide +kernel
theorem dksX10_writesPart_1 : cX10_writesPart.data.toList.drop 23 = dktX10_writesPart_1 := dk_seg dksX10_writesPart_0 23 rfl rfl
theorem dksX10_writesPart_2 : cX10_writesPart.data.toList.drop 46 = dktX10_writesPart_2 := dk_seg dksX10_writesPart_1 23 rfl rfl
theorem dksX10_writesPart_3 : cX10_writesPart.data.toList.drop 68 = dktX10_writesPart_3 := dk_seg dksX10_writesPart_2 22 rfl rfl
theorem dksX10_writesPart_4 : cX10_writesPart.data.toList.drop 92 = dktX10_writesPart_4 := dk_seg dksX10_writesPart_3 24 rfl rfl
theorem dX10_writesPart_0 : decode cX10_writesPart 0 = .ok (.lload_n 1, 1) := dk_31 (dk_at dksX10_writesPart_0 0 rfl rfl)
theorem dX10_writesPart_1 : decode cX10_writesPart 1 = .ok (.invokestatic 26, 3) := dk_184 0 26 (dk_at dksX10_writesPart_0 1 rfl rfl)
theorem dX10_writesPart_4 : decode cX10_writesPart 4 = .ok (.ifCond .eq 38, 3) := dk_153 0 38 (dk_at dksX10_writesPart_0 4 rfl rfl)
theorem dX10_writesPart_7 : decode cX10_writesPart 7 = .ok (.aload_n 0, 1) := dk_42 (dk_at dksX10_writesPart_0 7 rfl rfl)
theorem dX10_writesPart_8 : decode cX10_writesPart 8 = .ok (.lload_n 1, 1) := dk_31 (dk_at dksX10_writesPart_0 8 rfl rfl)
theorem dX10_writesPart_9 : decode cX10_writesPart 9 = .ok (.invokevirtual 34, 3) := dk_182 0 34 (dk_at dksX10_writesPart_0 9 rfl rfl)
theorem dX10_writesPart_12 : decode cX10_writesPart 12 = .ok (.iconst 0, 1) := dk_3 (dk_at dksX10_writesPart_0 12 rfl rfl)
theorem dX10_writesPart_13 : decode cX10_writesPart 13 = .ok (.istore_n 3, 1) := dk_62 (dk_at dksX10_writesPart_0 13 rfl rfl)
theorem dX10_writesPart_14 : decode cX10_writesPart 14 = .ok (.iload_n 3, 1) := dk_29 (dk_at dksX10_writesPart_0 14 rfl rfl)
theorem dX10_writesPart_15 : decode cX10_writesPart 15 = .ok (.aload_n 0, 1) := dk_42 (dk_at dksX10_writesPart_0 15 rfl rfl)
theorem dX10_writesPart_16 : decode cX10_writesPart 16 = .ok (.getfield 15, 3) := dk_180 0 15 (dk_at dksX10_writesPart_0 16 rfl rfl)
theorem dX10_writesPart_19 : decode cX10_writesPart 19 = .ok (.if_icmp .ge 22, 3) := dk_162 0 22 (dk_at dksX10_writesPart_0 19 rfl rfl)
theorem dX10_writesPart_22 : decode cX10_writesPart 22 = .ok (.aload_n 0, 1) := dk_42 (dk_at dksX10_writesPart_0 22 rfl rfl)
theorem dX10_writesPart_23 : decode cX10_writesPart 23 = .ok (.bipush 96, 2) := dk_16 96 (dk_at dksX10_writesPart_1 0 rfl rfl)
theorem dX10_writesPart_25 : decode cX10_writesPart 25 = .ok (.aload_n 0, 1) := dk_42 (dk_at dksX10_writesPart_1 2 rfl rfl)
theorem dX10_writesPart_26 : decode cX10_writesPart 26 = .ok (.getfield 9, 3) := dk_180 0 9 (dk_at dksX10_writesPart_1 3 rfl rfl)
theorem dX10_writesPart_29 : decode cX10_writesPart 29 = .ok (.iload_n 3, 1) := dk_29 (dk_at dksX10_writesPart_1 6 rfl rfl)
theorem dX10_writesPart_30 : decode cX10_writesPart 30 = .ok (.iaload, 1) := dk_46 (dk_at dksX10_writesPart_1 7 rfl rfl)
theorem dX10_writesPart_31 : decode cX10_writesPart 31 = .ok (.iadd, 1) := dk_96 (dk_at dksX10_writesPart_1 8 rfl rfl)
theorem dX10_writesPart_32 : decode cX10_writesPart 32 = .ok (.invokevirtual 459, 3) := dk_182 1 203 (dk_at dksX10_writesPart_1 9 rfl rfl)
theorem dX10_writesPart_35 : decode cX10_writesPart 35 = .ok (.iinc 3 1, 3) := dk_132 3 1 (dk_at dksX10_writesPart_1 12 rfl rfl)
theorem dX10_writesPart_38 : decode cX10_writesPart 38 = .ok (.goto (-24), 3) := dk_167 255 232 (dk_at dksX10_writesPart_1 15 rfl rfl)
theorem dX10_writesPart_41 : decode cX10_writesPart 41 = .ok (.return_, 1) := dk_177 (dk_at dksX10_writesPart_1 18 rfl rfl)
theorem dX10_writesPart_42 : decode cX10_writesPart 42 = .ok (.lload_n 1, 1) := dk_31 (dk_at dksX10_writesPart_1 19 rfl rfl)
theorem dX10_writesPart_43 : decode cX10_writesPart 43 = .ok (.l2i, 1) := dk_136 (dk_at dksX10_writesPart_1 20 rfl rfl)
theorem dX10_writesPart_44 : decode cX10_writesPart 44 = .ok (.istore_n 3, 1) := dk_62 (dk_at dksX10_writesPart_1 21 rfl rfl)
theorem dX10_writesPart_45 : decode cX10_writesPart 45 = .ok (.iconst 0, 1) := dk_3 (dk_at dksX10_writesPart_1 22 rfl rfl)
theorem dX10_writesPart_46 : decode cX10_writesPart 46 = .ok (.istore 4, 2) := dk_54 4 (dk_at dksX10_writesPart_2 0 rfl rfl)
theorem dX10_writesPart_48 : decode cX10_writesPart 48 = .ok (.aload_n 0, 1) := dk_42 (dk_at dksX10_writesPart_2 2 rfl rfl)
theorem dX10_writesPart_49 : decode cX10_writesPart 49 = .ok (.getfield 97, 3) := dk_180 0 97 (dk_at dksX10_writesPart_2 3 rfl rfl)
theorem dX10_writesPart_52 : decode cX10_writesPart 52 = .ok (.iload 4, 2) := dk_21 4 (dk_at dksX10_writesPart_2 6 rfl rfl)
theorem dX10_writesPart_54 : decode cX10_writesPart 54 = .ok (.iload_n 3, 1) := dk_29 (dk_at dksX10_writesPart_2 8 rfl rfl)
theorem dX10_writesPart_55 : decode cX10_writesPart 55 = .ok (.bipush 10, 2) := dk_16 10 (dk_at dksX10_writesPart_2 9 rfl rfl)
theorem dX10_writesPart_57 : decode cX10_writesPart 57 = .ok (.irem, 1) := dk_112 (dk_at dksX10_writesPart_2 11 rfl rfl)
theorem dX10_writesPart_58 : decode cX10_writesPart 58 = .ok (.iastore, 1) := dk_79 (dk_at dksX10_writesPart_2 12 rfl rfl)
theorem dX10_writesPart_59 : decode cX10_writesPart 59 = .ok (.iload_n 3, 1) := dk_29 (dk_at dksX10_writesPart_2 13 rfl rfl)
theorem dX10_writesPart_60 : decode cX10_writesPart 60 = .ok (.bipush 10, 2) := dk_16 10 (dk_at dksX10_writesPart_2 14 rfl rfl)
theorem dX10_writesPart_62 : decode cX10_writesPart 62 = .ok (.idiv, 1) := dk_108 (dk_at dksX10_writesPart_2 16 rfl rfl)
theorem dX10_writesPart_63 : decode cX10_writesPart 63 = .ok (.istore_n 3, 1) := dk_62 (dk_at dksX10_writesPart_2 17 rfl rfl)
theorem dX10_writesPart_64 : decode cX10_writesPart 64 = .ok (.iinc 4 1, 3) := dk_132 4 1 (dk_at dksX10_writesPart_2 18 rfl rfl)
theorem dX10_writesPart_67 : decode cX10_writesPart 67 = .ok (.iload_n 3, 1) := dk_29 (dk_at dksX10_writesPart_2 21 rfl rfl)
theorem dX10_writesPart_68 : decode cX10_writesPart 68 = .ok (.ifCond .gt (-20), 3) := dk_157 255 236 (dk_at dksX10_writesPart_3 0 rfl rfl)
theorem dX10_writesPart_71 : decode cX10_writesPart 71 = .ok (.iload 4, 2) := dk_21 4 (dk_at dksX10_writesPart_3 3 rfl rfl)
theorem dX10_writesPart_73 : decode cX10_writesPart 73 = .ok (.iconst 1, 1) := dk_4 (dk_at dksX10_writesPart_3 5 rfl rfl)
theorem dX10_writesPart_74 : decode cX10_writesPart 74 = .ok (.isub, 1) := dk_100 (dk_at dksX10_writesPart_3 6 rfl rfl)
theorem dX10_writesPart_75 : decode cX10_writesPart 75 = .ok (.istore 5, 2) := dk_54 5 (dk_at dksX10_writesPart_3 7 rfl rfl)
theorem dX10_writesPart_77 : decode cX10_writesPart 77 = .ok (.iload 5, 2) := dk_21 5 (dk_at dksX10_writesPart_3 9 rfl rfl)
theorem dX10_writesPart_79 : decode cX10_writesPart 79 = .ok (.ifCond .lt 23, 3) := dk_155 0 23 (dk_at dksX10_writesPart_3 11 rfl rfl)
theorem dX10_writesPart_82 : decode cX10_writesPart 82 = .ok (.aload_n 0, 1) := dk_42 (dk_at dksX10_writesPart_3 14 rfl rfl)
theorem dX10_writesPart_83 : decode cX10_writesPart 83 = .ok (.bipush 48, 2) := dk_16 48 (dk_at dksX10_writesPart_3 15 rfl rfl)
theorem dX10_writesPart_85 : decode cX10_writesPart 85 = .ok (.aload_n 0, 1) := dk_42 (dk_at dksX10_writesPart_3 17 rfl rfl)
theorem dX10_writesPart_86 : decode cX10_writesPart 86 = .ok (.getfield 97, 3) := dk_180 0 97 (dk_at dksX10_writesPart_3 18 rfl rfl)
theorem dX10_writesPart_89 : decode cX10_writesPart 89 = .ok (.iload 5, 2) := dk_21 5 (dk_at dksX10_writesPart_3 21 rfl rfl)
theorem dX10_writesPart_91 : decode cX10_writesPart 91 = .ok (.iaload, 1) := dk_46 (dk_at dksX10_writesPart_3 23 rfl rfl)
theorem dX10_writesPart_92 : decode cX10_writesPart 92 = .ok (.iadd, 1) := dk_96 (dk_at dksX10_writesPart_4 0 rfl rfl)
theorem dX10_writesPart_93 : decode cX10_writesPart 93 = .ok (.invokevirtual 459, 3) := dk_182 1 203 (dk_at dksX10_writesPart_4 1 rfl rfl)
theorem dX10_writesPart_96 : decode cX10_writesPart 96 = .ok (.iinc 5 (-1), 3) := dk_132 5 255 (dk_at dksX10_writesPart_4 4 rfl rfl)
theorem dX10_writesPart_99 : decode cX10_writesPart 99 = .ok (.goto (-22), 3) := dk_167 255 234 (dk_at dksX10_writesPart_4 7 rfl rfl)
theorem dX10_writesPart_102 : decode cX10_writesPart 102 = .ok (.return_, 1) := dk_177 (dk_at dksX10_writesPart_4 10 rfl rfl)
abbrev cX10_formattedByte : ByteArray := prog_28_method_132_code
def yX10_formattedByte : MethodName := ⟨RX10, "formattedByte", "(I)I"⟩
def dkwX10_formattedByte_1 : List UInt8 := [180, 0, 94, 27, 46, 167, 0, 4, 2, 172]
abbrev dktX10_formattedByte_1 : List UInt8 := dkwX10_formattedByte_1 ++ []
def dkwX10_formattedByte_0 : List UInt8 := [42, 3, 181, 0, 1, 27, 133, 9, 42, 180, 1, 200, 4, 100, 133, 184, 0, 50, 153, 0, 12, 42]
abbrev dktX10_formattedByte_0 : List UInt8 := dkwX10_formattedByte_0 ++ dktX10_formattedByte_1
theorem dksX10_formattedByte_0 : cX10_formattedByte.data.toList.drop 0 = dktX10_formattedByte_0 := by decide +kernel
theorem dksX10_formattedByte_1 : cX10_formattedByte.data.toList.drop 22 = dktX10_formattedByte_1 := dk_seg dksX10_formattedByte_0 22 rfl rfl
theorem dX10_formattedByte_0 : decode cX10_formattedByte 0 = .ok (.aload_n 0, 1) := dk_42 (dk_at dksX10_formattedByte_0 0 rfl rfl)
theorem dX10_formattedByte_1 : decode cX10_formattedByte 1 = .ok (.iconst 0, 1) := dk_3 (dk_at dksX10_formattedByte_0 1 rfl rfl)
theorem dX10_formattedByte_2 : decode cX10_formattedByte 2 = .ok (.putfield 1, 3) := dk_181 0 1 (dk_at dksX10_formattedByte_0 2 rfl rfl)
theorem dX10_formattedByte_5 : decode cX10_formattedByte 5 = .ok (.iload_n 1, 1) := dk_27 (dk_at dksX10_formattedByte_0 5 rfl rfl)
theorem dX10_formattedByte_6 : decode cX10_formattedByte 6 = .ok (.i2l, 1) := dk_133 (dk_at dksX10_formattedByte_0 6 rfl rfl)
theorem dX10_formattedByte_7 : decode cX10_formattedByte 7 = .ok (.lconst 0, 1) := dk_9 (dk_at dksX10_formattedByte_0 7 rfl rfl)
theorem dX10_formattedByte_8 : decode cX10_formattedByte 8 = .ok (.aload_n 0, 1) := dk_42 (dk_at dksX10_formattedByte_0 8 rfl rfl)
theorem dX10_formattedByte_9 : decode cX10_formattedByte 9 = .ok (.getfield 456, 3) := dk_180 1 200 (dk_at dksX10_formattedByte_0 9 rfl rfl)
theorem dX10_formattedByte_12 : decode cX10_formattedByte 12 = .ok (.iconst 1, 1) := dk_4 (dk_at dksX10_formattedByte_0 12 rfl rfl)
theorem dX10_formattedByte_13 : decode cX10_formattedByte 13 = .ok (.isub, 1) := dk_100 (dk_at dksX10_formattedByte_0 13 rfl rfl)
theorem dX10_formattedByte_14 : decode cX10_formattedByte 14 = .ok (.i2l, 1) := dk_133 (dk_at dksX10_formattedByte_0 14 rfl rfl)
theorem dX10_formattedByte_15 : decode cX10_formattedByte 15 = .ok (.invokestatic 50, 3) := dk_184 0 50 (dk_at dksX10_formattedByte_0 15 rfl rfl)
theorem dX10_formattedByte_18 : decode cX10_formattedByte 18 = .ok (.ifCond .eq 12, 3) := dk_153 0 12 (dk_at dksX10_formattedByte_0 18 rfl rfl)
theorem dX10_formattedByte_21 : decode cX10_formattedByte 21 = .ok (.aload_n 0, 1) := dk_42 (dk_at dksX10_formattedByte_0 21 rfl rfl)
theorem dX10_formattedByte_22 : decode cX10_formattedByte 22 = .ok (.getfield 94, 3) := dk_180 0 94 (dk_at dksX10_formattedByte_1 0 rfl rfl)
theorem dX10_formattedByte_25 : decode cX10_formattedByte 25 = .ok (.iload_n 1, 1) := dk_27 (dk_at dksX10_formattedByte_1 3 rfl rfl)
theorem dX10_formattedByte_26 : decode cX10_formattedByte 26 = .ok (.iaload, 1) := dk_46 (dk_at dksX10_formattedByte_1 4 rfl rfl)
theorem dX10_formattedByte_27 : decode cX10_formattedByte 27 = .ok (.goto 4, 3) := dk_167 0 4 (dk_at dksX10_formattedByte_1 5 rfl rfl)
theorem dX10_formattedByte_30 : decode cX10_formattedByte 30 = .ok (.iconst (-1), 1) := dk_2 (dk_at dksX10_formattedByte_1 8 rfl rfl)
theorem dX10_formattedByte_31 : decode cX10_formattedByte 31 = .ok (.ireturn, 1) := dk_172 (dk_at dksX10_formattedByte_1 9 rfl rfl)
abbrev cX10_undoCount : ByteArray := prog_28_method_133_code
def yX10_undoCount : MethodName := ⟨RX10, "undoCount", "()I"⟩
def dkwX10_undoCount_0 : List UInt8 := [42, 3, 181, 0, 1, 42, 180, 1, 53, 172]
abbrev dktX10_undoCount_0 : List UInt8 := dkwX10_undoCount_0 ++ []
theorem dksX10_undoCount_0 : cX10_undoCount.data.toList.drop 0 = dktX10_undoCount_0 := by decide +kernel
theorem dX10_undoCount_0 : decode cX10_undoCount 0 = .ok (.aload_n 0, 1) := dk_42 (dk_at dksX10_undoCount_0 0 rfl rfl)
theorem dX10_undoCount_1 : decode cX10_undoCount 1 = .ok (.iconst 0, 1) := dk_3 (dk_at dksX10_undoCount_0 1 rfl rfl)
theorem dX10_undoCount_2 : decode cX10_undoCount 2 = .ok (.putfield 1, 3) := dk_181 0 1 (dk_at dksX10_undoCount_0 2 rfl rfl)
theorem dX10_undoCount_5 : decode cX10_undoCount 5 = .ok (.aload_n 0, 1) := dk_42 (dk_at dksX10_undoCount_0 5 rfl rfl)
theorem dX10_undoCount_6 : decode cX10_undoCount 6 = .ok (.getfield 309, 3) := dk_180 1 53 (dk_at dksX10_undoCount_0 6 rfl rfl)
theorem dX10_undoCount_9 : decode cX10_undoCount 9 = .ok (.ireturn, 1) := dk_172 (dk_at dksX10_undoCount_0 9 rfl rfl)
abbrev cX10_undo : ByteArray := prog_28_method_134_code
def yX10_undo : MethodName := ⟨RX10, "undo", "()I"⟩
def dkwX10_undo_2 : List UInt8 := [89, 180, 1, 76, 4, 96, 181, 1, 76, 42, 180, 1, 53, 172]
abbrev dktX10_undo_2 : List UInt8 := dkwX10_undo_2 ++ []
def dkwX10_undo_1 : List UInt8 := [42, 180, 0, 76, 17, 2, 94, 42, 180, 1, 53, 104, 42, 180, 0, 60, 3, 17, 2, 94, 184, 0, 176, 42]
abbrev dktX10_undo_1 : List UInt8 := dkwX10_undo_1 ++ dktX10_undo_2
def dkwX10_undo_0 : List UInt8 := [42, 3, 181, 0, 1, 42, 180, 1, 53, 154, 0, 5, 2, 172, 42, 89, 180, 1, 53, 4, 100, 181, 1, 53]
abbrev dktX10_undo_0 : List UInt8 := dkwX10_undo_0 ++ dktX10_undo_1
theorem dksX10_undo_0 : cX10_undo.data.toList.drop 0 = dktX10_undo_0 := by decide +kernel
theorem dksX10_undo_1 : cX10_undo.data.toList.drop 24 = dktX10_undo_1 := dk_seg dksX10_undo_0 24 rfl rfl
theorem dksX10_undo_2 : cX10_undo.data.toList.drop 48 = dktX10_undo_2 := dk_seg dksX10_undo_1 24 rfl rfl
theorem dX10_undo_0 : decode cX10_undo 0 = .ok (.aload_n 0, 1) := dk_42 (dk_at dksX10_undo_0 0 rfl rfl)
theorem dX10_undo_1 : decode cX10_undo 1 = .ok (.iconst 0, 1) := dk_3 (dk_at dksX10_undo_0 1 rfl rfl)
theorem dX10_undo_2 : decode cX10_undo 2 = .ok (.putfield 1, 3) := dk_181 0 1 (dk_at dksX10_undo_0 2 rfl rfl)
theorem dX10_undo_5 : decode cX10_undo 5 = .ok (.aload_n 0, 1) := dk_42 (dk_at dksX10_undo_0 5 rfl rfl)
theorem dX10_undo_6 : decode cX10_undo 6 = .ok (.getfield 309, 3) := dk_180 1 53 (dk_at dksX10_undo_0 6 rfl rfl)
theorem dX10_undo_9 : decode cX10_undo 9 = .ok (.ifCond .ne 5, 3) := dk_154 0 5 (dk_at dksX10_undo_0 9 rfl rfl)
theorem dX10_undo_12 : decode cX10_undo 12 = .ok (.iconst (-1), 1) := dk_2 (dk_at dksX10_undo_0 12 rfl rfl)
theorem dX10_undo_13 : decode cX10_undo 13 = .ok (.ireturn, 1) := dk_172 (dk_at dksX10_undo_0 13 rfl rfl)
theorem dX10_undo_14 : decode cX10_undo 14 = .ok (.aload_n 0, 1) := dk_42 (dk_at dksX10_undo_0 14 rfl rfl)
theorem dX10_undo_15 : decode cX10_undo 15 = .ok (.dup, 1) := dk_89 (dk_at dksX10_undo_0 15 rfl rfl)
theorem dX10_undo_16 : decode cX10_undo 16 = .ok (.getfield 309, 3) := dk_180 1 53 (dk_at dksX10_undo_0 16 rfl rfl)
theorem dX10_undo_19 : decode cX10_undo 19 = .ok (.iconst 1, 1) := dk_4 (dk_at dksX10_undo_0 19 rfl rfl)
theorem dX10_undo_20 : decode cX10_undo 20 = .ok (.isub, 1) := dk_100 (dk_at dksX10_undo_0 20 rfl rfl)
theorem dX10_undo_21 : decode cX10_undo 21 = .ok (.putfield 309, 3) := dk_181 1 53 (dk_at dksX10_undo_0 21 rfl rfl)
theorem dX10_undo_24 : decode cX10_undo 24 = .ok (.aload_n 0, 1) := dk_42 (dk_at dksX10_undo_1 0 rfl rfl)
theorem dX10_undo_25 : decode cX10_undo 25 = .ok (.getfield 76, 3) := dk_180 0 76 (dk_at dksX10_undo_1 1 rfl rfl)
theorem dX10_undo_28 : decode cX10_undo 28 = .ok (.sipush 606, 3) := dk_17 2 94 (dk_at dksX10_undo_1 4 rfl rfl)
theorem dX10_undo_31 : decode cX10_undo 31 = .ok (.aload_n 0, 1) := dk_42 (dk_at dksX10_undo_1 7 rfl rfl)
theorem dX10_undo_32 : decode cX10_undo 32 = .ok (.getfield 309, 3) := dk_180 1 53 (dk_at dksX10_undo_1 8 rfl rfl)
theorem dX10_undo_35 : decode cX10_undo 35 = .ok (.imul, 1) := dk_104 (dk_at dksX10_undo_1 11 rfl rfl)
theorem dX10_undo_36 : decode cX10_undo 36 = .ok (.aload_n 0, 1) := dk_42 (dk_at dksX10_undo_1 12 rfl rfl)
theorem dX10_undo_37 : decode cX10_undo 37 = .ok (.getfield 60, 3) := dk_180 0 60 (dk_at dksX10_undo_1 13 rfl rfl)
theorem dX10_undo_40 : decode cX10_undo 40 = .ok (.iconst 0, 1) := dk_3 (dk_at dksX10_undo_1 16 rfl rfl)
theorem dX10_undo_41 : decode cX10_undo 41 = .ok (.sipush 606, 3) := dk_17 2 94 (dk_at dksX10_undo_1 17 rfl rfl)
theorem dX10_undo_44 : decode cX10_undo 44 = .ok (.invokestatic 176, 3) := dk_184 0 176 (dk_at dksX10_undo_1 20 rfl rfl)
theorem dX10_undo_47 : decode cX10_undo 47 = .ok (.aload_n 0, 1) := dk_42 (dk_at dksX10_undo_1 23 rfl rfl)
theorem dX10_undo_48 : decode cX10_undo 48 = .ok (.dup, 1) := dk_89 (dk_at dksX10_undo_2 0 rfl rfl)
theorem dX10_undo_49 : decode cX10_undo 49 = .ok (.getfield 332, 3) := dk_180 1 76 (dk_at dksX10_undo_2 1 rfl rfl)
theorem dX10_undo_52 : decode cX10_undo 52 = .ok (.iconst 1, 1) := dk_4 (dk_at dksX10_undo_2 4 rfl rfl)
theorem dX10_undo_53 : decode cX10_undo 53 = .ok (.iadd, 1) := dk_96 (dk_at dksX10_undo_2 5 rfl rfl)
theorem dX10_undo_54 : decode cX10_undo 54 = .ok (.putfield 332, 3) := dk_181 1 76 (dk_at dksX10_undo_2 6 rfl rfl)
theorem dX10_undo_57 : decode cX10_undo 57 = .ok (.aload_n 0, 1) := dk_42 (dk_at dksX10_undo_2 9 rfl rfl)
theorem dX10_undo_58 : decode cX10_undo 58 = .ok (.getfield 309, 3) := dk_180 1 53 (dk_at dksX10_undo_2 10 rfl rfl)
theorem dX10_undo_61 : decode cX10_undo 61 = .ok (.ireturn, 1) := dk_172 (dk_at dksX10_undo_2 13 rfl rfl)
abbrev cX10_saveSnapshot : ByteArray := prog_28_method_135_code
def yX10_saveSnapshot : MethodName := ⟨RX10, "saveSnapshot", "()V"⟩
def dkwX10_saveSnapshot_1 : List UInt8 := [181, 1, 56, 177]
abbrev dktX10_saveSnapshot_1 : List UInt8 := dkwX10_saveSnapshot_1 ++ []
def dkwX10_saveSnapshot_0 : List UInt8 := [42, 3, 181, 0, 1, 42, 180, 0, 60, 3, 42, 180, 0, 73, 3, 17, 2, 94, 184, 0, 176, 42, 4]
abbrev dktX10_saveSnapshot_0 : List UInt8 := dkwX10_saveSnapshot_0 ++ dktX10_saveSnapshot_1
theorem dksX10_saveSnapshot_0 : cX10_saveSnapshot.data.toList.drop 0 = dktX10_saveSnapshot_0 := by decide +kernel
theorem dksX10_saveSnapshot_1 : cX10_saveSnapshot.data.toList.drop 23 = dktX10_saveSnapshot_1 := dk_seg dksX10_saveSnapshot_0 23 rfl rfl
theorem dX10_saveSnapshot_0 : decode cX10_saveSnapshot 0 = .ok (.aload_n 0, 1) := dk_42 (dk_at dksX10_saveSnapshot_0 0 rfl rfl)
theorem dX10_saveSnapshot_1 : decode cX10_saveSnapshot 1 = .ok (.iconst 0, 1) := dk_3 (dk_at dksX10_saveSnapshot_0 1 rfl rfl)
theorem dX10_saveSnapshot_2 : decode cX10_saveSnapshot 2 = .ok (.putfield 1, 3) := dk_181 0 1 (dk_at dksX10_saveSnapshot_0 2 rfl rfl)
theorem dX10_saveSnapshot_5 : decode cX10_saveSnapshot 5 = .ok (.aload_n 0, 1) := dk_42 (dk_at dksX10_saveSnapshot_0 5 rfl rfl)
theorem dX10_saveSnapshot_6 : decode cX10_saveSnapshot 6 = .ok (.getfield 60, 3) := dk_180 0 60 (dk_at dksX10_saveSnapshot_0 6 rfl rfl)
theorem dX10_saveSnapshot_9 : decode cX10_saveSnapshot 9 = .ok (.iconst 0, 1) := dk_3 (dk_at dksX10_saveSnapshot_0 9 rfl rfl)
theorem dX10_saveSnapshot_10 : decode cX10_saveSnapshot 10 = .ok (.aload_n 0, 1) := dk_42 (dk_at dksX10_saveSnapshot_0 10 rfl rfl)
theorem dX10_saveSnapshot_11 : decode cX10_saveSnapshot 11 = .ok (.getfield 73, 3) := dk_180 0 73 (dk_at dksX10_saveSnapshot_0 11 rfl rfl)
theorem dX10_saveSnapshot_14 : decode cX10_saveSnapshot 14 = .ok (.iconst 0, 1) := dk_3 (dk_at dksX10_saveSnapshot_0 14 rfl rfl)
theorem dX10_saveSnapshot_15 : decode cX10_saveSnapshot 15 = .ok (.sipush 606, 3) := dk_17 2 94 (dk_at dksX10_saveSnapshot_0 15 rfl rfl)
theorem dX10_saveSnapshot_18 : decode cX10_saveSnapshot 18 = .ok (.invokestatic 176, 3) := dk_184 0 176 (dk_at dksX10_saveSnapshot_0 18 rfl rfl)
theorem dX10_saveSnapshot_21 : decode cX10_saveSnapshot 21 = .ok (.aload_n 0, 1) := dk_42 (dk_at dksX10_saveSnapshot_0 21 rfl rfl)
theorem dX10_saveSnapshot_22 : decode cX10_saveSnapshot 22 = .ok (.iconst 1, 1) := dk_4 (dk_at dksX10_saveSnapshot_0 22 rfl rfl)
theorem dX10_saveSnapshot_23 : decode cX10_saveSnapshot 23 = .ok (.putfield 312, 3) := dk_181 1 56 (dk_at dksX10_saveSnapshot_1 0 rfl rfl)
theorem dX10_saveSnapshot_26 : decode cX10_saveSnapshot 26 = .ok (.return_, 1) := dk_177 (dk_at dksX10_saveSnapshot_1 3 rfl rfl)
abbrev cX10_restoreSnapshot : ByteArray := prog_28_method_136_code
def yX10_restoreSnapshot : MethodName := ⟨RX10, "restoreSnapshot", "()Z"⟩
def dkwX10_restoreSnapshot_1 : List UInt8 := [17, 2, 94, 184, 0, 176, 42, 3, 181, 1, 53, 4, 172]
abbrev dktX10_restoreSnapshot_1 : List UInt8 := dkwX10_restoreSnapshot_1 ++ []
def dkwX10_restoreSnapshot_0 : List UInt8 := [42, 3, 181, 0, 1, 42, 180, 1, 56, 154, 0, 5, 3, 172, 42, 180, 0, 73, 3, 42, 180, 0, 60, 3]
abbrev dktX10_restoreSnapshot_0 : List UInt8 := dkwX10_restoreSnapshot_0 ++ dktX10_restoreSnapshot_1
theorem dksX10_restoreSnapshot_0 : cX10_restoreSnapshot.data.toList.drop 0 = dktX10_restoreSnapshot_0 := by decide +kernel
theorem dksX10_restoreSnapshot_1 : cX10_restoreSnapshot.data.toList.drop 24 = dktX10_restoreSnapshot_1 := dk_seg dksX10_restoreSnapshot_0 24 rfl rfl
theorem dX10_restoreSnapshot_0 : decode cX10_restoreSnapshot 0 = .ok (.aload_n 0, 1) := dk_42 (dk_at dksX10_restoreSnapshot_0 0 rfl rfl)
theorem dX10_restoreSnapshot_1 : decode cX10_restoreSnapshot 1 = .ok (.iconst 0, 1) := dk_3 (dk_at dksX10_restoreSnapshot_0 1 rfl rfl)
theorem dX10_restoreSnapshot_2 : decode cX10_restoreSnapshot 2 = .ok (.putfield 1, 3) := dk_181 0 1 (dk_at dksX10_restoreSnapshot_0 2 rfl rfl)
theorem dX10_restoreSnapshot_5 : decode cX10_restoreSnapshot 5 = .ok (.aload_n 0, 1) := dk_42 (dk_at dksX10_restoreSnapshot_0 5 rfl rfl)
theorem dX10_restoreSnapshot_6 : decode cX10_restoreSnapshot 6 = .ok (.getfield 312, 3) := dk_180 1 56 (dk_at dksX10_restoreSnapshot_0 6 rfl rfl)
theorem dX10_restoreSnapshot_9 : decode cX10_restoreSnapshot 9 = .ok (.ifCond .ne 5, 3) := dk_154 0 5 (dk_at dksX10_restoreSnapshot_0 9 rfl rfl)
theorem dX10_restoreSnapshot_12 : decode cX10_restoreSnapshot 12 = .ok (.iconst 0, 1) := dk_3 (dk_at dksX10_restoreSnapshot_0 12 rfl rfl)
theorem dX10_restoreSnapshot_13 : decode cX10_restoreSnapshot 13 = .ok (.ireturn, 1) := dk_172 (dk_at dksX10_restoreSnapshot_0 13 rfl rfl)
theorem dX10_restoreSnapshot_14 : decode cX10_restoreSnapshot 14 = .ok (.aload_n 0, 1) := dk_42 (dk_at dksX10_restoreSnapshot_0 14 rfl rfl)
theorem dX10_restoreSnapshot_15 : decode cX10_restoreSnapshot 15 = .ok (.getfield 73, 3) := dk_180 0 73 (dk_at dksX10_restoreSnapshot_0 15 rfl rfl)
theorem dX10_restoreSnapshot_18 : decode cX10_restoreSnapshot 18 = .ok (.iconst 0, 1) := dk_3 (dk_at dksX10_restoreSnapshot_0 18 rfl rfl)
theorem dX10_restoreSnapshot_19 : decode cX10_restoreSnapshot 19 = .ok (.aload_n 0, 1) := dk_42 (dk_at dksX10_restoreSnapshot_0 19 rfl rfl)
theorem dX10_restoreSnapshot_20 : decode cX10_restoreSnapshot 20 = .ok (.getfield 60, 3) := dk_180 0 60 (dk_at dksX10_restoreSnapshot_0 20 rfl rfl)
theorem dX10_restoreSnapshot_23 : decode cX10_restoreSnapshot 23 = .ok (.iconst 0, 1) := dk_3 (dk_at dksX10_restoreSnapshot_0 23 rfl rfl)
theorem dX10_restoreSnapshot_24 : decode cX10_restoreSnapshot 24 = .ok (.sipush 606, 3) := dk_17 2 94 (dk_at dksX10_restoreSnapshot_1 0 rfl rfl)
theorem dX10_restoreSnapshot_27 : decode cX10_restoreSnapshot 27 = .ok (.invokestatic 176, 3) := dk_184 0 176 (dk_at dksX10_restoreSnapshot_1 3 rfl rfl)
theorem dX10_restoreSnapshot_30 : decode cX10_restoreSnapshot 30 = .ok (.aload_n 0, 1) := dk_42 (dk_at dksX10_restoreSnapshot_1 6 rfl rfl)
theorem dX10_restoreSnapshot_31 : decode cX10_restoreSnapshot 31 = .ok (.iconst 0, 1) := dk_3 (dk_at dksX10_restoreSnapshot_1 7 rfl rfl)
theorem dX10_restoreSnapshot_32 : decode cX10_restoreSnapshot 32 = .ok (.putfield 309, 3) := dk_181 1 53 (dk_at dksX10_restoreSnapshot_1 8 rfl rfl)
theorem dX10_restoreSnapshot_35 : decode cX10_restoreSnapshot 35 = .ok (.iconst 1, 1) := dk_4 (dk_at dksX10_restoreSnapshot_1 11 rfl rfl)
theorem dX10_restoreSnapshot_36 : decode cX10_restoreSnapshot 36 = .ok (.ireturn, 1) := dk_172 (dk_at dksX10_restoreSnapshot_1 12 rfl rfl)
theorem q161 : (Jvm.Cond.initialized "SpokenMarksModel") ∈ lw_all := lw_g (lw_at lw_m1 42 rfl) rfl
theorem q714 : (Jvm.Cond.selects "SpokenMarksModel" ({ cls := "java/lang/Object", name := "getClass", desc := "()Ljava/lang/Class;" } : Jvm.MethodName) ({ cls := "java/lang/Object", name := "getClass", desc := "()Ljava/lang/Class;" } : Jvm.MethodName)) ∈ lw_all := lw_g (lw_at lw_m3 115 rfl) rfl
theorem q779 : (Jvm.Cond.selects "SpokenMarksModel" ({ cls := "java/lang/Object", name := "hashCode", desc := "()I" } : Jvm.MethodName) ({ cls := "java/lang/Object", name := "hashCode", desc := "()I" } : Jvm.MethodName)) ∈ lw_all := lw_g (lw_at lw_m3 180 rfl) rfl
theorem q1183 : (Jvm.Cond.selects "SpokenMarksModel" ({ cls := "java/lang/Object", name := "equals", desc := "(Ljava/lang/Object;)Z" } : Jvm.MethodName) ({ cls := "java/lang/Object", name := "equals", desc := "(Ljava/lang/Object;)Z" } : Jvm.MethodName)) ∈ lw_all := lw_g (lw_at lw_m5 104 rfl) rfl
theorem q2714 : (Jvm.Cond.instanceMethod ({ cls := "SpokenMarksModel", name := "thrown", desc := "()I" } : Jvm.MethodName)) ∈ lw_all := lw_g (lw_at lw_m11 195 rfl) rfl
theorem q2715 : (Jvm.Cond.selects "SpokenMarksModel" ({ cls := "SpokenMarksModel", name := "thrown", desc := "()I" } : Jvm.MethodName) ({ cls := "SpokenMarksModel", name := "thrown", desc := "()I" } : Jvm.MethodName)) ∈ lw_all := lw_g (lw_at lw_m11 196 rfl) rfl
theorem q2716 : (Jvm.Cond.code ({ cls := "SpokenMarksModel", name := "thrown", desc := "()I" } : Jvm.MethodName) prog_28_method_1_code (1 : Nat) (Option.some Jvm.ClassFile.FieldType.int)) ∈ lw_all := lw_g (lw_at lw_m11 197 rfl) rfl
theorem q2718 : (Jvm.Cond.instantiable "SpokenMarksModel" (33 : Nat)) ∈ lw_all := lw_g (lw_at lw_m11 199 rfl) rfl
theorem q2720 : (Jvm.Cond.instanceMethod ({ cls := "SpokenMarksModel", name := "<init>", desc := "()V" } : Jvm.MethodName)) ∈ lw_all := lw_g (lw_at lw_m11 201 rfl) rfl
theorem q2721 : (Jvm.Cond.code ({ cls := "SpokenMarksModel", name := "<init>", desc := "()V" } : Jvm.MethodName) prog_28_method_13_code (3 : Nat) (Option.none : Option Jvm.ClassFile.FieldType)) ∈ lw_all := lw_g (lw_at lw_m11 202 rfl) rfl
theorem q2722 : (Jvm.Cond.methodLink "SpokenMarksModel" (54 : Nat) ({ cls := "java/lang/Object", name := "<init>", desc := "()V" } : Jvm.MethodName)) ∈ lw_all := lw_g (lw_at lw_m11 203 rfl) rfl
theorem q2723 : (Jvm.Cond.stringRef "SpokenMarksModel" (100 : Nat) "shelves 2 20;say cough = koff;mark qa 76 smith = 5;mark qa 9 smyth = 7;mark phase 3 = 4;mark fase 3 1 = 6;mark cough = 2;") ∈ lw_tbl := lw_at lw_m11 204 rfl
theorem q2724 : (Jvm.Cond.methodLink "SpokenMarksModel" (102 : Nat) ({ cls := "java/lang/String", name := "length", desc := "()I" } : Jvm.MethodName)) ∈ lw_all := lw_g (lw_at lw_m11 205 rfl) rfl
theorem q2725 : (Jvm.Cond.methodLink "SpokenMarksModel" (108 : Nat) ({ cls := "java/lang/String", name := "charAt", desc := "(I)C" } : Jvm.MethodName)) ∈ lw_all := lw_g (lw_at lw_m11 206 rfl) rfl
theorem q2726 : (Jvm.Cond.methodLink "SpokenMarksModel" (115 : Nat) ({ cls := "SpokenMarksModel", name := "load", desc := "(I)I" } : Jvm.MethodName)) ∈ lw_all := lw_g (lw_at lw_m11 207 rfl) rfl
theorem q2727 : (Jvm.Cond.instanceMethod ({ cls := "SpokenMarksModel", name := "load", desc := "(I)I" } : Jvm.MethodName)) ∈ lw_all := lw_g (lw_at lw_m11 208 rfl) rfl
theorem q2728 : (Jvm.Cond.selects "SpokenMarksModel" ({ cls := "SpokenMarksModel", name := "load", desc := "(I)I" } : Jvm.MethodName) ({ cls := "SpokenMarksModel", name := "load", desc := "(I)I" } : Jvm.MethodName)) ∈ lw_all := lw_g (lw_at lw_m11 209 rfl) rfl
theorem q2729 : (Jvm.Cond.code ({ cls := "SpokenMarksModel", name := "load", desc := "(I)I" } : Jvm.MethodName) prog_28_method_73_code (2 : Nat) (Option.some Jvm.ClassFile.FieldType.int)) ∈ lw_all := lw_g (lw_at lw_m11 210 rfl) rfl
theorem q2730 : (Jvm.Cond.methodLink "SpokenMarksModel" (50 : Nat) ({ cls := "SpokenMarksModel", name := "in", desc := "(JJJ)Z" } : Jvm.MethodName)) ∈ lw_all := lw_g (lw_at lw_m11 211 rfl) rfl
theorem q2731 : (Jvm.Cond.static ({ cls := "SpokenMarksModel", name := "in", desc := "(JJJ)Z" } : Jvm.MethodName)) ∈ lw_all := lw_g (lw_at lw_m11 212 rfl) rfl
theorem q2732 : (Jvm.Cond.code ({ cls := "SpokenMarksModel", name := "in", desc := "(JJJ)Z" } : Jvm.MethodName) prog_28_method_2_code (6 : Nat) (Option.some Jvm.ClassFile.FieldType.boolean)) ∈ lw_all := lw_g (lw_at lw_m11 213 rfl) rfl
theorem q2733 : (Jvm.Cond.methodLink "SpokenMarksModel" (299 : Nat) ({ cls := "SpokenMarksModel", name := "fails", desc := "(ZI)Z" } : Jvm.MethodName)) ∈ lw_all := lw_g (lw_at lw_m11 214 rfl) rfl
theorem q2734 : (Jvm.Cond.privateMethod ({ cls := "SpokenMarksModel", name := "fails", desc := "(ZI)Z" } : Jvm.MethodName)) ∈ lw_tbl := lw_at lw_m11 215 rfl
theorem q2735 : (Jvm.Cond.instanceMethod ({ cls := "SpokenMarksModel", name := "fails", desc := "(ZI)Z" } : Jvm.MethodName)) ∈ lw_all := lw_g (lw_at lw_m11 216 rfl) rfl
theorem q2736 : (Jvm.Cond.code ({ cls := "SpokenMarksModel", name := "fails", desc := "(ZI)Z" } : Jvm.MethodName) prog_28_method_3_code (3 : Nat) (Option.some Jvm.ClassFile.FieldType.boolean)) ∈ lw_all := lw_g (lw_at lw_m11 217 rfl) rfl
theorem q2737 : (Jvm.Cond.methodLink "SpokenMarksModel" (176 : Nat) ({ cls := "SpokenMarksModel", name := "copies", desc := "([JI[JII)V" } : Jvm.MethodName)) ∈ lw_all := lw_g (lw_at lw_m11 218 rfl) rfl
theorem q2738 : (Jvm.Cond.static ({ cls := "SpokenMarksModel", name := "copies", desc := "([JI[JII)V" } : Jvm.MethodName)) ∈ lw_all := lw_g (lw_at lw_m11 219 rfl) rfl
theorem q2739 : (Jvm.Cond.code ({ cls := "SpokenMarksModel", name := "copies", desc := "([JI[JII)V" } : Jvm.MethodName) prog_28_method_14_code (6 : Nat) (Option.none : Option Jvm.ClassFile.FieldType)) ∈ lw_all := lw_g (lw_at lw_m11 220 rfl) rfl
theorem q2740 : (Jvm.Cond.methodLink "SpokenMarksModel" (303 : Nat) ({ cls := "SpokenMarksModel", name := "starts", desc := "(I)V" } : Jvm.MethodName)) ∈ lw_all := lw_g (lw_at lw_m11 221 rfl) rfl
theorem q2741 : (Jvm.Cond.privateMethod ({ cls := "SpokenMarksModel", name := "starts", desc := "(I)V" } : Jvm.MethodName)) ∈ lw_tbl := lw_at lw_m11 222 rfl
theorem q2742 : (Jvm.Cond.instanceMethod ({ cls := "SpokenMarksModel", name := "starts", desc := "(I)V" } : Jvm.MethodName)) ∈ lw_all := lw_g (lw_at lw_m11 223 rfl) rfl
theorem q2743 : (Jvm.Cond.code ({ cls := "SpokenMarksModel", name := "starts", desc := "(I)V" } : Jvm.MethodName) prog_28_method_60_code (2 : Nat) (Option.none : Option Jvm.ClassFile.FieldType)) ∈ lw_all := lw_g (lw_at lw_m11 224 rfl) rfl
theorem q2744 : (Jvm.Cond.methodLink "SpokenMarksModel" (247 : Nat) ({ cls := "SpokenMarksModel", name := "next", desc := "()V" } : Jvm.MethodName)) ∈ lw_all := lw_g (lw_at lw_m11 225 rfl) rfl
theorem q2745 : (Jvm.Cond.privateMethod ({ cls := "SpokenMarksModel", name := "next", desc := "()V" } : Jvm.MethodName)) ∈ lw_tbl := lw_at lw_m11 226 rfl
theorem q2746 : (Jvm.Cond.instanceMethod ({ cls := "SpokenMarksModel", name := "next", desc := "()V" } : Jvm.MethodName)) ∈ lw_all := lw_g (lw_at lw_m11 227 rfl) rfl
theorem q2747 : (Jvm.Cond.code ({ cls := "SpokenMarksModel", name := "next", desc := "()V" } : Jvm.MethodName) prog_28_method_59_code (1 : Nat) (Option.none : Option Jvm.ClassFile.FieldType)) ∈ lw_all := lw_g (lw_at lw_m11 228 rfl) rfl
theorem q2748 : (Jvm.Cond.methodLink "SpokenMarksModel" (225 : Nat) ({ cls := "SpokenMarksModel", name := "byteAt", desc := "(I)I" } : Jvm.MethodName)) ∈ lw_all := lw_g (lw_at lw_m11 229 rfl) rfl
theorem q2749 : (Jvm.Cond.privateMethod ({ cls := "SpokenMarksModel", name := "byteAt", desc := "(I)I" } : Jvm.MethodName)) ∈ lw_tbl := lw_at lw_m11 230 rfl
theorem q2750 : (Jvm.Cond.instanceMethod ({ cls := "SpokenMarksModel", name := "byteAt", desc := "(I)I" } : Jvm.MethodName)) ∈ lw_all := lw_g (lw_at lw_m11 231 rfl) rfl
theorem q2751 : (Jvm.Cond.code ({ cls := "SpokenMarksModel", name := "byteAt", desc := "(I)I" } : Jvm.MethodName) prog_28_method_55_code (2 : Nat) (Option.some Jvm.ClassFile.FieldType.int)) ∈ lw_all := lw_g (lw_at lw_m11 232 rfl) rfl
theorem q2752 : (Jvm.Cond.methodLink "SpokenMarksModel" (238 : Nat) ({ cls := "SpokenMarksModel", name := "isLetter", desc := "(I)Z" } : Jvm.MethodName)) ∈ lw_all := lw_g (lw_at lw_m11 233 rfl) rfl
theorem q2753 : (Jvm.Cond.static ({ cls := "SpokenMarksModel", name := "isLetter", desc := "(I)Z" } : Jvm.MethodName)) ∈ lw_all := lw_g (lw_at lw_m11 234 rfl) rfl
theorem q2754 : (Jvm.Cond.code ({ cls := "SpokenMarksModel", name := "isLetter", desc := "(I)Z" } : Jvm.MethodName) prog_28_method_56_code (1 : Nat) (Option.some Jvm.ClassFile.FieldType.boolean)) ∈ lw_all := lw_g (lw_at lw_m11 235 rfl) rfl
theorem q2755 : (Jvm.Cond.methodLink "SpokenMarksModel" (228 : Nat) ({ cls := "SpokenMarksModel", name := "isFigure", desc := "(I)Z" } : Jvm.MethodName)) ∈ lw_all := lw_g (lw_at lw_m11 236 rfl) rfl
theorem q2756 : (Jvm.Cond.static ({ cls := "SpokenMarksModel", name := "isFigure", desc := "(I)Z" } : Jvm.MethodName)) ∈ lw_all := lw_g (lw_at lw_m11 237 rfl) rfl
theorem q2757 : (Jvm.Cond.code ({ cls := "SpokenMarksModel", name := "isFigure", desc := "(I)Z" } : Jvm.MethodName) prog_28_method_57_code (1 : Nat) (Option.some Jvm.ClassFile.FieldType.boolean)) ∈ lw_all := lw_g (lw_at lw_m11 238 rfl) rfl
theorem q2758 : (Jvm.Cond.methodLink "SpokenMarksModel" (241 : Nat) ({ cls := "SpokenMarksModel", name := "readsNumber", desc := "()V" } : Jvm.MethodName)) ∈ lw_all := lw_g (lw_at lw_m11 239 rfl) rfl
theorem q2759 : (Jvm.Cond.privateMethod ({ cls := "SpokenMarksModel", name := "readsNumber", desc := "()V" } : Jvm.MethodName)) ∈ lw_tbl := lw_at lw_m12 0 rfl
theorem q2760 : (Jvm.Cond.instanceMethod ({ cls := "SpokenMarksModel", name := "readsNumber", desc := "()V" } : Jvm.MethodName)) ∈ lw_all := lw_g (lw_at lw_m12 1 rfl) rfl
theorem q2761 : (Jvm.Cond.code ({ cls := "SpokenMarksModel", name := "readsNumber", desc := "()V" } : Jvm.MethodName) prog_28_method_58_code (1 : Nat) (Option.none : Option Jvm.ClassFile.FieldType)) ∈ lw_all := lw_g (lw_at lw_m12 2 rfl) rfl
theorem q2762 : (Jvm.Cond.constant "SpokenMarksModel" (231 : Nat) (9999999 : Int32)) ∈ lw_all := lw_g (lw_at lw_m12 3 rfl) rfl
theorem q2763 : (Jvm.Cond.methodLink "SpokenMarksModel" (306 : Nat) ({ cls := "SpokenMarksModel", name := "readsText", desc := "()V" } : Jvm.MethodName)) ∈ lw_all := lw_g (lw_at lw_m12 4 rfl) rfl
theorem q2764 : (Jvm.Cond.privateMethod ({ cls := "SpokenMarksModel", name := "readsText", desc := "()V" } : Jvm.MethodName)) ∈ lw_tbl := lw_at lw_m12 5 rfl
theorem q2765 : (Jvm.Cond.instanceMethod ({ cls := "SpokenMarksModel", name := "readsText", desc := "()V" } : Jvm.MethodName)) ∈ lw_all := lw_g (lw_at lw_m12 6 rfl) rfl
theorem q2766 : (Jvm.Cond.code ({ cls := "SpokenMarksModel", name := "readsText", desc := "()V" } : Jvm.MethodName) prog_28_method_70_code (4 : Nat) (Option.none : Option Jvm.ClassFile.FieldType)) ∈ lw_all := lw_g (lw_at lw_m12 7 rfl) rfl
theorem q2767 : (Jvm.Cond.stringRef "SpokenMarksModel" (263 : Nat) "shelves") ∈ lw_tbl := lw_at lw_m12 8 rfl
theorem q2768 : (Jvm.Cond.methodLink "SpokenMarksModel" (265 : Nat) ({ cls := "SpokenMarksModel", name := "isKey", desc := "(Ljava/lang/String;)Z" } : Jvm.MethodName)) ∈ lw_all := lw_g (lw_at lw_m12 9 rfl) rfl
theorem q2769 : (Jvm.Cond.privateMethod ({ cls := "SpokenMarksModel", name := "isKey", desc := "(Ljava/lang/String;)Z" } : Jvm.MethodName)) ∈ lw_tbl := lw_at lw_m12 10 rfl
theorem q2770 : (Jvm.Cond.instanceMethod ({ cls := "SpokenMarksModel", name := "isKey", desc := "(Ljava/lang/String;)Z" } : Jvm.MethodName)) ∈ lw_all := lw_g (lw_at lw_m12 11 rfl) rfl
theorem q2771 : (Jvm.Cond.code ({ cls := "SpokenMarksModel", name := "isKey", desc := "(Ljava/lang/String;)Z" } : Jvm.MethodName) prog_28_method_62_code (3 : Nat) (Option.some Jvm.ClassFile.FieldType.boolean)) ∈ lw_all := lw_g (lw_at lw_m12 12 rfl) rfl
theorem q2772 : (Jvm.Cond.methodLink "SpokenMarksModel" (250 : Nat) ({ cls := "SpokenMarksModel", name := "errs", desc := "(I)V" } : Jvm.MethodName)) ∈ lw_all := lw_g (lw_at lw_m12 13 rfl) rfl
theorem q2773 : (Jvm.Cond.privateMethod ({ cls := "SpokenMarksModel", name := "errs", desc := "(I)V" } : Jvm.MethodName)) ∈ lw_tbl := lw_at lw_m12 14 rfl
theorem q2774 : (Jvm.Cond.instanceMethod ({ cls := "SpokenMarksModel", name := "errs", desc := "(I)V" } : Jvm.MethodName)) ∈ lw_all := lw_g (lw_at lw_m12 15 rfl) rfl
theorem q2775 : (Jvm.Cond.code ({ cls := "SpokenMarksModel", name := "errs", desc := "(I)V" } : Jvm.MethodName) prog_28_method_61_code (2 : Nat) (Option.none : Option Jvm.ClassFile.FieldType)) ∈ lw_all := lw_g (lw_at lw_m12 16 rfl) rfl
theorem q2776 : (Jvm.Cond.methodLink "SpokenMarksModel" (269 : Nat) ({ cls := "SpokenMarksModel", name := "number0", desc := "(II)I" } : Jvm.MethodName)) ∈ lw_all := lw_g (lw_at lw_m12 17 rfl) rfl
theorem q2777 : (Jvm.Cond.privateMethod ({ cls := "SpokenMarksModel", name := "number0", desc := "(II)I" } : Jvm.MethodName)) ∈ lw_tbl := lw_at lw_m12 18 rfl
theorem q2778 : (Jvm.Cond.instanceMethod ({ cls := "SpokenMarksModel", name := "number0", desc := "(II)I" } : Jvm.MethodName)) ∈ lw_all := lw_g (lw_at lw_m12 19 rfl) rfl
theorem q2779 : (Jvm.Cond.code ({ cls := "SpokenMarksModel", name := "number0", desc := "(II)I" } : Jvm.MethodName) prog_28_method_64_code (4 : Nat) (Option.some Jvm.ClassFile.FieldType.int)) ∈ lw_all := lw_g (lw_at lw_m12 20 rfl) rfl
theorem q2780 : (Jvm.Cond.methodLink "SpokenMarksModel" (272 : Nat) ({ cls := "SpokenMarksModel", name := "must", desc := "(I)V" } : Jvm.MethodName)) ∈ lw_all := lw_g (lw_at lw_m12 21 rfl) rfl
theorem q2781 : (Jvm.Cond.privateMethod ({ cls := "SpokenMarksModel", name := "must", desc := "(I)V" } : Jvm.MethodName)) ∈ lw_tbl := lw_at lw_m12 22 rfl
theorem q2782 : (Jvm.Cond.instanceMethod ({ cls := "SpokenMarksModel", name := "must", desc := "(I)V" } : Jvm.MethodName)) ∈ lw_all := lw_g (lw_at lw_m12 23 rfl) rfl
theorem q2783 : (Jvm.Cond.code ({ cls := "SpokenMarksModel", name := "must", desc := "(I)V" } : Jvm.MethodName) prog_28_method_63_code (2 : Nat) (Option.none : Option Jvm.ClassFile.FieldType)) ∈ lw_all := lw_g (lw_at lw_m12 24 rfl) rfl
theorem q2784 : (Jvm.Cond.stringRef "SpokenMarksModel" (275 : Nat) "say") ∈ lw_tbl := lw_at lw_m12 25 rfl
theorem q2785 : (Jvm.Cond.methodLink "SpokenMarksModel" (277 : Nat) ({ cls := "SpokenMarksModel", name := "readsRule", desc := "()V" } : Jvm.MethodName)) ∈ lw_all := lw_g (lw_at lw_m12 26 rfl) rfl
theorem q2786 : (Jvm.Cond.privateMethod ({ cls := "SpokenMarksModel", name := "readsRule", desc := "()V" } : Jvm.MethodName)) ∈ lw_tbl := lw_at lw_m12 27 rfl
theorem q2787 : (Jvm.Cond.instanceMethod ({ cls := "SpokenMarksModel", name := "readsRule", desc := "()V" } : Jvm.MethodName)) ∈ lw_all := lw_g (lw_at lw_m12 28 rfl) rfl
theorem q2788 : (Jvm.Cond.code ({ cls := "SpokenMarksModel", name := "readsRule", desc := "()V" } : Jvm.MethodName) prog_28_method_71_code (6 : Nat) (Option.none : Option Jvm.ClassFile.FieldType)) ∈ lw_all := lw_g (lw_at lw_m12 29 rfl) rfl
theorem q2789 : (Jvm.Cond.methodLink "SpokenMarksModel" (118 : Nat) ({ cls := "SpokenMarksModel", name := "head", desc := "(I)I" } : Jvm.MethodName)) ∈ lw_all := lw_g (lw_at lw_m12 30 rfl) rfl
theorem q2790 : (Jvm.Cond.privateMethod ({ cls := "SpokenMarksModel", name := "head", desc := "(I)I" } : Jvm.MethodName)) ∈ lw_tbl := lw_at lw_m12 31 rfl
theorem q2791 : (Jvm.Cond.instanceMethod ({ cls := "SpokenMarksModel", name := "head", desc := "(I)I" } : Jvm.MethodName)) ∈ lw_all := lw_g (lw_at lw_m12 32 rfl) rfl
theorem q2792 : (Jvm.Cond.code ({ cls := "SpokenMarksModel", name := "head", desc := "(I)I" } : Jvm.MethodName) prog_28_method_15_code (2 : Nat) (Option.some Jvm.ClassFile.FieldType.int)) ∈ lw_all := lw_g (lw_at lw_m12 33 rfl) rfl
theorem q2793 : (Jvm.Cond.methodLink "SpokenMarksModel" (253 : Nat) ({ cls := "SpokenMarksModel", name := "wordHere", desc := "()J" } : Jvm.MethodName)) ∈ lw_all := lw_g (lw_at lw_m12 34 rfl) rfl
theorem q2794 : (Jvm.Cond.privateMethod ({ cls := "SpokenMarksModel", name := "wordHere", desc := "()J" } : Jvm.MethodName)) ∈ lw_tbl := lw_at lw_m12 35 rfl
theorem q2795 : (Jvm.Cond.instanceMethod ({ cls := "SpokenMarksModel", name := "wordHere", desc := "()J" } : Jvm.MethodName)) ∈ lw_all := lw_g (lw_at lw_m12 36 rfl) rfl
theorem q2796 : (Jvm.Cond.code ({ cls := "SpokenMarksModel", name := "wordHere", desc := "()J" } : Jvm.MethodName) prog_28_method_65_code (2 : Nat) (Option.some Jvm.ClassFile.FieldType.long)) ∈ lw_all := lw_g (lw_at lw_m12 37 rfl) rfl
theorem q2797 : (Jvm.Cond.methodLink "SpokenMarksModel" (46 : Nat) ({ cls := "SpokenMarksModel", name := "spelled", desc := "()J" } : Jvm.MethodName)) ∈ lw_all := lw_g (lw_at lw_m12 38 rfl) rfl
theorem q2798 : (Jvm.Cond.privateMethod ({ cls := "SpokenMarksModel", name := "spelled", desc := "()J" } : Jvm.MethodName)) ∈ lw_tbl := lw_at lw_m12 39 rfl
theorem q2799 : (Jvm.Cond.instanceMethod ({ cls := "SpokenMarksModel", name := "spelled", desc := "()J" } : Jvm.MethodName)) ∈ lw_all := lw_g (lw_at lw_m12 40 rfl) rfl
theorem q2800 : (Jvm.Cond.code ({ cls := "SpokenMarksModel", name := "spelled", desc := "()J" } : Jvm.MethodName) prog_28_method_5_code (4 : Nat) (Option.some Jvm.ClassFile.FieldType.long)) ∈ lw_all := lw_g (lw_at lw_m12 41 rfl) rfl
theorem q2801 : (Jvm.Cond.constantLong "SpokenMarksModel" (13 : Nat) (27 : Int64)) ∈ lw_all := lw_g (lw_at lw_m12 42 rfl) rfl
theorem q2802 : (Jvm.Cond.constantLong "SpokenMarksModel" (7 : Nat) (1000000 : Int64)) ∈ lw_all := lw_g (lw_at lw_m12 43 rfl) rfl
theorem q2803 : (Jvm.Cond.methodLink "SpokenMarksModel" (125 : Nat) ({ cls := "SpokenMarksModel", name := "ruleFor", desc := "(J)I" } : Jvm.MethodName)) ∈ lw_all := lw_g (lw_at lw_m12 44 rfl) rfl
theorem q2804 : (Jvm.Cond.privateMethod ({ cls := "SpokenMarksModel", name := "ruleFor", desc := "(J)I" } : Jvm.MethodName)) ∈ lw_tbl := lw_at lw_m12 45 rfl
theorem q2805 : (Jvm.Cond.instanceMethod ({ cls := "SpokenMarksModel", name := "ruleFor", desc := "(J)I" } : Jvm.MethodName)) ∈ lw_all := lw_g (lw_at lw_m12 46 rfl) rfl
theorem q2806 : (Jvm.Cond.code ({ cls := "SpokenMarksModel", name := "ruleFor", desc := "(J)I" } : Jvm.MethodName) prog_28_method_22_code (4 : Nat) (Option.some Jvm.ClassFile.FieldType.int)) ∈ lw_all := lw_g (lw_at lw_m12 47 rfl) rfl
theorem q2807 : (Jvm.Cond.methodLink "SpokenMarksModel" (121 : Nat) ({ cls := "SpokenMarksModel", name := "ruleWord", desc := "(II)J" } : Jvm.MethodName)) ∈ lw_all := lw_g (lw_at lw_m12 48 rfl) rfl
theorem q2808 : (Jvm.Cond.privateMethod ({ cls := "SpokenMarksModel", name := "ruleWord", desc := "(II)J" } : Jvm.MethodName)) ∈ lw_tbl := lw_at lw_m12 49 rfl
theorem q2809 : (Jvm.Cond.instanceMethod ({ cls := "SpokenMarksModel", name := "ruleWord", desc := "(II)J" } : Jvm.MethodName)) ∈ lw_all := lw_g (lw_at lw_m12 50 rfl) rfl
theorem q2810 : (Jvm.Cond.code ({ cls := "SpokenMarksModel", name := "ruleWord", desc := "(II)J" } : Jvm.MethodName) prog_28_method_21_code (3 : Nat) (Option.some Jvm.ClassFile.FieldType.long)) ∈ lw_all := lw_g (lw_at lw_m12 51 rfl) rfl
theorem q2811 : (Jvm.Cond.methodLink "SpokenMarksModel" (285 : Nat) ({ cls := "SpokenMarksModel", name := "takesWord", desc := "()J" } : Jvm.MethodName)) ∈ lw_all := lw_g (lw_at lw_m12 52 rfl) rfl
theorem q2812 : (Jvm.Cond.privateMethod ({ cls := "SpokenMarksModel", name := "takesWord", desc := "()J" } : Jvm.MethodName)) ∈ lw_tbl := lw_at lw_m12 53 rfl
theorem q2813 : (Jvm.Cond.instanceMethod ({ cls := "SpokenMarksModel", name := "takesWord", desc := "()J" } : Jvm.MethodName)) ∈ lw_all := lw_g (lw_at lw_m12 54 rfl) rfl
theorem q2814 : (Jvm.Cond.code ({ cls := "SpokenMarksModel", name := "takesWord", desc := "()J" } : Jvm.MethodName) prog_28_method_66_code (3 : Nat) (Option.some Jvm.ClassFile.FieldType.long)) ∈ lw_all := lw_g (lw_at lw_m12 55 rfl) rfl
theorem q2815 : (Jvm.Cond.methodLink "SpokenMarksModel" (288 : Nat) ({ cls := "SpokenMarksModel", name := "says", desc := "(JJ)I" } : Jvm.MethodName)) ∈ lw_all := lw_g (lw_at lw_m12 56 rfl) rfl
theorem q2816 : (Jvm.Cond.privateMethod ({ cls := "SpokenMarksModel", name := "says", desc := "(JJ)I" } : Jvm.MethodName)) ∈ lw_tbl := lw_at lw_m12 57 rfl
theorem q2817 : (Jvm.Cond.instanceMethod ({ cls := "SpokenMarksModel", name := "says", desc := "(JJ)I" } : Jvm.MethodName)) ∈ lw_all := lw_g (lw_at lw_m12 58 rfl) rfl
theorem q2818 : (Jvm.Cond.code ({ cls := "SpokenMarksModel", name := "says", desc := "(JJ)I" } : Jvm.MethodName) prog_28_method_47_code (5 : Nat) (Option.some Jvm.ClassFile.FieldType.int)) ∈ lw_all := lw_g (lw_at lw_m12 59 rfl) rfl
theorem q2819 : (Jvm.Cond.methodLink "SpokenMarksModel" (205 : Nat) ({ cls := "SpokenMarksModel", name := "ordersAnew", desc := "()I" } : Jvm.MethodName)) ∈ lw_all := lw_g (lw_at lw_m12 60 rfl) rfl
theorem q2820 : (Jvm.Cond.privateMethod ({ cls := "SpokenMarksModel", name := "ordersAnew", desc := "()I" } : Jvm.MethodName)) ∈ lw_tbl := lw_at lw_m12 61 rfl
theorem q2821 : (Jvm.Cond.instanceMethod ({ cls := "SpokenMarksModel", name := "ordersAnew", desc := "()I" } : Jvm.MethodName)) ∈ lw_all := lw_g (lw_at lw_m12 62 rfl) rfl
theorem q2822 : (Jvm.Cond.code ({ cls := "SpokenMarksModel", name := "ordersAnew", desc := "()I" } : Jvm.MethodName) prog_28_method_39_code (4 : Nat) (Option.some Jvm.ClassFile.FieldType.int)) ∈ lw_all := lw_g (lw_at lw_m12 63 rfl) rfl
theorem q2823 : (Jvm.Cond.methodLink "SpokenMarksModel" (183 : Nat) ({ cls := "SpokenMarksModel", name := "hears", desc := "(I)V" } : Jvm.MethodName)) ∈ lw_all := lw_g (lw_at lw_m12 64 rfl) rfl
theorem q2824 : (Jvm.Cond.privateMethod ({ cls := "SpokenMarksModel", name := "hears", desc := "(I)V" } : Jvm.MethodName)) ∈ lw_tbl := lw_at lw_m12 65 rfl
theorem q2825 : (Jvm.Cond.instanceMethod ({ cls := "SpokenMarksModel", name := "hears", desc := "(I)V" } : Jvm.MethodName)) ∈ lw_all := lw_g (lw_at lw_m12 66 rfl) rfl
theorem q2826 : (Jvm.Cond.code ({ cls := "SpokenMarksModel", name := "hears", desc := "(I)V" } : Jvm.MethodName) prog_28_method_27_code (3 : Nat) (Option.none : Option Jvm.ClassFile.FieldType)) ∈ lw_all := lw_g (lw_at lw_m12 67 rfl) rfl
theorem q2827 : (Jvm.Cond.methodLink "SpokenMarksModel" (129 : Nat) ({ cls := "SpokenMarksModel", name := "of", desc := "(II)I" } : Jvm.MethodName)) ∈ lw_all := lw_g (lw_at lw_m12 68 rfl) rfl
theorem q2828 : (Jvm.Cond.privateMethod ({ cls := "SpokenMarksModel", name := "of", desc := "(II)I" } : Jvm.MethodName)) ∈ lw_tbl := lw_at lw_m12 69 rfl
theorem q2829 : (Jvm.Cond.instanceMethod ({ cls := "SpokenMarksModel", name := "of", desc := "(II)I" } : Jvm.MethodName)) ∈ lw_all := lw_g (lw_at lw_m12 70 rfl) rfl
theorem q2830 : (Jvm.Cond.code ({ cls := "SpokenMarksModel", name := "of", desc := "(II)I" } : Jvm.MethodName) prog_28_method_16_code (3 : Nat) (Option.some Jvm.ClassFile.FieldType.int)) ∈ lw_all := lw_g (lw_at lw_m12 71 rfl) rfl
theorem q2831 : (Jvm.Cond.methodLink "SpokenMarksModel" (137 : Nat) ({ cls := "SpokenMarksModel", name := "part", desc := "(II)J" } : Jvm.MethodName)) ∈ lw_all := lw_g (lw_at lw_m12 72 rfl) rfl
theorem q2832 : (Jvm.Cond.privateMethod ({ cls := "SpokenMarksModel", name := "part", desc := "(II)J" } : Jvm.MethodName)) ∈ lw_tbl := lw_at lw_m12 73 rfl
theorem q2833 : (Jvm.Cond.instanceMethod ({ cls := "SpokenMarksModel", name := "part", desc := "(II)J" } : Jvm.MethodName)) ∈ lw_all := lw_g (lw_at lw_m12 74 rfl) rfl
theorem q2834 : (Jvm.Cond.code ({ cls := "SpokenMarksModel", name := "part", desc := "(II)J" } : Jvm.MethodName) prog_28_method_17_code (3 : Nat) (Option.some Jvm.ClassFile.FieldType.long)) ∈ lw_all := lw_g (lw_at lw_m12 75 rfl) rfl
theorem q2835 : (Jvm.Cond.methodLink "SpokenMarksModel" (140 : Nat) ({ cls := "SpokenMarksModel", name := "ear", desc := "(J)J" } : Jvm.MethodName)) ∈ lw_all := lw_g (lw_at lw_m12 76 rfl) rfl
theorem q2836 : (Jvm.Cond.privateMethod ({ cls := "SpokenMarksModel", name := "ear", desc := "(J)J" } : Jvm.MethodName)) ∈ lw_tbl := lw_at lw_m12 77 rfl
theorem q2837 : (Jvm.Cond.instanceMethod ({ cls := "SpokenMarksModel", name := "ear", desc := "(J)J" } : Jvm.MethodName)) ∈ lw_all := lw_g (lw_at lw_m12 78 rfl) rfl
theorem q2838 : (Jvm.Cond.code ({ cls := "SpokenMarksModel", name := "ear", desc := "(J)J" } : Jvm.MethodName) prog_28_method_11_code (4 : Nat) (Option.some Jvm.ClassFile.FieldType.long)) ∈ lw_all := lw_g (lw_at lw_m12 79 rfl) rfl
theorem q2839 : (Jvm.Cond.methodLink "SpokenMarksModel" (26 : Nat) ({ cls := "SpokenMarksModel", name := "isWordPart", desc := "(J)Z" } : Jvm.MethodName)) ∈ lw_all := lw_g (lw_at lw_m12 80 rfl) rfl
theorem q2840 : (Jvm.Cond.static ({ cls := "SpokenMarksModel", name := "isWordPart", desc := "(J)Z" } : Jvm.MethodName)) ∈ lw_all := lw_g (lw_at lw_m12 81 rfl) rfl
theorem q2841 : (Jvm.Cond.code ({ cls := "SpokenMarksModel", name := "isWordPart", desc := "(J)Z" } : Jvm.MethodName) prog_28_method_6_code (2 : Nat) (Option.some Jvm.ClassFile.FieldType.boolean)) ∈ lw_all := lw_g (lw_at lw_m12 82 rfl) rfl
theorem q2842 : (Jvm.Cond.methodLink "SpokenMarksModel" (30 : Nat) ({ cls := "SpokenMarksModel", name := "spokenOf", desc := "(J)J" } : Jvm.MethodName)) ∈ lw_all := lw_g (lw_at lw_m12 83 rfl) rfl
theorem q2843 : (Jvm.Cond.privateMethod ({ cls := "SpokenMarksModel", name := "spokenOf", desc := "(J)J" } : Jvm.MethodName)) ∈ lw_tbl := lw_at lw_m12 84 rfl
theorem q2844 : (Jvm.Cond.instanceMethod ({ cls := "SpokenMarksModel", name := "spokenOf", desc := "(J)J" } : Jvm.MethodName)) ∈ lw_all := lw_g (lw_at lw_m12 85 rfl) rfl
theorem q2845 : (Jvm.Cond.code ({ cls := "SpokenMarksModel", name := "spokenOf", desc := "(J)J" } : Jvm.MethodName) prog_28_method_23_code (4 : Nat) (Option.some Jvm.ClassFile.FieldType.long)) ∈ lw_all := lw_g (lw_at lw_m12 86 rfl) rfl
theorem q2846 : (Jvm.Cond.methodLink "SpokenMarksModel" (34 : Nat) ({ cls := "SpokenMarksModel", name := "spells", desc := "(J)V" } : Jvm.MethodName)) ∈ lw_all := lw_g (lw_at lw_m12 87 rfl) rfl
theorem q2847 : (Jvm.Cond.privateMethod ({ cls := "SpokenMarksModel", name := "spells", desc := "(J)V" } : Jvm.MethodName)) ∈ lw_tbl := lw_at lw_m12 88 rfl
theorem q2848 : (Jvm.Cond.instanceMethod ({ cls := "SpokenMarksModel", name := "spells", desc := "(J)V" } : Jvm.MethodName)) ∈ lw_all := lw_g (lw_at lw_m12 89 rfl) rfl
theorem q2849 : (Jvm.Cond.code ({ cls := "SpokenMarksModel", name := "spells", desc := "(J)V" } : Jvm.MethodName) prog_28_method_4_code (6 : Nat) (Option.none : Option Jvm.ClassFile.FieldType)) ∈ lw_all := lw_g (lw_at lw_m12 90 rfl) rfl
theorem q2850 : (Jvm.Cond.methodLink "SpokenMarksModel" (38 : Nat) ({ cls := "SpokenMarksModel", name := "joins", desc := "(CCC)V" } : Jvm.MethodName)) ∈ lw_all := lw_g (lw_at lw_m12 91 rfl) rfl
theorem q2851 : (Jvm.Cond.privateMethod ({ cls := "SpokenMarksModel", name := "joins", desc := "(CCC)V" } : Jvm.MethodName)) ∈ lw_tbl := lw_at lw_m12 92 rfl
theorem q2852 : (Jvm.Cond.instanceMethod ({ cls := "SpokenMarksModel", name := "joins", desc := "(CCC)V" } : Jvm.MethodName)) ∈ lw_all := lw_g (lw_at lw_m12 93 rfl) rfl
theorem q2853 : (Jvm.Cond.code ({ cls := "SpokenMarksModel", name := "joins", desc := "(CCC)V" } : Jvm.MethodName) prog_28_method_9_code (5 : Nat) (Option.none : Option Jvm.ClassFile.FieldType)) ∈ lw_all := lw_g (lw_at lw_m12 94 rfl) rfl
theorem q2854 : (Jvm.Cond.methodLink "SpokenMarksModel" (18 : Nat) ({ cls := "SpokenMarksModel", name := "letter", desc := "(C)I" } : Jvm.MethodName)) ∈ lw_all := lw_g (lw_at lw_m12 95 rfl) rfl
theorem q2855 : (Jvm.Cond.static ({ cls := "SpokenMarksModel", name := "letter", desc := "(C)I" } : Jvm.MethodName)) ∈ lw_all := lw_g (lw_at lw_m12 96 rfl) rfl
theorem q2856 : (Jvm.Cond.code ({ cls := "SpokenMarksModel", name := "letter", desc := "(C)I" } : Jvm.MethodName) prog_28_method_8_code (1 : Nat) (Option.some Jvm.ClassFile.FieldType.int)) ∈ lw_all := lw_g (lw_at lw_m12 97 rfl) rfl
theorem q2857 : (Jvm.Cond.methodLink "SpokenMarksModel" (22 : Nat) ({ cls := "SpokenMarksModel", name := "goes", desc := "(I)V" } : Jvm.MethodName)) ∈ lw_all := lw_g (lw_at lw_m12 98 rfl) rfl
theorem q2858 : (Jvm.Cond.privateMethod ({ cls := "SpokenMarksModel", name := "goes", desc := "(I)V" } : Jvm.MethodName)) ∈ lw_tbl := lw_at lw_m12 99 rfl
theorem q2859 : (Jvm.Cond.instanceMethod ({ cls := "SpokenMarksModel", name := "goes", desc := "(I)V" } : Jvm.MethodName)) ∈ lw_all := lw_g (lw_at lw_m12 100 rfl) rfl
theorem q2860 : (Jvm.Cond.code ({ cls := "SpokenMarksModel", name := "goes", desc := "(I)V" } : Jvm.MethodName) prog_28_method_7_code (3 : Nat) (Option.none : Option Jvm.ClassFile.FieldType)) ∈ lw_all := lw_g (lw_at lw_m12 101 rfl) rfl
theorem q2861 : (Jvm.Cond.methodLink "SpokenMarksModel" (42 : Nat) ({ cls := "SpokenMarksModel", name := "heard", desc := "(I)I" } : Jvm.MethodName)) ∈ lw_all := lw_g (lw_at lw_m12 102 rfl) rfl
theorem q2862 : (Jvm.Cond.static ({ cls := "SpokenMarksModel", name := "heard", desc := "(I)I" } : Jvm.MethodName)) ∈ lw_all := lw_g (lw_at lw_m12 103 rfl) rfl
theorem q2863 : (Jvm.Cond.code ({ cls := "SpokenMarksModel", name := "heard", desc := "(I)I" } : Jvm.MethodName) prog_28_method_10_code (1 : Nat) (Option.some Jvm.ClassFile.FieldType.int)) ∈ lw_all := lw_g (lw_at lw_m12 104 rfl) rfl
theorem q2864 : (Jvm.Cond.methodLink "SpokenMarksModel" (143 : Nat) ({ cls := "SpokenMarksModel", name := "lays", desc := "(IIJ)V" } : Jvm.MethodName)) ∈ lw_all := lw_g (lw_at lw_m12 105 rfl) rfl
theorem q2865 : (Jvm.Cond.privateMethod ({ cls := "SpokenMarksModel", name := "lays", desc := "(IIJ)V" } : Jvm.MethodName)) ∈ lw_tbl := lw_at lw_m12 106 rfl
theorem q2866 : (Jvm.Cond.instanceMethod ({ cls := "SpokenMarksModel", name := "lays", desc := "(IIJ)V" } : Jvm.MethodName)) ∈ lw_all := lw_g (lw_at lw_m12 107 rfl) rfl
theorem q2867 : (Jvm.Cond.code ({ cls := "SpokenMarksModel", name := "lays", desc := "(IIJ)V" } : Jvm.MethodName) prog_28_method_19_code (5 : Nat) (Option.none : Option Jvm.ClassFile.FieldType)) ∈ lw_all := lw_g (lw_at lw_m12 108 rfl) rfl
theorem q2868 : (Jvm.Cond.methodLink "SpokenMarksModel" (147 : Nat) ({ cls := "SpokenMarksModel", name := "compares", desc := "(II)I" } : Jvm.MethodName)) ∈ lw_all := lw_g (lw_at lw_m12 109 rfl) rfl
theorem q2869 : (Jvm.Cond.privateMethod ({ cls := "SpokenMarksModel", name := "compares", desc := "(II)I" } : Jvm.MethodName)) ∈ lw_tbl := lw_at lw_m12 110 rfl
theorem q2870 : (Jvm.Cond.instanceMethod ({ cls := "SpokenMarksModel", name := "compares", desc := "(II)I" } : Jvm.MethodName)) ∈ lw_all := lw_g (lw_at lw_m12 111 rfl) rfl
theorem q2871 : (Jvm.Cond.code ({ cls := "SpokenMarksModel", name := "compares", desc := "(II)I" } : Jvm.MethodName) prog_28_method_26_code (4 : Nat) (Option.some Jvm.ClassFile.FieldType.int)) ∈ lw_all := lw_g (lw_at lw_m12 112 rfl) rfl
theorem q2872 : (Jvm.Cond.methodLink "SpokenMarksModel" (133 : Nat) ({ cls := "SpokenMarksModel", name := "sign", desc := "(III)I" } : Jvm.MethodName)) ∈ lw_all := lw_g (lw_at lw_m12 113 rfl) rfl
theorem q2873 : (Jvm.Cond.privateMethod ({ cls := "SpokenMarksModel", name := "sign", desc := "(III)I" } : Jvm.MethodName)) ∈ lw_tbl := lw_at lw_m12 114 rfl
theorem q2874 : (Jvm.Cond.instanceMethod ({ cls := "SpokenMarksModel", name := "sign", desc := "(III)I" } : Jvm.MethodName)) ∈ lw_all := lw_g (lw_at lw_m12 115 rfl) rfl
theorem q2875 : (Jvm.Cond.code ({ cls := "SpokenMarksModel", name := "sign", desc := "(III)I" } : Jvm.MethodName) prog_28_method_25_code (11 : Nat) (Option.some Jvm.ClassFile.FieldType.int)) ∈ lw_all := lw_g (lw_at lw_m12 116 rfl) rfl
theorem q2876 : (Jvm.Cond.methodLink "SpokenMarksModel" (180 : Nat) ({ cls := "SpokenMarksModel", name := "swaps", desc := "(II)V" } : Jvm.MethodName)) ∈ lw_all := lw_g (lw_at lw_m12 117 rfl) rfl
theorem q2877 : (Jvm.Cond.privateMethod ({ cls := "SpokenMarksModel", name := "swaps", desc := "(II)V" } : Jvm.MethodName)) ∈ lw_tbl := lw_at lw_m12 118 rfl
theorem q2878 : (Jvm.Cond.instanceMethod ({ cls := "SpokenMarksModel", name := "swaps", desc := "(II)V" } : Jvm.MethodName)) ∈ lw_all := lw_g (lw_at lw_m12 119 rfl) rfl
theorem q2879 : (Jvm.Cond.code ({ cls := "SpokenMarksModel", name := "swaps", desc := "(II)V" } : Jvm.MethodName) prog_28_method_36_code (6 : Nat) (Option.none : Option Jvm.ClassFile.FieldType)) ∈ lw_all := lw_g (lw_at lw_m12 120 rfl) rfl
theorem q2880 : (Jvm.Cond.methodLink "SpokenMarksModel" (186 : Nat) ({ cls := "SpokenMarksModel", name := "respaces", desc := "()I" } : Jvm.MethodName)) ∈ lw_all := lw_g (lw_at lw_m12 121 rfl) rfl
theorem q2881 : (Jvm.Cond.privateMethod ({ cls := "SpokenMarksModel", name := "respaces", desc := "()I" } : Jvm.MethodName)) ∈ lw_tbl := lw_at lw_m12 122 rfl
theorem q2882 : (Jvm.Cond.instanceMethod ({ cls := "SpokenMarksModel", name := "respaces", desc := "()I" } : Jvm.MethodName)) ∈ lw_all := lw_g (lw_at lw_m12 123 rfl) rfl
theorem q2883 : (Jvm.Cond.code ({ cls := "SpokenMarksModel", name := "respaces", desc := "()I" } : Jvm.MethodName) prog_28_method_37_code (3 : Nat) (Option.some Jvm.ClassFile.FieldType.int)) ∈ lw_all := lw_g (lw_at lw_m12 124 rfl) rfl
theorem q2884 : (Jvm.Cond.methodLink "SpokenMarksModel" (159 : Nat) ({ cls := "SpokenMarksModel", name := "spaced", desc := "(II)I" } : Jvm.MethodName)) ∈ lw_all := lw_g (lw_at lw_m12 125 rfl) rfl
theorem q2885 : (Jvm.Cond.static ({ cls := "SpokenMarksModel", name := "spaced", desc := "(II)I" } : Jvm.MethodName)) ∈ lw_all := lw_g (lw_at lw_m12 126 rfl) rfl
theorem q2886 : (Jvm.Cond.code ({ cls := "SpokenMarksModel", name := "spaced", desc := "(II)I" } : Jvm.MethodName) prog_28_method_33_code (2 : Nat) (Option.some Jvm.ClassFile.FieldType.int)) ∈ lw_all := lw_g (lw_at lw_m12 127 rfl) rfl
theorem q2887 : (Jvm.Cond.methodLink "SpokenMarksModel" (166 : Nat) ({ cls := "SpokenMarksModel", name := "counts", desc := "(II)V" } : Jvm.MethodName)) ∈ lw_all := lw_g (lw_at lw_m12 128 rfl) rfl
theorem q2888 : (Jvm.Cond.privateMethod ({ cls := "SpokenMarksModel", name := "counts", desc := "(II)V" } : Jvm.MethodName)) ∈ lw_tbl := lw_at lw_m12 129 rfl
theorem q2889 : (Jvm.Cond.instanceMethod ({ cls := "SpokenMarksModel", name := "counts", desc := "(II)V" } : Jvm.MethodName)) ∈ lw_all := lw_g (lw_at lw_m12 130 rfl) rfl
theorem q2890 : (Jvm.Cond.code ({ cls := "SpokenMarksModel", name := "counts", desc := "(II)V" } : Jvm.MethodName) prog_28_method_20_code (3 : Nat) (Option.none : Option Jvm.ClassFile.FieldType)) ∈ lw_all := lw_g (lw_at lw_m12 131 rfl) rfl
theorem q2891 : (Jvm.Cond.stringRef "SpokenMarksModel" (280 : Nat) "mark") ∈ lw_tbl := lw_at lw_m12 132 rfl
theorem q2892 : (Jvm.Cond.methodLink "SpokenMarksModel" (282 : Nat) ({ cls := "SpokenMarksModel", name := "readsMark", desc := "()V" } : Jvm.MethodName)) ∈ lw_all := lw_g (lw_at lw_m12 133 rfl) rfl
theorem q2893 : (Jvm.Cond.privateMethod ({ cls := "SpokenMarksModel", name := "readsMark", desc := "()V" } : Jvm.MethodName)) ∈ lw_tbl := lw_at lw_m12 134 rfl
theorem q2894 : (Jvm.Cond.instanceMethod ({ cls := "SpokenMarksModel", name := "readsMark", desc := "()V" } : Jvm.MethodName)) ∈ lw_all := lw_g (lw_at lw_m12 135 rfl) rfl
theorem q2895 : (Jvm.Cond.code ({ cls := "SpokenMarksModel", name := "readsMark", desc := "()V" } : Jvm.MethodName) prog_28_method_72_code (3 : Nat) (Option.none : Option Jvm.ClassFile.FieldType)) ∈ lw_all := lw_g (lw_at lw_m12 136 rfl) rfl
theorem q2896 : (Jvm.Cond.methodLink "SpokenMarksModel" (292 : Nat) ({ cls := "SpokenMarksModel", name := "readsParts", desc := "()V" } : Jvm.MethodName)) ∈ lw_all := lw_g (lw_at lw_m12 137 rfl) rfl
theorem q2897 : (Jvm.Cond.privateMethod ({ cls := "SpokenMarksModel", name := "readsParts", desc := "()V" } : Jvm.MethodName)) ∈ lw_tbl := lw_at lw_m12 138 rfl
theorem q2898 : (Jvm.Cond.instanceMethod ({ cls := "SpokenMarksModel", name := "readsParts", desc := "()V" } : Jvm.MethodName)) ∈ lw_all := lw_g (lw_at lw_m12 139 rfl) rfl
theorem q2899 : (Jvm.Cond.code ({ cls := "SpokenMarksModel", name := "readsParts", desc := "()V" } : Jvm.MethodName) prog_28_method_68_code (1 : Nat) (Option.none : Option Jvm.ClassFile.FieldType)) ∈ lw_all := lw_g (lw_at lw_m12 140 rfl) rfl
theorem q2900 : (Jvm.Cond.methodLink "SpokenMarksModel" (260 : Nat) ({ cls := "SpokenMarksModel", name := "readsPart", desc := "()V" } : Jvm.MethodName)) ∈ lw_all := lw_g (lw_at lw_m12 141 rfl) rfl
theorem q2901 : (Jvm.Cond.privateMethod ({ cls := "SpokenMarksModel", name := "readsPart", desc := "()V" } : Jvm.MethodName)) ∈ lw_tbl := lw_at lw_m12 142 rfl
theorem q2902 : (Jvm.Cond.instanceMethod ({ cls := "SpokenMarksModel", name := "readsPart", desc := "()V" } : Jvm.MethodName)) ∈ lw_all := lw_g (lw_at lw_m12 143 rfl) rfl
theorem q2903 : (Jvm.Cond.code ({ cls := "SpokenMarksModel", name := "readsPart", desc := "()V" } : Jvm.MethodName) prog_28_method_67_code (3 : Nat) (Option.none : Option Jvm.ClassFile.FieldType)) ∈ lw_all := lw_g (lw_at lw_m12 144 rfl) rfl
theorem q2904 : (Jvm.Cond.constant "SpokenMarksModel" (256 : Nat) (99999 : Int32)) ∈ lw_all := lw_g (lw_at lw_m12 145 rfl) rfl
theorem q2905 : (Jvm.Cond.methodLink "SpokenMarksModel" (295 : Nat) ({ cls := "SpokenMarksModel", name := "laysGuest", desc := "([JII)V" } : Jvm.MethodName)) ∈ lw_all := lw_g (lw_at lw_m12 146 rfl) rfl
theorem q2906 : (Jvm.Cond.privateMethod ({ cls := "SpokenMarksModel", name := "laysGuest", desc := "([JII)V" } : Jvm.MethodName)) ∈ lw_tbl := lw_at lw_m12 147 rfl
theorem q2907 : (Jvm.Cond.instanceMethod ({ cls := "SpokenMarksModel", name := "laysGuest", desc := "([JII)V" } : Jvm.MethodName)) ∈ lw_all := lw_g (lw_at lw_m12 148 rfl) rfl
theorem q2908 : (Jvm.Cond.code ({ cls := "SpokenMarksModel", name := "laysGuest", desc := "([JII)V" } : Jvm.MethodName) prog_28_method_69_code (5 : Nat) (Option.none : Option Jvm.ClassFile.FieldType)) ∈ lw_all := lw_g (lw_at lw_m12 149 rfl) rfl
theorem q2909 : (Jvm.Cond.methodLink "SpokenMarksModel" (199 : Nat) ({ cls := "SpokenMarksModel", name := "twin", desc := "()I" } : Jvm.MethodName)) ∈ lw_all := lw_g (lw_at lw_m12 150 rfl) rfl
theorem q2910 : (Jvm.Cond.privateMethod ({ cls := "SpokenMarksModel", name := "twin", desc := "()I" } : Jvm.MethodName)) ∈ lw_tbl := lw_at lw_m12 151 rfl
theorem q2911 : (Jvm.Cond.instanceMethod ({ cls := "SpokenMarksModel", name := "twin", desc := "()I" } : Jvm.MethodName)) ∈ lw_all := lw_g (lw_at lw_m12 152 rfl) rfl
theorem q2912 : (Jvm.Cond.code ({ cls := "SpokenMarksModel", name := "twin", desc := "()I" } : Jvm.MethodName) prog_28_method_29_code (2 : Nat) (Option.some Jvm.ClassFile.FieldType.int)) ∈ lw_all := lw_g (lw_at lw_m12 153 rfl) rfl
theorem q2913 : (Jvm.Cond.methodLink "SpokenMarksModel" (150 : Nat) ({ cls := "SpokenMarksModel", name := "guestRank", desc := "()I" } : Jvm.MethodName)) ∈ lw_all := lw_g (lw_at lw_m12 154 rfl) rfl
theorem q2914 : (Jvm.Cond.privateMethod ({ cls := "SpokenMarksModel", name := "guestRank", desc := "()I" } : Jvm.MethodName)) ∈ lw_tbl := lw_at lw_m12 155 rfl
theorem q2915 : (Jvm.Cond.instanceMethod ({ cls := "SpokenMarksModel", name := "guestRank", desc := "()I" } : Jvm.MethodName)) ∈ lw_all := lw_g (lw_at lw_m12 156 rfl) rfl
theorem q2916 : (Jvm.Cond.code ({ cls := "SpokenMarksModel", name := "guestRank", desc := "()I" } : Jvm.MethodName) prog_28_method_28_code (2 : Nat) (Option.some Jvm.ClassFile.FieldType.int)) ∈ lw_all := lw_g (lw_at lw_m12 157 rfl) rfl
theorem q2917 : (Jvm.Cond.methodLink "SpokenMarksModel" (202 : Nat) ({ cls := "SpokenMarksModel", name := "comes", desc := "(I)I" } : Jvm.MethodName)) ∈ lw_all := lw_g (lw_at lw_m12 158 rfl) rfl
theorem q2918 : (Jvm.Cond.privateMethod ({ cls := "SpokenMarksModel", name := "comes", desc := "(I)I" } : Jvm.MethodName)) ∈ lw_tbl := lw_at lw_m12 159 rfl
theorem q2919 : (Jvm.Cond.instanceMethod ({ cls := "SpokenMarksModel", name := "comes", desc := "(I)I" } : Jvm.MethodName)) ∈ lw_all := lw_g (lw_at lw_m12 160 rfl) rfl
theorem q2920 : (Jvm.Cond.code ({ cls := "SpokenMarksModel", name := "comes", desc := "(I)I" } : Jvm.MethodName) prog_28_method_38_code (8 : Nat) (Option.some Jvm.ClassFile.FieldType.int)) ∈ lw_all := lw_g (lw_at lw_m12 161 rfl) rfl
theorem q2921 : (Jvm.Cond.methodLink "SpokenMarksModel" (162 : Nat) ({ cls := "SpokenMarksModel", name := "isRoomAt", desc := "(I)Z" } : Jvm.MethodName)) ∈ lw_all := lw_g (lw_at lw_m12 162 rfl) rfl
theorem q2922 : (Jvm.Cond.privateMethod ({ cls := "SpokenMarksModel", name := "isRoomAt", desc := "(I)Z" } : Jvm.MethodName)) ∈ lw_tbl := lw_at lw_m12 163 rfl
theorem q2923 : (Jvm.Cond.instanceMethod ({ cls := "SpokenMarksModel", name := "isRoomAt", desc := "(I)Z" } : Jvm.MethodName)) ∈ lw_all := lw_g (lw_at lw_m12 164 rfl) rfl
theorem q2924 : (Jvm.Cond.code ({ cls := "SpokenMarksModel", name := "isRoomAt", desc := "(I)Z" } : Jvm.MethodName) prog_28_method_32_code (2 : Nat) (Option.some Jvm.ClassFile.FieldType.boolean)) ∈ lw_all := lw_g (lw_at lw_m12 165 rfl) rfl
theorem q2925 : (Jvm.Cond.methodLink "SpokenMarksModel" (153 : Nat) ({ cls := "SpokenMarksModel", name := "placeBehind", desc := "(I)I" } : Jvm.MethodName)) ∈ lw_all := lw_g (lw_at lw_m12 166 rfl) rfl
theorem q2926 : (Jvm.Cond.privateMethod ({ cls := "SpokenMarksModel", name := "placeBehind", desc := "(I)I" } : Jvm.MethodName)) ∈ lw_tbl := lw_at lw_m12 167 rfl
theorem q2927 : (Jvm.Cond.instanceMethod ({ cls := "SpokenMarksModel", name := "placeBehind", desc := "(I)I" } : Jvm.MethodName)) ∈ lw_all := lw_g (lw_at lw_m12 168 rfl) rfl
theorem q2928 : (Jvm.Cond.code ({ cls := "SpokenMarksModel", name := "placeBehind", desc := "(I)I" } : Jvm.MethodName) prog_28_method_31_code (2 : Nat) (Option.some Jvm.ClassFile.FieldType.int)) ∈ lw_all := lw_g (lw_at lw_m12 169 rfl) rfl
theorem q2929 : (Jvm.Cond.methodLink "SpokenMarksModel" (156 : Nat) ({ cls := "SpokenMarksModel", name := "placeAhead", desc := "(I)I" } : Jvm.MethodName)) ∈ lw_all := lw_g (lw_at lw_m12 170 rfl) rfl
theorem q2930 : (Jvm.Cond.privateMethod ({ cls := "SpokenMarksModel", name := "placeAhead", desc := "(I)I" } : Jvm.MethodName)) ∈ lw_tbl := lw_at lw_m12 171 rfl
theorem q2931 : (Jvm.Cond.instanceMethod ({ cls := "SpokenMarksModel", name := "placeAhead", desc := "(I)I" } : Jvm.MethodName)) ∈ lw_all := lw_g (lw_at lw_m12 172 rfl) rfl
theorem q2932 : (Jvm.Cond.code ({ cls := "SpokenMarksModel", name := "placeAhead", desc := "(I)I" } : Jvm.MethodName) prog_28_method_30_code (2 : Nat) (Option.some Jvm.ClassFile.FieldType.int)) ∈ lw_all := lw_g (lw_at lw_m12 173 rfl) rfl
theorem q2933 : (Jvm.Cond.methodLink "SpokenMarksModel" (170 : Nat) ({ cls := "SpokenMarksModel", name := "guestPlace", desc := "(I)I" } : Jvm.MethodName)) ∈ lw_all := lw_g (lw_at lw_m12 174 rfl) rfl
theorem q2934 : (Jvm.Cond.privateMethod ({ cls := "SpokenMarksModel", name := "guestPlace", desc := "(I)I" } : Jvm.MethodName)) ∈ lw_tbl := lw_at lw_m12 175 rfl
theorem q2935 : (Jvm.Cond.instanceMethod ({ cls := "SpokenMarksModel", name := "guestPlace", desc := "(I)I" } : Jvm.MethodName)) ∈ lw_all := lw_g (lw_at lw_m12 176 rfl) rfl
theorem q2936 : (Jvm.Cond.code ({ cls := "SpokenMarksModel", name := "guestPlace", desc := "(I)I" } : Jvm.MethodName) prog_28_method_35_code (2 : Nat) (Option.some Jvm.ClassFile.FieldType.int)) ∈ lw_all := lw_g (lw_at lw_m12 177 rfl) rfl
theorem q2937 : (Jvm.Cond.methodLink "SpokenMarksModel" (173 : Nat) ({ cls := "SpokenMarksModel", name := "movedBy", desc := "(I)I" } : Jvm.MethodName)) ∈ lw_all := lw_g (lw_at lw_m12 178 rfl) rfl
theorem q2938 : (Jvm.Cond.privateMethod ({ cls := "SpokenMarksModel", name := "movedBy", desc := "(I)I" } : Jvm.MethodName)) ∈ lw_tbl := lw_at lw_m12 179 rfl
theorem q2939 : (Jvm.Cond.instanceMethod ({ cls := "SpokenMarksModel", name := "movedBy", desc := "(I)I" } : Jvm.MethodName)) ∈ lw_all := lw_g (lw_at lw_m12 180 rfl) rfl
theorem q2940 : (Jvm.Cond.code ({ cls := "SpokenMarksModel", name := "movedBy", desc := "(I)I" } : Jvm.MethodName) prog_28_method_34_code (5 : Nat) (Option.some Jvm.ClassFile.FieldType.int)) ∈ lw_all := lw_g (lw_at lw_m12 181 rfl) rfl
theorem q2941 : (Jvm.Cond.fieldLink "SpokenMarksModel" (1 : Nat) "SpokenMarksModel" "thrown" "I") ∈ lw_all := lw_g (lw_at lw_m12 182 rfl) rfl
theorem q2942 : (Jvm.Cond.fieldLink "SpokenMarksModel" (9 : Nat) "SpokenMarksModel" "spelt" "[I") ∈ lw_all := lw_g (lw_at lw_m12 183 rfl) rfl
theorem q2943 : (Jvm.Cond.fieldLink "SpokenMarksModel" (15 : Nat) "SpokenMarksModel" "speltMany" "I") ∈ lw_all := lw_g (lw_at lw_m12 184 rfl) rfl
theorem q2944 : (Jvm.Cond.fieldLink "SpokenMarksModel" (60 : Nat) "SpokenMarksModel" "now" "[J") ∈ lw_all := lw_g (lw_at lw_m12 185 rfl) rfl
theorem q2945 : (Jvm.Cond.fieldLink "SpokenMarksModel" (64 : Nat) "SpokenMarksModel" "aside" "[J") ∈ lw_all := lw_g (lw_at lw_m12 186 rfl) rfl
theorem q2946 : (Jvm.Cond.fieldLink "SpokenMarksModel" (67 : Nat) "SpokenMarksModel" "told" "[J") ∈ lw_all := lw_g (lw_at lw_m12 187 rfl) rfl
theorem q2947 : (Jvm.Cond.fieldLink "SpokenMarksModel" (70 : Nat) "SpokenMarksModel" "loading" "[J") ∈ lw_all := lw_g (lw_at lw_m12 188 rfl) rfl
theorem q2948 : (Jvm.Cond.fieldLink "SpokenMarksModel" (73 : Nat) "SpokenMarksModel" "saved" "[J") ∈ lw_all := lw_g (lw_at lw_m12 189 rfl) rfl
theorem q2949 : (Jvm.Cond.fieldLink "SpokenMarksModel" (76 : Nat) "SpokenMarksModel" "before" "[J") ∈ lw_all := lw_g (lw_at lw_m12 190 rfl) rfl
theorem q2950 : (Jvm.Cond.fieldLink "SpokenMarksModel" (326 : Nat) "SpokenMarksModel" "done" "I") ∈ lw_all := lw_g (lw_at lw_m12 191 rfl) rfl
theorem q2951 : (Jvm.Cond.fieldLink "SpokenMarksModel" (329 : Nat) "SpokenMarksModel" "refused" "I") ∈ lw_all := lw_g (lw_at lw_m12 192 rfl) rfl
theorem q2952 : (Jvm.Cond.fieldLink "SpokenMarksModel" (332 : Nat) "SpokenMarksModel" "undone" "I") ∈ lw_all := lw_g (lw_at lw_m12 193 rfl) rfl
theorem q2953 : (Jvm.Cond.fieldLink "SpokenMarksModel" (309 : Nat) "SpokenMarksModel" "undoable" "I") ∈ lw_all := lw_g (lw_at lw_m12 194 rfl) rfl
theorem q2954 : (Jvm.Cond.fieldLink "SpokenMarksModel" (312 : Nat) "SpokenMarksModel" "isSaved" "Z") ∈ lw_all := lw_g (lw_at lw_m12 195 rfl) rfl
theorem q2955 : (Jvm.Cond.fieldLink "SpokenMarksModel" (79 : Nat) "SpokenMarksModel" "buffer" "[I") ∈ lw_all := lw_g (lw_at lw_m12 196 rfl) rfl
theorem q2956 : (Jvm.Cond.fieldLink "SpokenMarksModel" (112 : Nat) "SpokenMarksModel" "buffered" "I") ∈ lw_all := lw_g (lw_at lw_m12 197 rfl) rfl
theorem q2957 : (Jvm.Cond.fieldLink "SpokenMarksModel" (216 : Nat) "SpokenMarksModel" "textEnd" "I") ∈ lw_all := lw_g (lw_at lw_m12 198 rfl) rfl
theorem q2958 : (Jvm.Cond.fieldLink "SpokenMarksModel" (222 : Nat) "SpokenMarksModel" "at" "I") ∈ lw_all := lw_g (lw_at lw_m12 199 rfl) rfl
theorem q2959 : (Jvm.Cond.fieldLink "SpokenMarksModel" (235 : Nat) "SpokenMarksModel" "begin" "I") ∈ lw_all := lw_g (lw_at lw_m12 200 rfl) rfl
theorem q2960 : (Jvm.Cond.fieldLink "SpokenMarksModel" (232 : Nat) "SpokenMarksModel" "kind" "I") ∈ lw_all := lw_g (lw_at lw_m12 201 rfl) rfl
theorem q2961 : (Jvm.Cond.fieldLink "SpokenMarksModel" (219 : Nat) "SpokenMarksModel" "value0" "I") ∈ lw_all := lw_g (lw_at lw_m12 202 rfl) rfl
theorem q2962 : (Jvm.Cond.fieldLink "SpokenMarksModel" (244 : Nat) "SpokenMarksModel" "wrong" "I") ∈ lw_all := lw_g (lw_at lw_m12 203 rfl) rfl
theorem q2963 : (Jvm.Cond.fieldLink "SpokenMarksModel" (82 : Nat) "SpokenMarksModel" "wrongAt" "I") ∈ lw_all := lw_g (lw_at lw_m12 204 rfl) rfl
theorem q2964 : (Jvm.Cond.fieldLink "SpokenMarksModel" (85 : Nat) "SpokenMarksModel" "parts" "[J") ∈ lw_all := lw_g (lw_at lw_m12 205 rfl) rfl
theorem q2965 : (Jvm.Cond.fieldLink "SpokenMarksModel" (257 : Nat) "SpokenMarksModel" "partMany" "I") ∈ lw_all := lw_g (lw_at lw_m12 206 rfl) rfl
theorem q2966 : (Jvm.Cond.fieldLink "SpokenMarksModel" (88 : Nat) "SpokenMarksModel" "reasonCause" "I") ∈ lw_all := lw_g (lw_at lw_m12 207 rfl) rfl
theorem q2967 : (Jvm.Cond.fieldLink "SpokenMarksModel" (417 : Nat) "SpokenMarksModel" "sayWord" "J") ∈ lw_all := lw_g (lw_at lw_m12 208 rfl) rfl
theorem q2968 : (Jvm.Cond.fieldLink "SpokenMarksModel" (421 : Nat) "SpokenMarksModel" "saySpoken" "J") ∈ lw_all := lw_g (lw_at lw_m12 209 rfl) rfl
theorem q2969 : (Jvm.Cond.fieldLink "SpokenMarksModel" (91 : Nat) "SpokenMarksModel" "orderRow" "[J") ∈ lw_all := lw_g (lw_at lw_m12 210 rfl) rfl
theorem q2970 : (Jvm.Cond.fieldLink "SpokenMarksModel" (441 : Nat) "SpokenMarksModel" "orders" "I") ∈ lw_all := lw_g (lw_at lw_m12 211 rfl) rfl
theorem q2971 : (Jvm.Cond.fieldLink "SpokenMarksModel" (94 : Nat) "SpokenMarksModel" "line" "[I") ∈ lw_all := lw_g (lw_at lw_m12 212 rfl) rfl
theorem q2972 : (Jvm.Cond.fieldLink "SpokenMarksModel" (97 : Nat) "SpokenMarksModel" "figures" "[I") ∈ lw_all := lw_g (lw_at lw_m12 213 rfl) rfl
theorem q2973 : (Jvm.Cond.fieldLink "SpokenMarksModel" (456 : Nat) "SpokenMarksModel" "lineSize" "I") ∈ lw_all := lw_g (lw_at lw_m12 214 rfl) rfl
theorem q2974 : (Jvm.Cond.lays "SpokenMarksModel" "SpokenMarksModel" "thrown" "I") ∈ lw_all := lw_g (lw_at lw_m12 215 rfl) rfl
theorem q2975 : (Jvm.Cond.soleField "SpokenMarksModel" "thrown") ∈ lw_all := lw_g (lw_at lw_m12 216 rfl) rfl
theorem q2976 : (Jvm.Cond.laysFinal "SpokenMarksModel" "SpokenMarksModel" "spelt" "[I") ∈ lw_all := lw_g (lw_at lw_m12 217 rfl) rfl
theorem q2977 : (Jvm.Cond.soleField "SpokenMarksModel" "spelt") ∈ lw_all := lw_g (lw_at lw_m12 218 rfl) rfl
theorem q2978 : (Jvm.Cond.lays "SpokenMarksModel" "SpokenMarksModel" "speltMany" "I") ∈ lw_all := lw_g (lw_at lw_m12 219 rfl) rfl
theorem q2979 : (Jvm.Cond.soleField "SpokenMarksModel" "speltMany") ∈ lw_all := lw_g (lw_at lw_m12 220 rfl) rfl
theorem q2980 : (Jvm.Cond.laysFinal "SpokenMarksModel" "SpokenMarksModel" "now" "[J") ∈ lw_all := lw_g (lw_at lw_m12 221 rfl) rfl
theorem q2981 : (Jvm.Cond.soleField "SpokenMarksModel" "now") ∈ lw_all := lw_g (lw_at lw_m12 222 rfl) rfl
theorem q2982 : (Jvm.Cond.laysFinal "SpokenMarksModel" "SpokenMarksModel" "aside" "[J") ∈ lw_all := lw_g (lw_at lw_m12 223 rfl) rfl
theorem q2983 : (Jvm.Cond.soleField "SpokenMarksModel" "aside") ∈ lw_all := lw_g (lw_at lw_m12 224 rfl) rfl
theorem q2984 : (Jvm.Cond.laysFinal "SpokenMarksModel" "SpokenMarksModel" "told" "[J") ∈ lw_all := lw_g (lw_at lw_m12 225 rfl) rfl
theorem q2985 : (Jvm.Cond.soleField "SpokenMarksModel" "told") ∈ lw_all := lw_g (lw_at lw_m12 226 rfl) rfl
theorem q2986 : (Jvm.Cond.laysFinal "SpokenMarksModel" "SpokenMarksModel" "loading" "[J") ∈ lw_all := lw_g (lw_at lw_m12 227 rfl) rfl
theorem q2987 : (Jvm.Cond.soleField "SpokenMarksModel" "loading") ∈ lw_all := lw_g (lw_at lw_m12 228 rfl) rfl
theorem q2988 : (Jvm.Cond.laysFinal "SpokenMarksModel" "SpokenMarksModel" "saved" "[J") ∈ lw_all := lw_g (lw_at lw_m12 229 rfl) rfl
theorem q2989 : (Jvm.Cond.soleField "SpokenMarksModel" "saved") ∈ lw_all := lw_g (lw_at lw_m12 230 rfl) rfl
theorem q2990 : (Jvm.Cond.laysFinal "SpokenMarksModel" "SpokenMarksModel" "before" "[J") ∈ lw_all := lw_g (lw_at lw_m12 231 rfl) rfl
theorem q2991 : (Jvm.Cond.soleField "SpokenMarksModel" "before") ∈ lw_all := lw_g (lw_at lw_m12 232 rfl) rfl
theorem q2992 : (Jvm.Cond.lays "SpokenMarksModel" "SpokenMarksModel" "done" "I") ∈ lw_all := lw_g (lw_at lw_m12 233 rfl) rfl
theorem q2993 : (Jvm.Cond.soleField "SpokenMarksModel" "done") ∈ lw_all := lw_g (lw_at lw_m12 234 rfl) rfl
theorem q2994 : (Jvm.Cond.lays "SpokenMarksModel" "SpokenMarksModel" "refused" "I") ∈ lw_all := lw_g (lw_at lw_m12 235 rfl) rfl
theorem q2995 : (Jvm.Cond.soleField "SpokenMarksModel" "refused") ∈ lw_all := lw_g (lw_at lw_m12 236 rfl) rfl
theorem q2996 : (Jvm.Cond.lays "SpokenMarksModel" "SpokenMarksModel" "undone" "I") ∈ lw_all := lw_g (lw_at lw_m12 237 rfl) rfl
theorem q2997 : (Jvm.Cond.soleField "SpokenMarksModel" "undone") ∈ lw_all := lw_g (lw_at lw_m12 238 rfl) rfl
theorem q2998 : (Jvm.Cond.lays "SpokenMarksModel" "SpokenMarksModel" "undoable" "I") ∈ lw_all := lw_g (lw_at lw_m12 239 rfl) rfl
theorem q2999 : (Jvm.Cond.soleField "SpokenMarksModel" "undoable") ∈ lw_all := lw_g (lw_at lw_m13 0 rfl) rfl
theorem q3000 : (Jvm.Cond.lays "SpokenMarksModel" "SpokenMarksModel" "isSaved" "Z") ∈ lw_all := lw_g (lw_at lw_m13 1 rfl) rfl
theorem q3001 : (Jvm.Cond.soleField "SpokenMarksModel" "isSaved") ∈ lw_all := lw_g (lw_at lw_m13 2 rfl) rfl
theorem q3002 : (Jvm.Cond.laysFinal "SpokenMarksModel" "SpokenMarksModel" "buffer" "[I") ∈ lw_all := lw_g (lw_at lw_m13 3 rfl) rfl
theorem q3003 : (Jvm.Cond.soleField "SpokenMarksModel" "buffer") ∈ lw_all := lw_g (lw_at lw_m13 4 rfl) rfl
theorem q3004 : (Jvm.Cond.lays "SpokenMarksModel" "SpokenMarksModel" "buffered" "I") ∈ lw_all := lw_g (lw_at lw_m13 5 rfl) rfl
theorem q3005 : (Jvm.Cond.soleField "SpokenMarksModel" "buffered") ∈ lw_all := lw_g (lw_at lw_m13 6 rfl) rfl
theorem q3006 : (Jvm.Cond.lays "SpokenMarksModel" "SpokenMarksModel" "textEnd" "I") ∈ lw_all := lw_g (lw_at lw_m13 7 rfl) rfl
theorem q3007 : (Jvm.Cond.soleField "SpokenMarksModel" "textEnd") ∈ lw_all := lw_g (lw_at lw_m13 8 rfl) rfl
theorem q3008 : (Jvm.Cond.lays "SpokenMarksModel" "SpokenMarksModel" "at" "I") ∈ lw_all := lw_g (lw_at lw_m13 9 rfl) rfl
theorem q3009 : (Jvm.Cond.soleField "SpokenMarksModel" "at") ∈ lw_all := lw_g (lw_at lw_m13 10 rfl) rfl
theorem q3010 : (Jvm.Cond.lays "SpokenMarksModel" "SpokenMarksModel" "begin" "I") ∈ lw_all := lw_g (lw_at lw_m13 11 rfl) rfl
theorem q3011 : (Jvm.Cond.soleField "SpokenMarksModel" "begin") ∈ lw_all := lw_g (lw_at lw_m13 12 rfl) rfl
theorem q3012 : (Jvm.Cond.lays "SpokenMarksModel" "SpokenMarksModel" "kind" "I") ∈ lw_all := lw_g (lw_at lw_m13 13 rfl) rfl
theorem q3013 : (Jvm.Cond.soleField "SpokenMarksModel" "kind") ∈ lw_all := lw_g (lw_at lw_m13 14 rfl) rfl
theorem q3014 : (Jvm.Cond.lays "SpokenMarksModel" "SpokenMarksModel" "value0" "I") ∈ lw_all := lw_g (lw_at lw_m13 15 rfl) rfl
theorem q3015 : (Jvm.Cond.soleField "SpokenMarksModel" "value0") ∈ lw_all := lw_g (lw_at lw_m13 16 rfl) rfl
theorem q3016 : (Jvm.Cond.lays "SpokenMarksModel" "SpokenMarksModel" "wrong" "I") ∈ lw_all := lw_g (lw_at lw_m13 17 rfl) rfl
theorem q3017 : (Jvm.Cond.soleField "SpokenMarksModel" "wrong") ∈ lw_all := lw_g (lw_at lw_m13 18 rfl) rfl
theorem q3018 : (Jvm.Cond.lays "SpokenMarksModel" "SpokenMarksModel" "wrongAt" "I") ∈ lw_all := lw_g (lw_at lw_m13 19 rfl) rfl
theorem q3019 : (Jvm.Cond.soleField "SpokenMarksModel" "wrongAt") ∈ lw_all := lw_g (lw_at lw_m13 20 rfl) rfl
theorem q3020 : (Jvm.Cond.laysFinal "SpokenMarksModel" "SpokenMarksModel" "parts" "[J") ∈ lw_all := lw_g (lw_at lw_m13 21 rfl) rfl
theorem q3021 : (Jvm.Cond.soleField "SpokenMarksModel" "parts") ∈ lw_all := lw_g (lw_at lw_m13 22 rfl) rfl
theorem q3022 : (Jvm.Cond.lays "SpokenMarksModel" "SpokenMarksModel" "partMany" "I") ∈ lw_all := lw_g (lw_at lw_m13 23 rfl) rfl
theorem q3023 : (Jvm.Cond.soleField "SpokenMarksModel" "partMany") ∈ lw_all := lw_g (lw_at lw_m13 24 rfl) rfl
theorem q3024 : (Jvm.Cond.lays "SpokenMarksModel" "SpokenMarksModel" "reasonCause" "I") ∈ lw_all := lw_g (lw_at lw_m13 25 rfl) rfl
theorem q3025 : (Jvm.Cond.soleField "SpokenMarksModel" "reasonCause") ∈ lw_all := lw_g (lw_at lw_m13 26 rfl) rfl
theorem q3026 : (Jvm.Cond.lays "SpokenMarksModel" "SpokenMarksModel" "sayWord" "J") ∈ lw_all := lw_g (lw_at lw_m13 27 rfl) rfl
theorem q3027 : (Jvm.Cond.soleField "SpokenMarksModel" "sayWord") ∈ lw_all := lw_g (lw_at lw_m13 28 rfl) rfl
theorem q3028 : (Jvm.Cond.lays "SpokenMarksModel" "SpokenMarksModel" "saySpoken" "J") ∈ lw_all := lw_g (lw_at lw_m13 29 rfl) rfl
theorem q3029 : (Jvm.Cond.soleField "SpokenMarksModel" "saySpoken") ∈ lw_all := lw_g (lw_at lw_m13 30 rfl) rfl
theorem q3030 : (Jvm.Cond.laysFinal "SpokenMarksModel" "SpokenMarksModel" "orderRow" "[J") ∈ lw_all := lw_g (lw_at lw_m13 31 rfl) rfl
theorem q3031 : (Jvm.Cond.soleField "SpokenMarksModel" "orderRow") ∈ lw_all := lw_g (lw_at lw_m13 32 rfl) rfl
theorem q3032 : (Jvm.Cond.lays "SpokenMarksModel" "SpokenMarksModel" "orders" "I") ∈ lw_all := lw_g (lw_at lw_m13 33 rfl) rfl
theorem q3033 : (Jvm.Cond.soleField "SpokenMarksModel" "orders") ∈ lw_all := lw_g (lw_at lw_m13 34 rfl) rfl
theorem q3034 : (Jvm.Cond.laysFinal "SpokenMarksModel" "SpokenMarksModel" "line" "[I") ∈ lw_all := lw_g (lw_at lw_m13 35 rfl) rfl
theorem q3035 : (Jvm.Cond.soleField "SpokenMarksModel" "line") ∈ lw_all := lw_g (lw_at lw_m13 36 rfl) rfl
theorem q3036 : (Jvm.Cond.laysFinal "SpokenMarksModel" "SpokenMarksModel" "figures" "[I") ∈ lw_all := lw_g (lw_at lw_m13 37 rfl) rfl
theorem q3037 : (Jvm.Cond.soleField "SpokenMarksModel" "figures") ∈ lw_all := lw_g (lw_at lw_m13 38 rfl) rfl
theorem q3038 : (Jvm.Cond.lays "SpokenMarksModel" "SpokenMarksModel" "lineSize" "I") ∈ lw_all := lw_g (lw_at lw_m13 39 rfl) rfl
theorem q3039 : (Jvm.Cond.soleField "SpokenMarksModel" "lineSize") ∈ lw_all := lw_g (lw_at lw_m13 40 rfl) rfl
theorem q3040 : (Jvm.Cond.superclass "SpokenMarksModel" "java/lang/Object") ∈ lw_all := lw_g (lw_at lw_m13 41 rfl) rfl
theorem q3043 : (Jvm.Cond.instanceMethod ({ cls := "SpokenMarksModel", name := "feed", desc := "(IIIII)I" } : Jvm.MethodName)) ∈ lw_all := lw_g (lw_at lw_m13 44 rfl) rfl
theorem q3044 : (Jvm.Cond.selects "SpokenMarksModel" ({ cls := "SpokenMarksModel", name := "feed", desc := "(IIIII)I" } : Jvm.MethodName) ({ cls := "SpokenMarksModel", name := "feed", desc := "(IIIII)I" } : Jvm.MethodName)) ∈ lw_all := lw_g (lw_at lw_m13 45 rfl) rfl
theorem q3045 : (Jvm.Cond.code ({ cls := "SpokenMarksModel", name := "feed", desc := "(IIIII)I" } : Jvm.MethodName) prog_28_method_53_code (6 : Nat) (Option.some Jvm.ClassFile.FieldType.int)) ∈ lw_all := lw_g (lw_at lw_m13 46 rfl) rfl
theorem q3046 : (Jvm.Cond.methodLink "SpokenMarksModel" (213 : Nat) ({ cls := "SpokenMarksModel", name := "bytes", desc := "(I)V" } : Jvm.MethodName)) ∈ lw_all := lw_g (lw_at lw_m13 47 rfl) rfl
theorem q3047 : (Jvm.Cond.privateMethod ({ cls := "SpokenMarksModel", name := "bytes", desc := "(I)V" } : Jvm.MethodName)) ∈ lw_tbl := lw_at lw_m13 48 rfl
theorem q3048 : (Jvm.Cond.instanceMethod ({ cls := "SpokenMarksModel", name := "bytes", desc := "(I)V" } : Jvm.MethodName)) ∈ lw_all := lw_g (lw_at lw_m13 49 rfl) rfl
theorem q3049 : (Jvm.Cond.code ({ cls := "SpokenMarksModel", name := "bytes", desc := "(I)V" } : Jvm.MethodName) prog_28_method_52_code (3 : Nat) (Option.none : Option Jvm.ClassFile.FieldType)) ∈ lw_all := lw_g (lw_at lw_m13 50 rfl) rfl
theorem q3051 : (Jvm.Cond.instanceMethod ({ cls := "SpokenMarksModel", name := "errorPosition", desc := "()I" } : Jvm.MethodName)) ∈ lw_all := lw_g (lw_at lw_m13 52 rfl) rfl
theorem q3052 : (Jvm.Cond.selects "SpokenMarksModel" ({ cls := "SpokenMarksModel", name := "errorPosition", desc := "()I" } : Jvm.MethodName) ({ cls := "SpokenMarksModel", name := "errorPosition", desc := "()I" } : Jvm.MethodName)) ∈ lw_all := lw_g (lw_at lw_m13 53 rfl) rfl
theorem q3053 : (Jvm.Cond.code ({ cls := "SpokenMarksModel", name := "errorPosition", desc := "()I" } : Jvm.MethodName) prog_28_method_54_code (1 : Nat) (Option.some Jvm.ClassFile.FieldType.int)) ∈ lw_all := lw_g (lw_at lw_m13 54 rfl) rfl
theorem q3056 : (Jvm.Cond.instanceMethod ({ cls := "SpokenMarksModel", name := "size", desc := "(I)I" } : Jvm.MethodName)) ∈ lw_all := lw_g (lw_at lw_m13 57 rfl) rfl
theorem q3057 : (Jvm.Cond.selects "SpokenMarksModel" ({ cls := "SpokenMarksModel", name := "size", desc := "(I)I" } : Jvm.MethodName) ({ cls := "SpokenMarksModel", name := "size", desc := "(I)I" } : Jvm.MethodName)) ∈ lw_all := lw_g (lw_at lw_m13 58 rfl) rfl
theorem q3058 : (Jvm.Cond.code ({ cls := "SpokenMarksModel", name := "size", desc := "(I)I" } : Jvm.MethodName) prog_28_method_76_code (2 : Nat) (Option.some Jvm.ClassFile.FieldType.int)) ∈ lw_all := lw_g (lw_at lw_m13 59 rfl) rfl
theorem q3059 : (Jvm.Cond.constantLong "SpokenMarksModel" (316 : Nat) (7 : Int64)) ∈ lw_all := lw_g (lw_at lw_m13 60 rfl) rfl
theorem q3060 : (Jvm.Cond.methodLink "SpokenMarksModel" (210 : Nat) ({ cls := "SpokenMarksModel", name := "over", desc := "()I" } : Jvm.MethodName)) ∈ lw_all := lw_g (lw_at lw_m13 61 rfl) rfl
theorem q3061 : (Jvm.Cond.privateMethod ({ cls := "SpokenMarksModel", name := "over", desc := "()I" } : Jvm.MethodName)) ∈ lw_tbl := lw_at lw_m13 62 rfl
theorem q3062 : (Jvm.Cond.instanceMethod ({ cls := "SpokenMarksModel", name := "over", desc := "()I" } : Jvm.MethodName)) ∈ lw_all := lw_g (lw_at lw_m13 63 rfl) rfl
theorem q3063 : (Jvm.Cond.code ({ cls := "SpokenMarksModel", name := "over", desc := "()I" } : Jvm.MethodName) prog_28_method_44_code (3 : Nat) (Option.some Jvm.ClassFile.FieldType.int)) ∈ lw_all := lw_g (lw_at lw_m13 64 rfl) rfl
theorem q3064 : (Jvm.Cond.methodLink "SpokenMarksModel" (196 : Nat) ({ cls := "SpokenMarksModel", name := "widthOn", desc := "(I)I" } : Jvm.MethodName)) ∈ lw_all := lw_g (lw_at lw_m13 65 rfl) rfl
theorem q3065 : (Jvm.Cond.privateMethod ({ cls := "SpokenMarksModel", name := "widthOn", desc := "(I)I" } : Jvm.MethodName)) ∈ lw_tbl := lw_at lw_m13 66 rfl
theorem q3066 : (Jvm.Cond.instanceMethod ({ cls := "SpokenMarksModel", name := "widthOn", desc := "(I)I" } : Jvm.MethodName)) ∈ lw_all := lw_g (lw_at lw_m13 67 rfl) rfl
theorem q3067 : (Jvm.Cond.code ({ cls := "SpokenMarksModel", name := "widthOn", desc := "(I)I" } : Jvm.MethodName) prog_28_method_43_code (4 : Nat) (Option.some Jvm.ClassFile.FieldType.int)) ∈ lw_all := lw_g (lw_at lw_m13 68 rfl) rfl
theorem q3068 : (Jvm.Cond.methodLink "SpokenMarksModel" (192 : Nat) ({ cls := "SpokenMarksModel", name := "isOn", desc := "(II)Z" } : Jvm.MethodName)) ∈ lw_all := lw_g (lw_at lw_m13 69 rfl) rfl
theorem q3069 : (Jvm.Cond.privateMethod ({ cls := "SpokenMarksModel", name := "isOn", desc := "(II)Z" } : Jvm.MethodName)) ∈ lw_tbl := lw_at lw_m13 70 rfl
theorem q3070 : (Jvm.Cond.instanceMethod ({ cls := "SpokenMarksModel", name := "isOn", desc := "(II)Z" } : Jvm.MethodName)) ∈ lw_all := lw_g (lw_at lw_m13 71 rfl) rfl
theorem q3071 : (Jvm.Cond.code ({ cls := "SpokenMarksModel", name := "isOn", desc := "(II)Z" } : Jvm.MethodName) prog_28_method_41_code (3 : Nat) (Option.some Jvm.ClassFile.FieldType.boolean)) ∈ lw_all := lw_g (lw_at lw_m13 72 rfl) rfl
theorem q3072 : (Jvm.Cond.methodLink "SpokenMarksModel" (189 : Nat) ({ cls := "SpokenMarksModel", name := "bound", desc := "(I)I" } : Jvm.MethodName)) ∈ lw_all := lw_g (lw_at lw_m13 73 rfl) rfl
theorem q3073 : (Jvm.Cond.privateMethod ({ cls := "SpokenMarksModel", name := "bound", desc := "(I)I" } : Jvm.MethodName)) ∈ lw_tbl := lw_at lw_m13 74 rfl
theorem q3074 : (Jvm.Cond.instanceMethod ({ cls := "SpokenMarksModel", name := "bound", desc := "(I)I" } : Jvm.MethodName)) ∈ lw_all := lw_g (lw_at lw_m13 75 rfl) rfl
theorem q3075 : (Jvm.Cond.code ({ cls := "SpokenMarksModel", name := "bound", desc := "(I)I" } : Jvm.MethodName) prog_28_method_40_code (2 : Nat) (Option.some Jvm.ClassFile.FieldType.int)) ∈ lw_all := lw_g (lw_at lw_m13 76 rfl) rfl
theorem q3076 : (Jvm.Cond.methodLink "SpokenMarksModel" (318 : Nat) ({ cls := "SpokenMarksModel", name := "allWidths", desc := "()I" } : Jvm.MethodName)) ∈ lw_all := lw_g (lw_at lw_m13 77 rfl) rfl
theorem q3077 : (Jvm.Cond.privateMethod ({ cls := "SpokenMarksModel", name := "allWidths", desc := "()I" } : Jvm.MethodName)) ∈ lw_tbl := lw_at lw_m13 78 rfl
theorem q3078 : (Jvm.Cond.instanceMethod ({ cls := "SpokenMarksModel", name := "allWidths", desc := "()I" } : Jvm.MethodName)) ∈ lw_all := lw_g (lw_at lw_m13 79 rfl) rfl
theorem q3079 : (Jvm.Cond.code ({ cls := "SpokenMarksModel", name := "allWidths", desc := "()I" } : Jvm.MethodName) prog_28_method_74_code (3 : Nat) (Option.some Jvm.ClassFile.FieldType.int)) ∈ lw_all := lw_g (lw_at lw_m13 80 rfl) rfl
theorem q3080 : (Jvm.Cond.methodLink "SpokenMarksModel" (321 : Nat) ({ cls := "SpokenMarksModel", name := "closest", desc := "()I" } : Jvm.MethodName)) ∈ lw_all := lw_g (lw_at lw_m13 81 rfl) rfl
theorem q3081 : (Jvm.Cond.privateMethod ({ cls := "SpokenMarksModel", name := "closest", desc := "()I" } : Jvm.MethodName)) ∈ lw_tbl := lw_at lw_m13 82 rfl
theorem q3082 : (Jvm.Cond.instanceMethod ({ cls := "SpokenMarksModel", name := "closest", desc := "()I" } : Jvm.MethodName)) ∈ lw_all := lw_g (lw_at lw_m13 83 rfl) rfl
theorem q3083 : (Jvm.Cond.code ({ cls := "SpokenMarksModel", name := "closest", desc := "()I" } : Jvm.MethodName) prog_28_method_75_code (4 : Nat) (Option.some Jvm.ClassFile.FieldType.int)) ∈ lw_all := lw_g (lw_at lw_m13 84 rfl) rfl
theorem q3085 : (Jvm.Cond.instanceMethod ({ cls := "SpokenMarksModel", name := "account", desc := "(I)I" } : Jvm.MethodName)) ∈ lw_all := lw_g (lw_at lw_m13 86 rfl) rfl
theorem q3086 : (Jvm.Cond.selects "SpokenMarksModel" ({ cls := "SpokenMarksModel", name := "account", desc := "(I)I" } : Jvm.MethodName) ({ cls := "SpokenMarksModel", name := "account", desc := "(I)I" } : Jvm.MethodName)) ∈ lw_all := lw_g (lw_at lw_m13 87 rfl) rfl
theorem q3087 : (Jvm.Cond.code ({ cls := "SpokenMarksModel", name := "account", desc := "(I)I" } : Jvm.MethodName) prog_28_method_77_code (2 : Nat) (Option.some Jvm.ClassFile.FieldType.int)) ∈ lw_all := lw_g (lw_at lw_m13 88 rfl) rfl
theorem q3088 : (Jvm.Cond.constantLong "SpokenMarksModel" (324 : Nat) (5 : Int64)) ∈ lw_all := lw_g (lw_at lw_m13 89 rfl) rfl
theorem q3090 : (Jvm.Cond.instanceMethod ({ cls := "SpokenMarksModel", name := "at", desc := "(I)I" } : Jvm.MethodName)) ∈ lw_all := lw_g (lw_at lw_m13 91 rfl) rfl
theorem q3091 : (Jvm.Cond.selects "SpokenMarksModel" ({ cls := "SpokenMarksModel", name := "at", desc := "(I)I" } : Jvm.MethodName) ({ cls := "SpokenMarksModel", name := "at", desc := "(I)I" } : Jvm.MethodName)) ∈ lw_all := lw_g (lw_at lw_m13 92 rfl) rfl
theorem q3092 : (Jvm.Cond.code ({ cls := "SpokenMarksModel", name := "at", desc := "(I)I" } : Jvm.MethodName) prog_28_method_78_code (2 : Nat) (Option.some Jvm.ClassFile.FieldType.int)) ∈ lw_all := lw_g (lw_at lw_m13 93 rfl) rfl
theorem q3094 : (Jvm.Cond.instanceMethod ({ cls := "SpokenMarksModel", name := "mark", desc := "(II)I" } : Jvm.MethodName)) ∈ lw_all := lw_g (lw_at lw_m13 95 rfl) rfl
theorem q3095 : (Jvm.Cond.selects "SpokenMarksModel" ({ cls := "SpokenMarksModel", name := "mark", desc := "(II)I" } : Jvm.MethodName) ({ cls := "SpokenMarksModel", name := "mark", desc := "(II)I" } : Jvm.MethodName)) ∈ lw_all := lw_g (lw_at lw_m13 96 rfl) rfl
theorem q3096 : (Jvm.Cond.code ({ cls := "SpokenMarksModel", name := "mark", desc := "(II)I" } : Jvm.MethodName) prog_28_method_81_code (4 : Nat) (Option.some Jvm.ClassFile.FieldType.int)) ∈ lw_all := lw_g (lw_at lw_m13 97 rfl) rfl
theorem q3097 : (Jvm.Cond.methodLink "SpokenMarksModel" (338 : Nat) ({ cls := "SpokenMarksModel", name := "noMark", desc := "(I)Z" } : Jvm.MethodName)) ∈ lw_all := lw_g (lw_at lw_m13 98 rfl) rfl
theorem q3098 : (Jvm.Cond.privateMethod ({ cls := "SpokenMarksModel", name := "noMark", desc := "(I)Z" } : Jvm.MethodName)) ∈ lw_tbl := lw_at lw_m13 99 rfl
theorem q3099 : (Jvm.Cond.instanceMethod ({ cls := "SpokenMarksModel", name := "noMark", desc := "(I)Z" } : Jvm.MethodName)) ∈ lw_all := lw_g (lw_at lw_m13 100 rfl) rfl
theorem q3100 : (Jvm.Cond.code ({ cls := "SpokenMarksModel", name := "noMark", desc := "(I)Z" } : Jvm.MethodName) prog_28_method_79_code (2 : Nat) (Option.some Jvm.ClassFile.FieldType.boolean)) ∈ lw_all := lw_g (lw_at lw_m13 101 rfl) rfl
theorem q3101 : (Jvm.Cond.methodLink "SpokenMarksModel" (335 : Nat) ({ cls := "SpokenMarksModel", name := "rankOf", desc := "(I)I" } : Jvm.MethodName)) ∈ lw_all := lw_g (lw_at lw_m13 102 rfl) rfl
theorem q3102 : (Jvm.Cond.privateMethod ({ cls := "SpokenMarksModel", name := "rankOf", desc := "(I)I" } : Jvm.MethodName)) ∈ lw_tbl := lw_at lw_m13 103 rfl
theorem q3103 : (Jvm.Cond.instanceMethod ({ cls := "SpokenMarksModel", name := "rankOf", desc := "(I)I" } : Jvm.MethodName)) ∈ lw_all := lw_g (lw_at lw_m13 104 rfl) rfl
theorem q3104 : (Jvm.Cond.code ({ cls := "SpokenMarksModel", name := "rankOf", desc := "(I)I" } : Jvm.MethodName) prog_28_method_24_code (3 : Nat) (Option.some Jvm.ClassFile.FieldType.int)) ∈ lw_all := lw_g (lw_at lw_m13 105 rfl) rfl
theorem q3105 : (Jvm.Cond.methodLink "SpokenMarksModel" (341 : Nat) ({ cls := "SpokenMarksModel", name := "shelfOf", desc := "(I)I" } : Jvm.MethodName)) ∈ lw_all := lw_g (lw_at lw_m13 106 rfl) rfl
theorem q3106 : (Jvm.Cond.privateMethod ({ cls := "SpokenMarksModel", name := "shelfOf", desc := "(I)I" } : Jvm.MethodName)) ∈ lw_tbl := lw_at lw_m13 107 rfl
theorem q3107 : (Jvm.Cond.instanceMethod ({ cls := "SpokenMarksModel", name := "shelfOf", desc := "(I)I" } : Jvm.MethodName)) ∈ lw_all := lw_g (lw_at lw_m13 108 rfl) rfl
theorem q3108 : (Jvm.Cond.code ({ cls := "SpokenMarksModel", name := "shelfOf", desc := "(I)I" } : Jvm.MethodName) prog_28_method_42_code (3 : Nat) (Option.some Jvm.ClassFile.FieldType.int)) ∈ lw_all := lw_g (lw_at lw_m13 109 rfl) rfl
theorem q3109 : (Jvm.Cond.methodLink "SpokenMarksModel" (344 : Nat) ({ cls := "SpokenMarksModel", name := "wordsOf", desc := "(I)I" } : Jvm.MethodName)) ∈ lw_all := lw_g (lw_at lw_m13 110 rfl) rfl
theorem q3110 : (Jvm.Cond.privateMethod ({ cls := "SpokenMarksModel", name := "wordsOf", desc := "(I)I" } : Jvm.MethodName)) ∈ lw_tbl := lw_at lw_m13 111 rfl
theorem q3111 : (Jvm.Cond.instanceMethod ({ cls := "SpokenMarksModel", name := "wordsOf", desc := "(I)I" } : Jvm.MethodName)) ∈ lw_all := lw_g (lw_at lw_m13 112 rfl) rfl
theorem q3112 : (Jvm.Cond.code ({ cls := "SpokenMarksModel", name := "wordsOf", desc := "(I)I" } : Jvm.MethodName) prog_28_method_80_code (4 : Nat) (Option.some Jvm.ClassFile.FieldType.int)) ∈ lw_all := lw_g (lw_at lw_m13 113 rfl) rfl
theorem q3114 : (Jvm.Cond.instanceMethod ({ cls := "SpokenMarksModel", name := "number", desc := "(II)I" } : Jvm.MethodName)) ∈ lw_all := lw_g (lw_at lw_m13 115 rfl) rfl
theorem q3115 : (Jvm.Cond.selects "SpokenMarksModel" ({ cls := "SpokenMarksModel", name := "number", desc := "(II)I" } : Jvm.MethodName) ({ cls := "SpokenMarksModel", name := "number", desc := "(II)I" } : Jvm.MethodName)) ∈ lw_all := lw_g (lw_at lw_m13 116 rfl) rfl
theorem q3116 : (Jvm.Cond.code ({ cls := "SpokenMarksModel", name := "number", desc := "(II)I" } : Jvm.MethodName) prog_28_method_83_code (5 : Nat) (Option.some Jvm.ClassFile.FieldType.int)) ∈ lw_all := lw_g (lw_at lw_m13 117 rfl) rfl
theorem q3117 : (Jvm.Cond.methodLink "SpokenMarksModel" (347 : Nat) ({ cls := "SpokenMarksModel", name := "noPart", desc := "(II)Z" } : Jvm.MethodName)) ∈ lw_all := lw_g (lw_at lw_m13 118 rfl) rfl
theorem q3118 : (Jvm.Cond.privateMethod ({ cls := "SpokenMarksModel", name := "noPart", desc := "(II)Z" } : Jvm.MethodName)) ∈ lw_tbl := lw_at lw_m13 119 rfl
theorem q3119 : (Jvm.Cond.instanceMethod ({ cls := "SpokenMarksModel", name := "noPart", desc := "(II)Z" } : Jvm.MethodName)) ∈ lw_all := lw_g (lw_at lw_m13 120 rfl) rfl
theorem q3120 : (Jvm.Cond.code ({ cls := "SpokenMarksModel", name := "noPart", desc := "(II)Z" } : Jvm.MethodName) prog_28_method_82_code (3 : Nat) (Option.some Jvm.ClassFile.FieldType.boolean)) ∈ lw_all := lw_g (lw_at lw_m13 121 rfl) rfl
theorem q3122 : (Jvm.Cond.instanceMethod ({ cls := "SpokenMarksModel", name := "letter", desc := "(IIZI)I" } : Jvm.MethodName)) ∈ lw_all := lw_g (lw_at lw_m13 123 rfl) rfl
theorem q3123 : (Jvm.Cond.selects "SpokenMarksModel" ({ cls := "SpokenMarksModel", name := "letter", desc := "(IIZI)I" } : Jvm.MethodName) ({ cls := "SpokenMarksModel", name := "letter", desc := "(IIZI)I" } : Jvm.MethodName)) ∈ lw_all := lw_g (lw_at lw_m13 124 rfl) rfl
theorem q3124 : (Jvm.Cond.code ({ cls := "SpokenMarksModel", name := "letter", desc := "(IIZI)I" } : Jvm.MethodName) prog_28_method_84_code (5 : Nat) (Option.some Jvm.ClassFile.FieldType.int)) ∈ lw_all := lw_g (lw_at lw_m13 125 rfl) rfl
theorem q3125 : (Jvm.Cond.methodLink "SpokenMarksModel" (350 : Nat) ({ cls := "SpokenMarksModel", name := "earOf", desc := "(II)J" } : Jvm.MethodName)) ∈ lw_all := lw_g (lw_at lw_m13 126 rfl) rfl
theorem q3126 : (Jvm.Cond.privateMethod ({ cls := "SpokenMarksModel", name := "earOf", desc := "(II)J" } : Jvm.MethodName)) ∈ lw_tbl := lw_at lw_m13 127 rfl
theorem q3127 : (Jvm.Cond.instanceMethod ({ cls := "SpokenMarksModel", name := "earOf", desc := "(II)J" } : Jvm.MethodName)) ∈ lw_all := lw_g (lw_at lw_m13 128 rfl) rfl
theorem q3128 : (Jvm.Cond.code ({ cls := "SpokenMarksModel", name := "earOf", desc := "(II)J" } : Jvm.MethodName) prog_28_method_18_code (3 : Nat) (Option.some Jvm.ClassFile.FieldType.long)) ∈ lw_all := lw_g (lw_at lw_m13 129 rfl) rfl
theorem q3129 : (Jvm.Cond.methodLink "SpokenMarksModel" (353 : Nat) ({ cls := "SpokenMarksModel", name := "letterOf", desc := "(JI)I" } : Jvm.MethodName)) ∈ lw_all := lw_g (lw_at lw_m13 130 rfl) rfl
theorem q3130 : (Jvm.Cond.privateMethod ({ cls := "SpokenMarksModel", name := "letterOf", desc := "(JI)I" } : Jvm.MethodName)) ∈ lw_tbl := lw_at lw_m13 131 rfl
theorem q3131 : (Jvm.Cond.instanceMethod ({ cls := "SpokenMarksModel", name := "letterOf", desc := "(JI)I" } : Jvm.MethodName)) ∈ lw_all := lw_g (lw_at lw_m13 132 rfl) rfl
theorem q3132 : (Jvm.Cond.code ({ cls := "SpokenMarksModel", name := "letterOf", desc := "(JI)I" } : Jvm.MethodName) prog_28_method_12_code (4 : Nat) (Option.some Jvm.ClassFile.FieldType.int)) ∈ lw_all := lw_g (lw_at lw_m13 133 rfl) rfl
theorem q3134 : (Jvm.Cond.instanceMethod ({ cls := "SpokenMarksModel", name := "ruleLetter", desc := "(IZI)I" } : Jvm.MethodName)) ∈ lw_all := lw_g (lw_at lw_m13 135 rfl) rfl
theorem q3135 : (Jvm.Cond.selects "SpokenMarksModel" ({ cls := "SpokenMarksModel", name := "ruleLetter", desc := "(IZI)I" } : Jvm.MethodName) ({ cls := "SpokenMarksModel", name := "ruleLetter", desc := "(IZI)I" } : Jvm.MethodName)) ∈ lw_all := lw_g (lw_at lw_m13 136 rfl) rfl
theorem q3136 : (Jvm.Cond.code ({ cls := "SpokenMarksModel", name := "ruleLetter", desc := "(IZI)I" } : Jvm.MethodName) prog_28_method_86_code (4 : Nat) (Option.some Jvm.ClassFile.FieldType.int)) ∈ lw_all := lw_g (lw_at lw_m13 137 rfl) rfl
theorem q3137 : (Jvm.Cond.methodLink "SpokenMarksModel" (357 : Nat) ({ cls := "SpokenMarksModel", name := "noRule", desc := "(I)Z" } : Jvm.MethodName)) ∈ lw_all := lw_g (lw_at lw_m13 138 rfl) rfl
theorem q3138 : (Jvm.Cond.privateMethod ({ cls := "SpokenMarksModel", name := "noRule", desc := "(I)Z" } : Jvm.MethodName)) ∈ lw_tbl := lw_at lw_m13 139 rfl
theorem q3139 : (Jvm.Cond.instanceMethod ({ cls := "SpokenMarksModel", name := "noRule", desc := "(I)Z" } : Jvm.MethodName)) ∈ lw_all := lw_g (lw_at lw_m13 140 rfl) rfl
theorem q3140 : (Jvm.Cond.code ({ cls := "SpokenMarksModel", name := "noRule", desc := "(I)Z" } : Jvm.MethodName) prog_28_method_85_code (2 : Nat) (Option.some Jvm.ClassFile.FieldType.boolean)) ∈ lw_all := lw_g (lw_at lw_m13 141 rfl) rfl
theorem q3142 : (Jvm.Cond.instanceMethod ({ cls := "SpokenMarksModel", name := "shelf", desc := "(II)I" } : Jvm.MethodName)) ∈ lw_all := lw_g (lw_at lw_m13 143 rfl) rfl
theorem q3143 : (Jvm.Cond.selects "SpokenMarksModel" ({ cls := "SpokenMarksModel", name := "shelf", desc := "(II)I" } : Jvm.MethodName) ({ cls := "SpokenMarksModel", name := "shelf", desc := "(II)I" } : Jvm.MethodName)) ∈ lw_all := lw_g (lw_at lw_m13 144 rfl) rfl
theorem q3144 : (Jvm.Cond.code ({ cls := "SpokenMarksModel", name := "shelf", desc := "(II)I" } : Jvm.MethodName) prog_28_method_90_code (3 : Nat) (Option.some Jvm.ClassFile.FieldType.int)) ∈ lw_all := lw_g (lw_at lw_m13 145 rfl) rfl
theorem q3145 : (Jvm.Cond.methodLink "SpokenMarksModel" (360 : Nat) ({ cls := "SpokenMarksModel", name := "noShelf", desc := "(I)Z" } : Jvm.MethodName)) ∈ lw_all := lw_g (lw_at lw_m13 146 rfl) rfl
theorem q3146 : (Jvm.Cond.privateMethod ({ cls := "SpokenMarksModel", name := "noShelf", desc := "(I)Z" } : Jvm.MethodName)) ∈ lw_tbl := lw_at lw_m13 147 rfl
theorem q3147 : (Jvm.Cond.instanceMethod ({ cls := "SpokenMarksModel", name := "noShelf", desc := "(I)Z" } : Jvm.MethodName)) ∈ lw_all := lw_g (lw_at lw_m13 148 rfl) rfl
theorem q3148 : (Jvm.Cond.code ({ cls := "SpokenMarksModel", name := "noShelf", desc := "(I)Z" } : Jvm.MethodName) prog_28_method_87_code (2 : Nat) (Option.some Jvm.ClassFile.FieldType.boolean)) ∈ lw_all := lw_g (lw_at lw_m13 149 rfl) rfl
theorem q3149 : (Jvm.Cond.methodLink "SpokenMarksModel" (363 : Nat) ({ cls := "SpokenMarksModel", name := "marksOn", desc := "(I)I" } : Jvm.MethodName)) ∈ lw_all := lw_g (lw_at lw_m13 150 rfl) rfl
theorem q3150 : (Jvm.Cond.privateMethod ({ cls := "SpokenMarksModel", name := "marksOn", desc := "(I)I" } : Jvm.MethodName)) ∈ lw_tbl := lw_at lw_m13 151 rfl
theorem q3151 : (Jvm.Cond.instanceMethod ({ cls := "SpokenMarksModel", name := "marksOn", desc := "(I)I" } : Jvm.MethodName)) ∈ lw_all := lw_g (lw_at lw_m13 152 rfl) rfl
theorem q3152 : (Jvm.Cond.code ({ cls := "SpokenMarksModel", name := "marksOn", desc := "(I)I" } : Jvm.MethodName) prog_28_method_88_code (4 : Nat) (Option.some Jvm.ClassFile.FieldType.int)) ∈ lw_all := lw_g (lw_at lw_m13 153 rfl) rfl
theorem q3153 : (Jvm.Cond.methodLink "SpokenMarksModel" (366 : Nat) ({ cls := "SpokenMarksModel", name := "endOf", desc := "(IZ)I" } : Jvm.MethodName)) ∈ lw_all := lw_g (lw_at lw_m13 154 rfl) rfl
theorem q3154 : (Jvm.Cond.privateMethod ({ cls := "SpokenMarksModel", name := "endOf", desc := "(IZ)I" } : Jvm.MethodName)) ∈ lw_tbl := lw_at lw_m13 155 rfl
theorem q3155 : (Jvm.Cond.instanceMethod ({ cls := "SpokenMarksModel", name := "endOf", desc := "(IZ)I" } : Jvm.MethodName)) ∈ lw_all := lw_g (lw_at lw_m13 156 rfl) rfl
theorem q3156 : (Jvm.Cond.code ({ cls := "SpokenMarksModel", name := "endOf", desc := "(IZ)I" } : Jvm.MethodName) prog_28_method_89_code (5 : Nat) (Option.some Jvm.ClassFile.FieldType.int)) ∈ lw_all := lw_g (lw_at lw_m13 157 rfl) rfl
theorem q3158 : (Jvm.Cond.instanceMethod ({ cls := "SpokenMarksModel", name := "gap", desc := "()I" } : Jvm.MethodName)) ∈ lw_all := lw_g (lw_at lw_m13 159 rfl) rfl
theorem q3159 : (Jvm.Cond.selects "SpokenMarksModel" ({ cls := "SpokenMarksModel", name := "gap", desc := "()I" } : Jvm.MethodName) ({ cls := "SpokenMarksModel", name := "gap", desc := "()I" } : Jvm.MethodName)) ∈ lw_all := lw_g (lw_at lw_m13 160 rfl) rfl
theorem q3160 : (Jvm.Cond.code ({ cls := "SpokenMarksModel", name := "gap", desc := "()I" } : Jvm.MethodName) prog_28_method_91_code (3 : Nat) (Option.some Jvm.ClassFile.FieldType.int)) ∈ lw_all := lw_g (lw_at lw_m13 161 rfl) rfl
theorem q3162 : (Jvm.Cond.instanceMethod ({ cls := "SpokenMarksModel", name := "compare", desc := "(II)I" } : Jvm.MethodName)) ∈ lw_all := lw_g (lw_at lw_m13 163 rfl) rfl
theorem q3163 : (Jvm.Cond.selects "SpokenMarksModel" ({ cls := "SpokenMarksModel", name := "compare", desc := "(II)I" } : Jvm.MethodName) ({ cls := "SpokenMarksModel", name := "compare", desc := "(II)I" } : Jvm.MethodName)) ∈ lw_all := lw_g (lw_at lw_m13 164 rfl) rfl
theorem q3164 : (Jvm.Cond.code ({ cls := "SpokenMarksModel", name := "compare", desc := "(II)I" } : Jvm.MethodName) prog_28_method_92_code (4 : Nat) (Option.some Jvm.ClassFile.FieldType.int)) ∈ lw_all := lw_g (lw_at lw_m13 165 rfl) rfl
theorem q3166 : (Jvm.Cond.instanceMethod ({ cls := "SpokenMarksModel", name := "differ", desc := "(II)I" } : Jvm.MethodName)) ∈ lw_all := lw_g (lw_at lw_m13 167 rfl) rfl
theorem q3167 : (Jvm.Cond.selects "SpokenMarksModel" ({ cls := "SpokenMarksModel", name := "differ", desc := "(II)I" } : Jvm.MethodName) ({ cls := "SpokenMarksModel", name := "differ", desc := "(II)I" } : Jvm.MethodName)) ∈ lw_all := lw_g (lw_at lw_m13 168 rfl) rfl
theorem q3168 : (Jvm.Cond.code ({ cls := "SpokenMarksModel", name := "differ", desc := "(II)I" } : Jvm.MethodName) prog_28_method_94_code (3 : Nat) (Option.some Jvm.ClassFile.FieldType.int)) ∈ lw_all := lw_g (lw_at lw_m13 169 rfl) rfl
theorem q3169 : (Jvm.Cond.methodLink "SpokenMarksModel" (370 : Nat) ({ cls := "SpokenMarksModel", name := "differs", desc := "(II)I" } : Jvm.MethodName)) ∈ lw_all := lw_g (lw_at lw_m13 170 rfl) rfl
theorem q3170 : (Jvm.Cond.privateMethod ({ cls := "SpokenMarksModel", name := "differs", desc := "(II)I" } : Jvm.MethodName)) ∈ lw_tbl := lw_at lw_m13 171 rfl
theorem q3171 : (Jvm.Cond.instanceMethod ({ cls := "SpokenMarksModel", name := "differs", desc := "(II)I" } : Jvm.MethodName)) ∈ lw_all := lw_g (lw_at lw_m13 172 rfl) rfl
theorem q3172 : (Jvm.Cond.code ({ cls := "SpokenMarksModel", name := "differs", desc := "(II)I" } : Jvm.MethodName) prog_28_method_93_code (6 : Nat) (Option.some Jvm.ClassFile.FieldType.int)) ∈ lw_all := lw_g (lw_at lw_m13 173 rfl) rfl
theorem q3174 : (Jvm.Cond.instanceMethod ({ cls := "SpokenMarksModel", name := "alike", desc := "()I" } : Jvm.MethodName)) ∈ lw_all := lw_g (lw_at lw_m13 175 rfl) rfl
theorem q3175 : (Jvm.Cond.selects "SpokenMarksModel" ({ cls := "SpokenMarksModel", name := "alike", desc := "()I" } : Jvm.MethodName) ({ cls := "SpokenMarksModel", name := "alike", desc := "()I" } : Jvm.MethodName)) ∈ lw_all := lw_g (lw_at lw_m13 176 rfl) rfl
theorem q3176 : (Jvm.Cond.code ({ cls := "SpokenMarksModel", name := "alike", desc := "()I" } : Jvm.MethodName) prog_28_method_95_code (4 : Nat) (Option.some Jvm.ClassFile.FieldType.int)) ∈ lw_all := lw_g (lw_at lw_m13 177 rfl) rfl
theorem q3178 : (Jvm.Cond.instanceMethod ({ cls := "SpokenMarksModel", name := "free", desc := "(I)I" } : Jvm.MethodName)) ∈ lw_all := lw_g (lw_at lw_m13 179 rfl) rfl
theorem q3179 : (Jvm.Cond.selects "SpokenMarksModel" ({ cls := "SpokenMarksModel", name := "free", desc := "(I)I" } : Jvm.MethodName) ({ cls := "SpokenMarksModel", name := "free", desc := "(I)I" } : Jvm.MethodName)) ∈ lw_all := lw_g (lw_at lw_m13 180 rfl) rfl
theorem q3180 : (Jvm.Cond.code ({ cls := "SpokenMarksModel", name := "free", desc := "(I)I" } : Jvm.MethodName) prog_28_method_96_code (3 : Nat) (Option.some Jvm.ClassFile.FieldType.int)) ∈ lw_all := lw_g (lw_at lw_m13 181 rfl) rfl
theorem q3182 : (Jvm.Cond.instanceMethod ({ cls := "SpokenMarksModel", name := "family", desc := "(I)I" } : Jvm.MethodName)) ∈ lw_all := lw_g (lw_at lw_m13 183 rfl) rfl
theorem q3183 : (Jvm.Cond.selects "SpokenMarksModel" ({ cls := "SpokenMarksModel", name := "family", desc := "(I)I" } : Jvm.MethodName) ({ cls := "SpokenMarksModel", name := "family", desc := "(I)I" } : Jvm.MethodName)) ∈ lw_all := lw_g (lw_at lw_m13 184 rfl) rfl
theorem q3184 : (Jvm.Cond.code ({ cls := "SpokenMarksModel", name := "family", desc := "(I)I" } : Jvm.MethodName) prog_28_method_97_code (4 : Nat) (Option.some Jvm.ClassFile.FieldType.int)) ∈ lw_all := lw_g (lw_at lw_m13 185 rfl) rfl
theorem q3186 : (Jvm.Cond.instanceMethod ({ cls := "SpokenMarksModel", name := "soundsLike", desc := "(I)I" } : Jvm.MethodName)) ∈ lw_all := lw_g (lw_at lw_m13 187 rfl) rfl
theorem q3187 : (Jvm.Cond.selects "SpokenMarksModel" ({ cls := "SpokenMarksModel", name := "soundsLike", desc := "(I)I" } : Jvm.MethodName) ({ cls := "SpokenMarksModel", name := "soundsLike", desc := "(I)I" } : Jvm.MethodName)) ∈ lw_all := lw_g (lw_at lw_m13 188 rfl) rfl
theorem q3188 : (Jvm.Cond.code ({ cls := "SpokenMarksModel", name := "soundsLike", desc := "(I)I" } : Jvm.MethodName) prog_28_method_99_code (4 : Nat) (Option.some Jvm.ClassFile.FieldType.int)) ∈ lw_all := lw_g (lw_at lw_m13 189 rfl) rfl
theorem q3189 : (Jvm.Cond.methodLink "SpokenMarksModel" (373 : Nat) ({ cls := "SpokenMarksModel", name := "sounding", desc := "(J)I" } : Jvm.MethodName)) ∈ lw_all := lw_g (lw_at lw_m13 190 rfl) rfl
theorem q3190 : (Jvm.Cond.privateMethod ({ cls := "SpokenMarksModel", name := "sounding", desc := "(J)I" } : Jvm.MethodName)) ∈ lw_tbl := lw_at lw_m13 191 rfl
theorem q3191 : (Jvm.Cond.instanceMethod ({ cls := "SpokenMarksModel", name := "sounding", desc := "(J)I" } : Jvm.MethodName)) ∈ lw_all := lw_g (lw_at lw_m13 192 rfl) rfl
theorem q3192 : (Jvm.Cond.code ({ cls := "SpokenMarksModel", name := "sounding", desc := "(J)I" } : Jvm.MethodName) prog_28_method_98_code (7 : Nat) (Option.some Jvm.ClassFile.FieldType.int)) ∈ lw_all := lw_g (lw_at lw_m13 193 rfl) rfl
theorem q3194 : (Jvm.Cond.instanceMethod ({ cls := "SpokenMarksModel", name := "rankIf", desc := "(I)I" } : Jvm.MethodName)) ∈ lw_all := lw_g (lw_at lw_m13 195 rfl) rfl
theorem q3195 : (Jvm.Cond.selects "SpokenMarksModel" ({ cls := "SpokenMarksModel", name := "rankIf", desc := "(I)I" } : Jvm.MethodName) ({ cls := "SpokenMarksModel", name := "rankIf", desc := "(I)I" } : Jvm.MethodName)) ∈ lw_all := lw_g (lw_at lw_m13 196 rfl) rfl
theorem q3196 : (Jvm.Cond.code ({ cls := "SpokenMarksModel", name := "rankIf", desc := "(I)I" } : Jvm.MethodName) prog_28_method_101_code (2 : Nat) (Option.some Jvm.ClassFile.FieldType.int)) ∈ lw_all := lw_g (lw_at lw_m13 197 rfl) rfl
theorem q3197 : (Jvm.Cond.methodLink "SpokenMarksModel" (376 : Nat) ({ cls := "SpokenMarksModel", name := "readsGuest", desc := "(I)Z" } : Jvm.MethodName)) ∈ lw_all := lw_g (lw_at lw_m13 198 rfl) rfl
theorem q3198 : (Jvm.Cond.privateMethod ({ cls := "SpokenMarksModel", name := "readsGuest", desc := "(I)Z" } : Jvm.MethodName)) ∈ lw_tbl := lw_at lw_m13 199 rfl
theorem q3199 : (Jvm.Cond.instanceMethod ({ cls := "SpokenMarksModel", name := "readsGuest", desc := "(I)Z" } : Jvm.MethodName)) ∈ lw_all := lw_g (lw_at lw_m13 200 rfl) rfl
theorem q3200 : (Jvm.Cond.code ({ cls := "SpokenMarksModel", name := "readsGuest", desc := "(I)Z" } : Jvm.MethodName) prog_28_method_100_code (2 : Nat) (Option.some Jvm.ClassFile.FieldType.boolean)) ∈ lw_all := lw_g (lw_at lw_m13 201 rfl) rfl
theorem q3202 : (Jvm.Cond.instanceMethod ({ cls := "SpokenMarksModel", name := "placeIf", desc := "(I)I" } : Jvm.MethodName)) ∈ lw_all := lw_g (lw_at lw_m13 203 rfl) rfl
theorem q3203 : (Jvm.Cond.selects "SpokenMarksModel" ({ cls := "SpokenMarksModel", name := "placeIf", desc := "(I)I" } : Jvm.MethodName) ({ cls := "SpokenMarksModel", name := "placeIf", desc := "(I)I" } : Jvm.MethodName)) ∈ lw_all := lw_g (lw_at lw_m13 204 rfl) rfl
theorem q3204 : (Jvm.Cond.code ({ cls := "SpokenMarksModel", name := "placeIf", desc := "(I)I" } : Jvm.MethodName) prog_28_method_102_code (2 : Nat) (Option.some Jvm.ClassFile.FieldType.int)) ∈ lw_all := lw_g (lw_at lw_m13 205 rfl) rfl
theorem q3206 : (Jvm.Cond.instanceMethod ({ cls := "SpokenMarksModel", name := "movesIf", desc := "(I)I" } : Jvm.MethodName)) ∈ lw_all := lw_g (lw_at lw_m13 207 rfl) rfl
theorem q3207 : (Jvm.Cond.selects "SpokenMarksModel" ({ cls := "SpokenMarksModel", name := "movesIf", desc := "(I)I" } : Jvm.MethodName) ({ cls := "SpokenMarksModel", name := "movesIf", desc := "(I)I" } : Jvm.MethodName)) ∈ lw_all := lw_g (lw_at lw_m13 208 rfl) rfl
theorem q3208 : (Jvm.Cond.code ({ cls := "SpokenMarksModel", name := "movesIf", desc := "(I)I" } : Jvm.MethodName) prog_28_method_103_code (2 : Nat) (Option.some Jvm.ClassFile.FieldType.int)) ∈ lw_all := lw_g (lw_at lw_m13 209 rfl) rfl
theorem q3210 : (Jvm.Cond.instanceMethod ({ cls := "SpokenMarksModel", name := "why", desc := "(I)I" } : Jvm.MethodName)) ∈ lw_all := lw_g (lw_at lw_m13 211 rfl) rfl
theorem q3211 : (Jvm.Cond.selects "SpokenMarksModel" ({ cls := "SpokenMarksModel", name := "why", desc := "(I)I" } : Jvm.MethodName) ({ cls := "SpokenMarksModel", name := "why", desc := "(I)I" } : Jvm.MethodName)) ∈ lw_all := lw_g (lw_at lw_m13 212 rfl) rfl
theorem q3212 : (Jvm.Cond.code ({ cls := "SpokenMarksModel", name := "why", desc := "(I)I" } : Jvm.MethodName) prog_28_method_106_code (2 : Nat) (Option.some Jvm.ClassFile.FieldType.int)) ∈ lw_all := lw_g (lw_at lw_m13 213 rfl) rfl
theorem q3213 : (Jvm.Cond.methodLink "SpokenMarksModel" (379 : Nat) ({ cls := "SpokenMarksModel", name := "because", desc := "(II)I" } : Jvm.MethodName)) ∈ lw_all := lw_g (lw_at lw_m13 214 rfl) rfl
theorem q3214 : (Jvm.Cond.privateMethod ({ cls := "SpokenMarksModel", name := "because", desc := "(II)I" } : Jvm.MethodName)) ∈ lw_tbl := lw_at lw_m13 215 rfl
theorem q3215 : (Jvm.Cond.instanceMethod ({ cls := "SpokenMarksModel", name := "because", desc := "(II)I" } : Jvm.MethodName)) ∈ lw_all := lw_g (lw_at lw_m13 216 rfl) rfl
theorem q3216 : (Jvm.Cond.code ({ cls := "SpokenMarksModel", name := "because", desc := "(II)I" } : Jvm.MethodName) prog_28_method_105_code (3 : Nat) (Option.some Jvm.ClassFile.FieldType.int)) ∈ lw_all := lw_g (lw_at lw_m13 217 rfl) rfl
theorem q3217 : (Jvm.Cond.methodLink "SpokenMarksModel" (382 : Nat) ({ cls := "SpokenMarksModel", name := "firstAlike", desc := "()I" } : Jvm.MethodName)) ∈ lw_all := lw_g (lw_at lw_m13 218 rfl) rfl
theorem q3218 : (Jvm.Cond.privateMethod ({ cls := "SpokenMarksModel", name := "firstAlike", desc := "()I" } : Jvm.MethodName)) ∈ lw_tbl := lw_at lw_m13 219 rfl
theorem q3219 : (Jvm.Cond.instanceMethod ({ cls := "SpokenMarksModel", name := "firstAlike", desc := "()I" } : Jvm.MethodName)) ∈ lw_all := lw_g (lw_at lw_m13 220 rfl) rfl
theorem q3220 : (Jvm.Cond.code ({ cls := "SpokenMarksModel", name := "firstAlike", desc := "()I" } : Jvm.MethodName) prog_28_method_104_code (2 : Nat) (Option.some Jvm.ClassFile.FieldType.int)) ∈ lw_all := lw_g (lw_at lw_m13 221 rfl) rfl
theorem q3222 : (Jvm.Cond.instanceMethod ({ cls := "SpokenMarksModel", name := "cause", desc := "()I" } : Jvm.MethodName)) ∈ lw_all := lw_g (lw_at lw_m13 223 rfl) rfl
theorem q3223 : (Jvm.Cond.selects "SpokenMarksModel" ({ cls := "SpokenMarksModel", name := "cause", desc := "()I" } : Jvm.MethodName) ({ cls := "SpokenMarksModel", name := "cause", desc := "()I" } : Jvm.MethodName)) ∈ lw_all := lw_g (lw_at lw_m13 224 rfl) rfl
theorem q3224 : (Jvm.Cond.code ({ cls := "SpokenMarksModel", name := "cause", desc := "()I" } : Jvm.MethodName) prog_28_method_107_code (1 : Nat) (Option.some Jvm.ClassFile.FieldType.int)) ∈ lw_all := lw_g (lw_at lw_m13 225 rfl) rfl
theorem q3226 : (Jvm.Cond.instanceMethod ({ cls := "SpokenMarksModel", name := "filled", desc := "(I)F" } : Jvm.MethodName)) ∈ lw_all := lw_g (lw_at lw_m13 227 rfl) rfl
theorem q3227 : (Jvm.Cond.selects "SpokenMarksModel" ({ cls := "SpokenMarksModel", name := "filled", desc := "(I)F" } : Jvm.MethodName) ({ cls := "SpokenMarksModel", name := "filled", desc := "(I)F" } : Jvm.MethodName)) ∈ lw_all := lw_g (lw_at lw_m13 228 rfl) rfl
theorem q3228 : (Jvm.Cond.code ({ cls := "SpokenMarksModel", name := "filled", desc := "(I)F" } : Jvm.MethodName) prog_28_method_108_code (2 : Nat) (Option.some Jvm.ClassFile.FieldType.float)) ∈ lw_all := lw_g (lw_at lw_m13 229 rfl) rfl
theorem q3230 : (Jvm.Cond.instanceMethod ({ cls := "SpokenMarksModel", name := "meanMoves", desc := "()D" } : Jvm.MethodName)) ∈ lw_all := lw_g (lw_at lw_m13 231 rfl) rfl
theorem q3231 : (Jvm.Cond.selects "SpokenMarksModel" ({ cls := "SpokenMarksModel", name := "meanMoves", desc := "()D" } : Jvm.MethodName) ({ cls := "SpokenMarksModel", name := "meanMoves", desc := "()D" } : Jvm.MethodName)) ∈ lw_all := lw_g (lw_at lw_m13 232 rfl) rfl
theorem q3232 : (Jvm.Cond.code ({ cls := "SpokenMarksModel", name := "meanMoves", desc := "()D" } : Jvm.MethodName) prog_28_method_109_code (1 : Nat) (Option.some Jvm.ClassFile.FieldType.double)) ∈ lw_all := lw_g (lw_at lw_m13 233 rfl) rfl
theorem q3234 : (Jvm.Cond.instanceMethod ({ cls := "SpokenMarksModel", name := "add", desc := "(II)I" } : Jvm.MethodName)) ∈ lw_all := lw_g (lw_at lw_m13 235 rfl) rfl
theorem q3235 : (Jvm.Cond.selects "SpokenMarksModel" ({ cls := "SpokenMarksModel", name := "add", desc := "(II)I" } : Jvm.MethodName) ({ cls := "SpokenMarksModel", name := "add", desc := "(II)I" } : Jvm.MethodName)) ∈ lw_all := lw_g (lw_at lw_m13 236 rfl) rfl
theorem q3236 : (Jvm.Cond.code ({ cls := "SpokenMarksModel", name := "add", desc := "(II)I" } : Jvm.MethodName) prog_28_method_114_code (3 : Nat) (Option.some Jvm.ClassFile.FieldType.int)) ∈ lw_all := lw_g (lw_at lw_m13 237 rfl) rfl
theorem q3237 : (Jvm.Cond.constantLong "SpokenMarksModel" (409 : Nat) (20 : Int64)) ∈ lw_all := lw_g (lw_at lw_m13 238 rfl) rfl
theorem q3238 : (Jvm.Cond.methodLink "SpokenMarksModel" (411 : Nat) ({ cls := "SpokenMarksModel", name := "adds", desc := "(I)I" } : Jvm.MethodName)) ∈ lw_all := lw_g (lw_at lw_m13 239 rfl) rfl
theorem q3239 : (Jvm.Cond.privateMethod ({ cls := "SpokenMarksModel", name := "adds", desc := "(I)I" } : Jvm.MethodName)) ∈ lw_tbl := lw_at lw_m14 0 rfl
theorem q3240 : (Jvm.Cond.instanceMethod ({ cls := "SpokenMarksModel", name := "adds", desc := "(I)I" } : Jvm.MethodName)) ∈ lw_all := lw_g (lw_at lw_m14 1 rfl) rfl
theorem q3241 : (Jvm.Cond.code ({ cls := "SpokenMarksModel", name := "adds", desc := "(I)I" } : Jvm.MethodName) prog_28_method_45_code (2 : Nat) (Option.some Jvm.ClassFile.FieldType.int)) ∈ lw_all := lw_g (lw_at lw_m14 2 rfl) rfl
theorem q3242 : (Jvm.Cond.methodLink "SpokenMarksModel" (406 : Nat) ({ cls := "SpokenMarksModel", name := "ends", desc := "(I)I" } : Jvm.MethodName)) ∈ lw_all := lw_g (lw_at lw_m14 3 rfl) rfl
theorem q3243 : (Jvm.Cond.privateMethod ({ cls := "SpokenMarksModel", name := "ends", desc := "(I)I" } : Jvm.MethodName)) ∈ lw_tbl := lw_at lw_m14 4 rfl
theorem q3244 : (Jvm.Cond.instanceMethod ({ cls := "SpokenMarksModel", name := "ends", desc := "(I)I" } : Jvm.MethodName)) ∈ lw_all := lw_g (lw_at lw_m14 5 rfl) rfl
theorem q3245 : (Jvm.Cond.code ({ cls := "SpokenMarksModel", name := "ends", desc := "(I)I" } : Jvm.MethodName) prog_28_method_112_code (2 : Nat) (Option.some Jvm.ClassFile.FieldType.int)) ∈ lw_all := lw_g (lw_at lw_m14 6 rfl) rfl
theorem q3246 : (Jvm.Cond.methodLink "SpokenMarksModel" (400 : Nat) ({ cls := "SpokenMarksModel", name := "keeps", desc := "()V" } : Jvm.MethodName)) ∈ lw_all := lw_g (lw_at lw_m14 7 rfl) rfl
theorem q3247 : (Jvm.Cond.privateMethod ({ cls := "SpokenMarksModel", name := "keeps", desc := "()V" } : Jvm.MethodName)) ∈ lw_tbl := lw_at lw_m14 8 rfl
theorem q3248 : (Jvm.Cond.instanceMethod ({ cls := "SpokenMarksModel", name := "keeps", desc := "()V" } : Jvm.MethodName)) ∈ lw_all := lw_g (lw_at lw_m14 9 rfl) rfl
theorem q3249 : (Jvm.Cond.code ({ cls := "SpokenMarksModel", name := "keeps", desc := "()V" } : Jvm.MethodName) prog_28_method_111_code (1 : Nat) (Option.none : Option Jvm.ClassFile.FieldType)) ∈ lw_all := lw_g (lw_at lw_m14 10 rfl) rfl
theorem q3251 : (Jvm.Cond.instanceMethod ({ cls := "SpokenMarksModel", name := "drop", desc := "(I)I" } : Jvm.MethodName)) ∈ lw_all := lw_g (lw_at lw_m14 12 rfl) rfl
theorem q3252 : (Jvm.Cond.selects "SpokenMarksModel" ({ cls := "SpokenMarksModel", name := "drop", desc := "(I)I" } : Jvm.MethodName) ({ cls := "SpokenMarksModel", name := "drop", desc := "(I)I" } : Jvm.MethodName)) ∈ lw_all := lw_g (lw_at lw_m14 13 rfl) rfl
theorem q3253 : (Jvm.Cond.code ({ cls := "SpokenMarksModel", name := "drop", desc := "(I)I" } : Jvm.MethodName) prog_28_method_115_code (2 : Nat) (Option.some Jvm.ClassFile.FieldType.int)) ∈ lw_all := lw_g (lw_at lw_m14 14 rfl) rfl
theorem q3254 : (Jvm.Cond.methodLink "SpokenMarksModel" (414 : Nat) ({ cls := "SpokenMarksModel", name := "operates", desc := "(III)I" } : Jvm.MethodName)) ∈ lw_all := lw_g (lw_at lw_m14 15 rfl) rfl
theorem q3255 : (Jvm.Cond.privateMethod ({ cls := "SpokenMarksModel", name := "operates", desc := "(III)I" } : Jvm.MethodName)) ∈ lw_tbl := lw_at lw_m14 16 rfl
theorem q3256 : (Jvm.Cond.instanceMethod ({ cls := "SpokenMarksModel", name := "operates", desc := "(III)I" } : Jvm.MethodName)) ∈ lw_all := lw_g (lw_at lw_m14 17 rfl) rfl
theorem q3257 : (Jvm.Cond.code ({ cls := "SpokenMarksModel", name := "operates", desc := "(III)I" } : Jvm.MethodName) prog_28_method_113_code (4 : Nat) (Option.some Jvm.ClassFile.FieldType.int)) ∈ lw_all := lw_g (lw_at lw_m14 18 rfl) rfl
theorem q3258 : (Jvm.Cond.methodLink "SpokenMarksModel" (403 : Nat) ({ cls := "SpokenMarksModel", name := "does", desc := "(III)I" } : Jvm.MethodName)) ∈ lw_all := lw_g (lw_at lw_m14 19 rfl) rfl
theorem q3259 : (Jvm.Cond.privateMethod ({ cls := "SpokenMarksModel", name := "does", desc := "(III)I" } : Jvm.MethodName)) ∈ lw_tbl := lw_at lw_m14 20 rfl
theorem q3260 : (Jvm.Cond.instanceMethod ({ cls := "SpokenMarksModel", name := "does", desc := "(III)I" } : Jvm.MethodName)) ∈ lw_all := lw_g (lw_at lw_m14 21 rfl) rfl
theorem q3261 : (Jvm.Cond.code ({ cls := "SpokenMarksModel", name := "does", desc := "(III)I" } : Jvm.MethodName) prog_28_method_110_code (4 : Nat) (Option.some Jvm.ClassFile.FieldType.int)) ∈ lw_all := lw_g (lw_at lw_m14 22 rfl) rfl
theorem q3262 : (Jvm.Cond.methodLink "SpokenMarksModel" (385 : Nat) ({ cls := "SpokenMarksModel", name := "unsays", desc := "(I)I" } : Jvm.MethodName)) ∈ lw_all := lw_g (lw_at lw_m14 23 rfl) rfl
theorem q3263 : (Jvm.Cond.privateMethod ({ cls := "SpokenMarksModel", name := "unsays", desc := "(I)I" } : Jvm.MethodName)) ∈ lw_tbl := lw_at lw_m14 24 rfl
theorem q3264 : (Jvm.Cond.instanceMethod ({ cls := "SpokenMarksModel", name := "unsays", desc := "(I)I" } : Jvm.MethodName)) ∈ lw_all := lw_g (lw_at lw_m14 25 rfl) rfl
theorem q3265 : (Jvm.Cond.code ({ cls := "SpokenMarksModel", name := "unsays", desc := "(I)I" } : Jvm.MethodName) prog_28_method_48_code (2 : Nat) (Option.some Jvm.ClassFile.FieldType.int)) ∈ lw_all := lw_g (lw_at lw_m14 26 rfl) rfl
theorem q3266 : (Jvm.Cond.methodLink "SpokenMarksModel" (388 : Nat) ({ cls := "SpokenMarksModel", name := "drops", desc := "(I)I" } : Jvm.MethodName)) ∈ lw_all := lw_g (lw_at lw_m14 27 rfl) rfl
theorem q3267 : (Jvm.Cond.privateMethod ({ cls := "SpokenMarksModel", name := "drops", desc := "(I)I" } : Jvm.MethodName)) ∈ lw_tbl := lw_at lw_m14 28 rfl
theorem q3268 : (Jvm.Cond.instanceMethod ({ cls := "SpokenMarksModel", name := "drops", desc := "(I)I" } : Jvm.MethodName)) ∈ lw_all := lw_g (lw_at lw_m14 29 rfl) rfl
theorem q3269 : (Jvm.Cond.code ({ cls := "SpokenMarksModel", name := "drops", desc := "(I)I" } : Jvm.MethodName) prog_28_method_46_code (2 : Nat) (Option.some Jvm.ClassFile.FieldType.int)) ∈ lw_all := lw_g (lw_at lw_m14 30 rfl) rfl
theorem q3270 : (Jvm.Cond.methodLink "SpokenMarksModel" (391 : Nat) ({ cls := "SpokenMarksModel", name := "widens", desc := "(II)I" } : Jvm.MethodName)) ∈ lw_all := lw_g (lw_at lw_m14 31 rfl) rfl
theorem q3271 : (Jvm.Cond.privateMethod ({ cls := "SpokenMarksModel", name := "widens", desc := "(II)I" } : Jvm.MethodName)) ∈ lw_tbl := lw_at lw_m14 32 rfl
theorem q3272 : (Jvm.Cond.instanceMethod ({ cls := "SpokenMarksModel", name := "widens", desc := "(II)I" } : Jvm.MethodName)) ∈ lw_all := lw_g (lw_at lw_m14 33 rfl) rfl
theorem q3273 : (Jvm.Cond.code ({ cls := "SpokenMarksModel", name := "widens", desc := "(II)I" } : Jvm.MethodName) prog_28_method_49_code (4 : Nat) (Option.some Jvm.ClassFile.FieldType.int)) ∈ lw_all := lw_g (lw_at lw_m14 34 rfl) rfl
theorem q3274 : (Jvm.Cond.methodLink "SpokenMarksModel" (394 : Nat) ({ cls := "SpokenMarksModel", name := "bounds", desc := "(II)I" } : Jvm.MethodName)) ∈ lw_all := lw_g (lw_at lw_m14 35 rfl) rfl
theorem q3275 : (Jvm.Cond.privateMethod ({ cls := "SpokenMarksModel", name := "bounds", desc := "(II)I" } : Jvm.MethodName)) ∈ lw_tbl := lw_at lw_m14 36 rfl
theorem q3276 : (Jvm.Cond.instanceMethod ({ cls := "SpokenMarksModel", name := "bounds", desc := "(II)I" } : Jvm.MethodName)) ∈ lw_all := lw_g (lw_at lw_m14 37 rfl) rfl
theorem q3277 : (Jvm.Cond.code ({ cls := "SpokenMarksModel", name := "bounds", desc := "(II)I" } : Jvm.MethodName) prog_28_method_50_code (4 : Nat) (Option.some Jvm.ClassFile.FieldType.int)) ∈ lw_all := lw_g (lw_at lw_m14 38 rfl) rfl
theorem q3278 : (Jvm.Cond.methodLink "SpokenMarksModel" (397 : Nat) ({ cls := "SpokenMarksModel", name := "balances", desc := "()I" } : Jvm.MethodName)) ∈ lw_all := lw_g (lw_at lw_m14 39 rfl) rfl
theorem q3279 : (Jvm.Cond.privateMethod ({ cls := "SpokenMarksModel", name := "balances", desc := "()I" } : Jvm.MethodName)) ∈ lw_tbl := lw_at lw_m14 40 rfl
theorem q3280 : (Jvm.Cond.instanceMethod ({ cls := "SpokenMarksModel", name := "balances", desc := "()I" } : Jvm.MethodName)) ∈ lw_all := lw_g (lw_at lw_m14 41 rfl) rfl
theorem q3281 : (Jvm.Cond.code ({ cls := "SpokenMarksModel", name := "balances", desc := "()I" } : Jvm.MethodName) prog_28_method_51_code (5 : Nat) (Option.some Jvm.ClassFile.FieldType.int)) ∈ lw_all := lw_g (lw_at lw_m14 42 rfl) rfl
theorem q3282 : (Jvm.Cond.constantLong "SpokenMarksModel" (208 : Nat) (10000 : Int64)) ∈ lw_all := lw_g (lw_at lw_m14 43 rfl) rfl
theorem q3284 : (Jvm.Cond.instanceMethod ({ cls := "SpokenMarksModel", name := "say", desc := "(I)I" } : Jvm.MethodName)) ∈ lw_all := lw_g (lw_at lw_m14 45 rfl) rfl
theorem q3285 : (Jvm.Cond.selects "SpokenMarksModel" ({ cls := "SpokenMarksModel", name := "say", desc := "(I)I" } : Jvm.MethodName) ({ cls := "SpokenMarksModel", name := "say", desc := "(I)I" } : Jvm.MethodName)) ∈ lw_all := lw_g (lw_at lw_m14 46 rfl) rfl
theorem q3286 : (Jvm.Cond.code ({ cls := "SpokenMarksModel", name := "say", desc := "(I)I" } : Jvm.MethodName) prog_28_method_117_code (2 : Nat) (Option.some Jvm.ClassFile.FieldType.int)) ∈ lw_all := lw_g (lw_at lw_m14 47 rfl) rfl
theorem q3287 : (Jvm.Cond.methodLink "SpokenMarksModel" (424 : Nat) ({ cls := "SpokenMarksModel", name := "readsSay", desc := "()V" } : Jvm.MethodName)) ∈ lw_all := lw_g (lw_at lw_m14 48 rfl) rfl
theorem q3288 : (Jvm.Cond.privateMethod ({ cls := "SpokenMarksModel", name := "readsSay", desc := "()V" } : Jvm.MethodName)) ∈ lw_tbl := lw_at lw_m14 49 rfl
theorem q3289 : (Jvm.Cond.instanceMethod ({ cls := "SpokenMarksModel", name := "readsSay", desc := "()V" } : Jvm.MethodName)) ∈ lw_all := lw_g (lw_at lw_m14 50 rfl) rfl
theorem q3290 : (Jvm.Cond.code ({ cls := "SpokenMarksModel", name := "readsSay", desc := "()V" } : Jvm.MethodName) prog_28_method_116_code (1 : Nat) (Option.none : Option Jvm.ClassFile.FieldType)) ∈ lw_all := lw_g (lw_at lw_m14 51 rfl) rfl
theorem q3292 : (Jvm.Cond.instanceMethod ({ cls := "SpokenMarksModel", name := "unsay", desc := "(I)I" } : Jvm.MethodName)) ∈ lw_all := lw_g (lw_at lw_m14 53 rfl) rfl
theorem q3293 : (Jvm.Cond.selects "SpokenMarksModel" ({ cls := "SpokenMarksModel", name := "unsay", desc := "(I)I" } : Jvm.MethodName) ({ cls := "SpokenMarksModel", name := "unsay", desc := "(I)I" } : Jvm.MethodName)) ∈ lw_all := lw_g (lw_at lw_m14 54 rfl) rfl
theorem q3294 : (Jvm.Cond.code ({ cls := "SpokenMarksModel", name := "unsay", desc := "(I)I" } : Jvm.MethodName) prog_28_method_118_code (2 : Nat) (Option.some Jvm.ClassFile.FieldType.int)) ∈ lw_all := lw_g (lw_at lw_m14 55 rfl) rfl
theorem q3296 : (Jvm.Cond.instanceMethod ({ cls := "SpokenMarksModel", name := "setWidth", desc := "(II)I" } : Jvm.MethodName)) ∈ lw_all := lw_g (lw_at lw_m14 57 rfl) rfl
theorem q3297 : (Jvm.Cond.selects "SpokenMarksModel" ({ cls := "SpokenMarksModel", name := "setWidth", desc := "(II)I" } : Jvm.MethodName) ({ cls := "SpokenMarksModel", name := "setWidth", desc := "(II)I" } : Jvm.MethodName)) ∈ lw_all := lw_g (lw_at lw_m14 58 rfl) rfl
theorem q3298 : (Jvm.Cond.code ({ cls := "SpokenMarksModel", name := "setWidth", desc := "(II)I" } : Jvm.MethodName) prog_28_method_119_code (3 : Nat) (Option.some Jvm.ClassFile.FieldType.int)) ∈ lw_all := lw_g (lw_at lw_m14 59 rfl) rfl
theorem q3300 : (Jvm.Cond.instanceMethod ({ cls := "SpokenMarksModel", name := "setBound", desc := "(II)I" } : Jvm.MethodName)) ∈ lw_all := lw_g (lw_at lw_m14 61 rfl) rfl
theorem q3301 : (Jvm.Cond.selects "SpokenMarksModel" ({ cls := "SpokenMarksModel", name := "setBound", desc := "(II)I" } : Jvm.MethodName) ({ cls := "SpokenMarksModel", name := "setBound", desc := "(II)I" } : Jvm.MethodName)) ∈ lw_all := lw_g (lw_at lw_m14 62 rfl) rfl
theorem q3302 : (Jvm.Cond.code ({ cls := "SpokenMarksModel", name := "setBound", desc := "(II)I" } : Jvm.MethodName) prog_28_method_120_code (3 : Nat) (Option.some Jvm.ClassFile.FieldType.int)) ∈ lw_all := lw_g (lw_at lw_m14 63 rfl) rfl
theorem q3304 : (Jvm.Cond.instanceMethod ({ cls := "SpokenMarksModel", name := "balance", desc := "()I" } : Jvm.MethodName)) ∈ lw_all := lw_g (lw_at lw_m14 65 rfl) rfl
theorem q3305 : (Jvm.Cond.selects "SpokenMarksModel" ({ cls := "SpokenMarksModel", name := "balance", desc := "()I" } : Jvm.MethodName) ({ cls := "SpokenMarksModel", name := "balance", desc := "()I" } : Jvm.MethodName)) ∈ lw_all := lw_g (lw_at lw_m14 66 rfl) rfl
theorem q3306 : (Jvm.Cond.code ({ cls := "SpokenMarksModel", name := "balance", desc := "()I" } : Jvm.MethodName) prog_28_method_121_code (1 : Nat) (Option.some Jvm.ClassFile.FieldType.int)) ∈ lw_all := lw_g (lw_at lw_m14 67 rfl) rfl
theorem q3308 : (Jvm.Cond.instanceMethod ({ cls := "SpokenMarksModel", name := "respace", desc := "()I" } : Jvm.MethodName)) ∈ lw_all := lw_g (lw_at lw_m14 69 rfl) rfl
theorem q3309 : (Jvm.Cond.selects "SpokenMarksModel" ({ cls := "SpokenMarksModel", name := "respace", desc := "()I" } : Jvm.MethodName) ({ cls := "SpokenMarksModel", name := "respace", desc := "()I" } : Jvm.MethodName)) ∈ lw_all := lw_g (lw_at lw_m14 70 rfl) rfl
theorem q3310 : (Jvm.Cond.code ({ cls := "SpokenMarksModel", name := "respace", desc := "()I" } : Jvm.MethodName) prog_28_method_122_code (1 : Nat) (Option.some Jvm.ClassFile.FieldType.int)) ∈ lw_all := lw_g (lw_at lw_m14 71 rfl) rfl
theorem q3312 : (Jvm.Cond.instanceMethod ({ cls := "SpokenMarksModel", name := "play", desc := "(I)I" } : Jvm.MethodName)) ∈ lw_all := lw_g (lw_at lw_m14 73 rfl) rfl
theorem q3313 : (Jvm.Cond.selects "SpokenMarksModel" ({ cls := "SpokenMarksModel", name := "play", desc := "(I)I" } : Jvm.MethodName) ({ cls := "SpokenMarksModel", name := "play", desc := "(I)I" } : Jvm.MethodName)) ∈ lw_all := lw_g (lw_at lw_m14 74 rfl) rfl
theorem q3314 : (Jvm.Cond.code ({ cls := "SpokenMarksModel", name := "play", desc := "(I)I" } : Jvm.MethodName) prog_28_method_128_code (3 : Nat) (Option.some Jvm.ClassFile.FieldType.int)) ∈ lw_all := lw_g (lw_at lw_m14 75 rfl) rfl
theorem q3315 : (Jvm.Cond.methodLink "SpokenMarksModel" (450 : Nat) ({ cls := "SpokenMarksModel", name := "readsOrder", desc := "()V" } : Jvm.MethodName)) ∈ lw_all := lw_g (lw_at lw_m14 76 rfl) rfl
theorem q3316 : (Jvm.Cond.privateMethod ({ cls := "SpokenMarksModel", name := "readsOrder", desc := "()V" } : Jvm.MethodName)) ∈ lw_tbl := lw_at lw_m14 77 rfl
theorem q3317 : (Jvm.Cond.instanceMethod ({ cls := "SpokenMarksModel", name := "readsOrder", desc := "()V" } : Jvm.MethodName)) ∈ lw_all := lw_g (lw_at lw_m14 78 rfl) rfl
theorem q3318 : (Jvm.Cond.code ({ cls := "SpokenMarksModel", name := "readsOrder", desc := "()V" } : Jvm.MethodName) prog_28_method_125_code (2 : Nat) (Option.none : Option Jvm.ClassFile.FieldType)) ∈ lw_all := lw_g (lw_at lw_m14 79 rfl) rfl
theorem q3319 : (Jvm.Cond.methodLink "SpokenMarksModel" (438 : Nat) ({ cls := "SpokenMarksModel", name := "orderHere", desc := "()I" } : Jvm.MethodName)) ∈ lw_all := lw_g (lw_at lw_m14 80 rfl) rfl
theorem q3320 : (Jvm.Cond.privateMethod ({ cls := "SpokenMarksModel", name := "orderHere", desc := "()I" } : Jvm.MethodName)) ∈ lw_tbl := lw_at lw_m14 81 rfl
theorem q3321 : (Jvm.Cond.instanceMethod ({ cls := "SpokenMarksModel", name := "orderHere", desc := "()I" } : Jvm.MethodName)) ∈ lw_all := lw_g (lw_at lw_m14 82 rfl) rfl
theorem q3322 : (Jvm.Cond.code ({ cls := "SpokenMarksModel", name := "orderHere", desc := "()I" } : Jvm.MethodName) prog_28_method_123_code (1 : Nat) (Option.some Jvm.ClassFile.FieldType.int)) ∈ lw_all := lw_g (lw_at lw_m14 83 rfl) rfl
theorem q3323 : (Jvm.Cond.stringRef "SpokenMarksModel" (427 : Nat) "unsay") ∈ lw_tbl := lw_at lw_m14 84 rfl
theorem q3324 : (Jvm.Cond.stringRef "SpokenMarksModel" (429 : Nat) "drop") ∈ lw_tbl := lw_at lw_m14 85 rfl
theorem q3325 : (Jvm.Cond.stringRef "SpokenMarksModel" (431 : Nat) "width") ∈ lw_tbl := lw_at lw_m14 86 rfl
theorem q3326 : (Jvm.Cond.stringRef "SpokenMarksModel" (433 : Nat) "bound") ∈ lw_tbl := lw_at lw_m14 87 rfl
theorem q3327 : (Jvm.Cond.stringRef "SpokenMarksModel" (434 : Nat) "balance") ∈ lw_tbl := lw_at lw_m14 88 rfl
theorem q3328 : (Jvm.Cond.stringRef "SpokenMarksModel" (436 : Nat) "respace") ∈ lw_tbl := lw_at lw_m14 89 rfl
theorem q3329 : (Jvm.Cond.methodLink "SpokenMarksModel" (444 : Nat) ({ cls := "SpokenMarksModel", name := "readsRest", desc := "(II)V" } : Jvm.MethodName)) ∈ lw_all := lw_g (lw_at lw_m14 90 rfl) rfl
theorem q3330 : (Jvm.Cond.privateMethod ({ cls := "SpokenMarksModel", name := "readsRest", desc := "(II)V" } : Jvm.MethodName)) ∈ lw_tbl := lw_at lw_m14 91 rfl
theorem q3331 : (Jvm.Cond.instanceMethod ({ cls := "SpokenMarksModel", name := "readsRest", desc := "(II)V" } : Jvm.MethodName)) ∈ lw_all := lw_g (lw_at lw_m14 92 rfl) rfl
theorem q3332 : (Jvm.Cond.code ({ cls := "SpokenMarksModel", name := "readsRest", desc := "(II)V" } : Jvm.MethodName) prog_28_method_124_code (4 : Nat) (Option.none : Option Jvm.ClassFile.FieldType)) ∈ lw_all := lw_g (lw_at lw_m14 93 rfl) rfl
theorem q3333 : (Jvm.Cond.methodLink "SpokenMarksModel" (453 : Nat) ({ cls := "SpokenMarksModel", name := "isDoneNow", desc := "(I)Z" } : Jvm.MethodName)) ∈ lw_all := lw_g (lw_at lw_m14 94 rfl) rfl
theorem q3334 : (Jvm.Cond.privateMethod ({ cls := "SpokenMarksModel", name := "isDoneNow", desc := "(I)Z" } : Jvm.MethodName)) ∈ lw_tbl := lw_at lw_m14 95 rfl
theorem q3335 : (Jvm.Cond.instanceMethod ({ cls := "SpokenMarksModel", name := "isDoneNow", desc := "(I)Z" } : Jvm.MethodName)) ∈ lw_all := lw_g (lw_at lw_m14 96 rfl) rfl
theorem q3336 : (Jvm.Cond.code ({ cls := "SpokenMarksModel", name := "isDoneNow", desc := "(I)Z" } : Jvm.MethodName) prog_28_method_127_code (3 : Nat) (Option.some Jvm.ClassFile.FieldType.boolean)) ∈ lw_all := lw_g (lw_at lw_m14 97 rfl) rfl
theorem q3337 : (Jvm.Cond.methodLink "SpokenMarksModel" (447 : Nat) ({ cls := "SpokenMarksModel", name := "doesNow", desc := "(I)I" } : Jvm.MethodName)) ∈ lw_all := lw_g (lw_at lw_m14 98 rfl) rfl
theorem q3338 : (Jvm.Cond.privateMethod ({ cls := "SpokenMarksModel", name := "doesNow", desc := "(I)I" } : Jvm.MethodName)) ∈ lw_tbl := lw_at lw_m14 99 rfl
theorem q3339 : (Jvm.Cond.instanceMethod ({ cls := "SpokenMarksModel", name := "doesNow", desc := "(I)I" } : Jvm.MethodName)) ∈ lw_all := lw_g (lw_at lw_m14 100 rfl) rfl
theorem q3340 : (Jvm.Cond.code ({ cls := "SpokenMarksModel", name := "doesNow", desc := "(I)I" } : Jvm.MethodName) prog_28_method_126_code (3 : Nat) (Option.some Jvm.ClassFile.FieldType.int)) ∈ lw_all := lw_g (lw_at lw_m14 101 rfl) rfl
theorem q3342 : (Jvm.Cond.instanceMethod ({ cls := "SpokenMarksModel", name := "format", desc := "(I)I" } : Jvm.MethodName)) ∈ lw_all := lw_g (lw_at lw_m14 103 rfl) rfl
theorem q3343 : (Jvm.Cond.selects "SpokenMarksModel" ({ cls := "SpokenMarksModel", name := "format", desc := "(I)I" } : Jvm.MethodName) ({ cls := "SpokenMarksModel", name := "format", desc := "(I)I" } : Jvm.MethodName)) ∈ lw_all := lw_g (lw_at lw_m14 104 rfl) rfl
theorem q3344 : (Jvm.Cond.code ({ cls := "SpokenMarksModel", name := "format", desc := "(I)I" } : Jvm.MethodName) prog_28_method_131_code (4 : Nat) (Option.some Jvm.ClassFile.FieldType.int)) ∈ lw_all := lw_g (lw_at lw_m14 105 rfl) rfl
theorem q3345 : (Jvm.Cond.methodLink "SpokenMarksModel" (459 : Nat) ({ cls := "SpokenMarksModel", name := "writes", desc := "(I)V" } : Jvm.MethodName)) ∈ lw_all := lw_g (lw_at lw_m14 106 rfl) rfl
theorem q3346 : (Jvm.Cond.privateMethod ({ cls := "SpokenMarksModel", name := "writes", desc := "(I)V" } : Jvm.MethodName)) ∈ lw_tbl := lw_at lw_m14 107 rfl
theorem q3347 : (Jvm.Cond.instanceMethod ({ cls := "SpokenMarksModel", name := "writes", desc := "(I)V" } : Jvm.MethodName)) ∈ lw_all := lw_g (lw_at lw_m14 108 rfl) rfl
theorem q3348 : (Jvm.Cond.code ({ cls := "SpokenMarksModel", name := "writes", desc := "(I)V" } : Jvm.MethodName) prog_28_method_129_code (2 : Nat) (Option.none : Option Jvm.ClassFile.FieldType)) ∈ lw_all := lw_g (lw_at lw_m14 109 rfl) rfl
theorem q3349 : (Jvm.Cond.methodLink "SpokenMarksModel" (462 : Nat) ({ cls := "SpokenMarksModel", name := "writesPart", desc := "(J)V" } : Jvm.MethodName)) ∈ lw_all := lw_g (lw_at lw_m14 110 rfl) rfl
theorem q3350 : (Jvm.Cond.privateMethod ({ cls := "SpokenMarksModel", name := "writesPart", desc := "(J)V" } : Jvm.MethodName)) ∈ lw_tbl := lw_at lw_m14 111 rfl
theorem q3351 : (Jvm.Cond.instanceMethod ({ cls := "SpokenMarksModel", name := "writesPart", desc := "(J)V" } : Jvm.MethodName)) ∈ lw_all := lw_g (lw_at lw_m14 112 rfl) rfl
theorem q3352 : (Jvm.Cond.code ({ cls := "SpokenMarksModel", name := "writesPart", desc := "(J)V" } : Jvm.MethodName) prog_28_method_130_code (6 : Nat) (Option.none : Option Jvm.ClassFile.FieldType)) ∈ lw_all := lw_g (lw_at lw_m14 113 rfl) rfl
theorem q3354 : (Jvm.Cond.instanceMethod ({ cls := "SpokenMarksModel", name := "formattedByte", desc := "(I)I" } : Jvm.MethodName)) ∈ lw_all := lw_g (lw_at lw_m14 115 rfl) rfl
theorem q3355 : (Jvm.Cond.selects "SpokenMarksModel" ({ cls := "SpokenMarksModel", name := "formattedByte", desc := "(I)I" } : Jvm.MethodName) ({ cls := "SpokenMarksModel", name := "formattedByte", desc := "(I)I" } : Jvm.MethodName)) ∈ lw_all := lw_g (lw_at lw_m14 116 rfl) rfl
theorem q3356 : (Jvm.Cond.code ({ cls := "SpokenMarksModel", name := "formattedByte", desc := "(I)I" } : Jvm.MethodName) prog_28_method_132_code (2 : Nat) (Option.some Jvm.ClassFile.FieldType.int)) ∈ lw_all := lw_g (lw_at lw_m14 117 rfl) rfl
theorem q3358 : (Jvm.Cond.instanceMethod ({ cls := "SpokenMarksModel", name := "undoCount", desc := "()I" } : Jvm.MethodName)) ∈ lw_all := lw_g (lw_at lw_m14 119 rfl) rfl
theorem q3359 : (Jvm.Cond.selects "SpokenMarksModel" ({ cls := "SpokenMarksModel", name := "undoCount", desc := "()I" } : Jvm.MethodName) ({ cls := "SpokenMarksModel", name := "undoCount", desc := "()I" } : Jvm.MethodName)) ∈ lw_all := lw_g (lw_at lw_m14 120 rfl) rfl
theorem q3360 : (Jvm.Cond.code ({ cls := "SpokenMarksModel", name := "undoCount", desc := "()I" } : Jvm.MethodName) prog_28_method_133_code (1 : Nat) (Option.some Jvm.ClassFile.FieldType.int)) ∈ lw_all := lw_g (lw_at lw_m14 121 rfl) rfl
theorem q3362 : (Jvm.Cond.instanceMethod ({ cls := "SpokenMarksModel", name := "undo", desc := "()I" } : Jvm.MethodName)) ∈ lw_all := lw_g (lw_at lw_m14 123 rfl) rfl
theorem q3363 : (Jvm.Cond.selects "SpokenMarksModel" ({ cls := "SpokenMarksModel", name := "undo", desc := "()I" } : Jvm.MethodName) ({ cls := "SpokenMarksModel", name := "undo", desc := "()I" } : Jvm.MethodName)) ∈ lw_all := lw_g (lw_at lw_m14 124 rfl) rfl
theorem q3364 : (Jvm.Cond.code ({ cls := "SpokenMarksModel", name := "undo", desc := "()I" } : Jvm.MethodName) prog_28_method_134_code (1 : Nat) (Option.some Jvm.ClassFile.FieldType.int)) ∈ lw_all := lw_g (lw_at lw_m14 125 rfl) rfl
theorem q3366 : (Jvm.Cond.instanceMethod ({ cls := "SpokenMarksModel", name := "saveSnapshot", desc := "()V" } : Jvm.MethodName)) ∈ lw_all := lw_g (lw_at lw_m14 127 rfl) rfl
theorem q3367 : (Jvm.Cond.selects "SpokenMarksModel" ({ cls := "SpokenMarksModel", name := "saveSnapshot", desc := "()V" } : Jvm.MethodName) ({ cls := "SpokenMarksModel", name := "saveSnapshot", desc := "()V" } : Jvm.MethodName)) ∈ lw_all := lw_g (lw_at lw_m14 128 rfl) rfl
theorem q3368 : (Jvm.Cond.code ({ cls := "SpokenMarksModel", name := "saveSnapshot", desc := "()V" } : Jvm.MethodName) prog_28_method_135_code (1 : Nat) (Option.none : Option Jvm.ClassFile.FieldType)) ∈ lw_all := lw_g (lw_at lw_m14 129 rfl) rfl
theorem q3370 : (Jvm.Cond.instanceMethod ({ cls := "SpokenMarksModel", name := "restoreSnapshot", desc := "()Z" } : Jvm.MethodName)) ∈ lw_all := lw_g (lw_at lw_m14 131 rfl) rfl
theorem q3371 : (Jvm.Cond.selects "SpokenMarksModel" ({ cls := "SpokenMarksModel", name := "restoreSnapshot", desc := "()Z" } : Jvm.MethodName) ({ cls := "SpokenMarksModel", name := "restoreSnapshot", desc := "()Z" } : Jvm.MethodName)) ∈ lw_all := lw_g (lw_at lw_m14 132 rfl) rfl
theorem q3372 : (Jvm.Cond.code ({ cls := "SpokenMarksModel", name := "restoreSnapshot", desc := "()Z" } : Jvm.MethodName) prog_28_method_136_code (1 : Nat) (Option.some Jvm.ClassFile.FieldType.boolean)) ∈ lw_all := lw_g (lw_at lw_m14 133 rfl) rfl
theorem q3456 : (Jvm.Cond.castable "SpokenMarksModel" "java/lang/Object") ∈ lw_tbl := lw_at lw_m14 217 rfl
theorem in_X10 : ∀ w ∈ wsX100, w ∈ lw_all := lw_in wsX100 [2974, 2976, 2978, 2980, 2982, 2984, 2986, 2988, 2990, 2992, 2994, 2996, 2998, 3000, 3002, 3004, 3006, 3008, 3010, 3012, 3014, 3016, 3018, 3020, 3022, 3024, 3026, 3028, 3030, 3032, 3034, 3036, 3038] (by decide +kernel) (by decide +kernel)
