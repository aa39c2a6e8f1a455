/-! LearntReasonsModel -/
set_option maxRecDepth 100000
def RX3 : String := "LearntReasonsModel"
def TX3 : u_T := fun k => match k with
  | 0 => ("LearntReasonsModel", "thrown", "I", false)
  | 1 => ("LearntReasonsModel", "row", "[I", true)
  | 2 => ("LearntReasonsModel", "before", "[I", true)
  | 3 => ("LearntReasonsModel", "kept", "[I", true)
  | 4 => ("LearntReasonsModel", "isKept", "[Z", true)
  | 5 => ("LearntReasonsModel", "is", "[I", true)
  | 6 => ("LearntReasonsModel", "levelOf", "[I", true)
  | 7 => ("LearntReasonsModel", "reason", "[I", true)
  | 8 => ("LearntReasonsModel", "placeOf", "[I", true)
  | 9 => ("LearntReasonsModel", "trail", "[I", true)
  | 10 => ("LearntReasonsModel", "trailed", "I", false)
  | 11 => ("LearntReasonsModel", "level", "I", false)
  | 12 => ("LearntReasonsModel", "isThere", "[Z", true)
  | 13 => ("LearntReasonsModel", "isSeen", "[Z", true)
  | 14 => ("LearntReasonsModel", "wasLeft", "[Z", true)
  | 15 => ("LearntReasonsModel", "conflicts", "I", false)
  | 16 => ("LearntReasonsModel", "sinceAnew", "I", false)
  | 17 => ("LearntReasonsModel", "anews", "I", false)
  | 18 => ("LearntReasonsModel", "readLiterals", "[I", true)
  | 19 => ("LearntReasonsModel", "readFrom", "[I", true)
  | 20 => ("LearntReasonsModel", "readMany", "I", false)
  | 21 => ("LearntReasonsModel", "tape", "[B", true)
  | 22 => ("LearntReasonsModel", "taped", "I", false)
  | 23 => ("LearntReasonsModel", "length", "I", false)
  | 24 => ("LearntReasonsModel", "place", "I", false)
  | 25 => ("LearntReasonsModel", "fault", "I", false)
  | 26 => ("LearntReasonsModel", "isTold", "[Z", true)
  | _ => ("LearntReasonsModel", "lits", "[I", true)
def tyX3 : Nat → FieldType := fun k => match k with
  | 0 => .int
  | 1 => .array .int
  | 2 => .array .int
  | 3 => .array .int
  | 4 => .array .boolean
  | 5 => .array .int
  | 6 => .array .int
  | 7 => .array .int
  | 8 => .array .int
  | 9 => .array .int
  | 10 => .int
  | 11 => .int
  | 12 => .array .boolean
  | 13 => .array .boolean
  | 14 => .array .boolean
  | 15 => .int
  | 16 => .int
  | 17 => .int
  | 18 => .array .int
  | 19 => .array .int
  | 20 => .int
  | 21 => .array .byte
  | 22 => .int
  | 23 => .int
  | 24 => .int
  | 25 => .int
  | 26 => .array .boolean
  | _ => .array .int
abbrev wsX30 : List Cond := u_ws RX3 TX3 28
set_option maxRecDepth 100000 in
theorem nmX3 : ∀ a, a < 28 → ∀ b, b < 28 → a ≠ b → (TX3 a).2.1 ≠ (TX3 b).2.1 := by decide +kernel
set_option maxRecDepth 100000 in
theorem tyX3_ok : ∀ k, k < 28 → parseFieldDescriptor (TX3 k).2.2.1 = some (tyX3 k) := by decide +kernel
abbrev cX3_init : ByteArray := prog_13_method_1_code
def yX3_init : MethodName := ⟨RX3, "<init>", "()V"⟩
def dkwX3_init_7 : List UInt8 := [180, 0, 7, 16, 14, 2, 79, 42, 180, 0, 7, 16, 15, 2, 79, 177]
abbrev dktX3_init_7 : List UInt8 := dkwX3_init_7 ++ []
def dkwX3_init_6 : List UInt8 := [188, 10, 181, 0, 60, 42, 180, 0, 7, 16, 12, 2, 79, 42, 180, 0, 7, 16, 13, 2, 79, 42]
abbrev dktX3_init_6 : List UInt8 := dkwX3_init_6 ++ dktX3_init_7
def dkwX3_init_5 : List UInt8 := [181, 0, 50, 42, 17, 1, 144, 188, 8, 181, 0, 53, 42, 16, 31, 188, 4, 181, 0, 57, 42, 16, 8]
abbrev dktX3_init_5 : List UInt8 := dkwX3_init_5 ++ dktX3_init_6
def dkwX3_init_4 : List UInt8 := [16, 31, 188, 4, 181, 0, 44, 42, 17, 1, 144, 188, 10, 181, 0, 47, 42, 17, 1, 146, 188, 10]
abbrev dktX3_init_4 : List UInt8 := dkwX3_init_4 ++ dktX3_init_5
def dkwX3_init_3 : List UInt8 := [16, 30, 188, 10, 181, 0, 35, 42, 16, 31, 188, 4, 181, 0, 38, 42, 16, 31, 188, 4, 181, 0, 41, 42]
abbrev dktX3_init_3 : List UInt8 := dkwX3_init_3 ++ dktX3_init_4
def dkwX3_init_2 : List UInt8 := [16, 31, 188, 10, 181, 0, 26, 42, 16, 31, 188, 10, 181, 0, 29, 42, 16, 31, 188, 10, 181, 0, 32, 42]
abbrev dktX3_init_2 : List UInt8 := dkwX3_init_2 ++ dktX3_init_3
def dkwX3_init_1 : List UInt8 := [17, 104, 28, 188, 10, 181, 0, 16, 42, 5, 188, 4, 181, 0, 19, 42, 16, 31, 188, 10, 181, 0, 23, 42]
abbrev dktX3_init_1 : List UInt8 := dkwX3_init_1 ++ dktX3_init_2
def dkwX3_init_0 : List UInt8 := [42, 183, 0, 1, 42, 17, 52, 14, 188, 10, 181, 0, 7, 42, 17, 52, 14, 188, 10, 181, 0, 13, 42]
abbrev dktX3_init_0 : List UInt8 := dkwX3_init_0 ++ dktX3_init_1
theorem dksX3_init_0 : cX3_init.data.toList.drop 0 = dktX3_init_0 := by decide +kernel
theorem dksX3_init_1 : cX3_init.data.toList.drop 23 = dktX3_init_1 := dk_seg dksX3_init_0 23 rfl rfl
theorem dksX3_init_2 : cX3_init.data.toList.drop 47 = dktX3_init_2 := dk_seg dksX3_init_1 24 rfl rfl
theorem dksX3_init_3 : cX3_init.data.toList.drop 71 = dktX3_init_3 := dk_seg dksX3_init_2 24 rfl rfl
theorem dksX3_init_4 : cX3_init.data.toList.drop 95 = dktX3_init_4 := dk_seg dksX3_init_3 24 rfl rfl
theorem dksX3_init_5 : cX3_init.data.toList.drop 117 = dktX3_init_5 := dk_seg dksX3_init_4 22 rfl rfl
theorem dksX3_init_6 : cX3_init.data.toList.drop 140 = dktX3_init_6 := dk_seg dksX3_init_5 23 rfl rfl
theorem dksX3_init_7 : cX3_init.data.toList.drop 162 = dktX3_init_7 := dk_seg dksX3_init_6 22 rfl rfl
theorem dX3_init_0 : decode cX3_init 0 = .ok (.aload_n 0, 1) := dk_42 (dk_at dksX3_init_0 0 rfl rfl)
theorem dX3_init_1 : decode cX3_init 1 = .ok (.invokespecial 1, 3) := dk_183 0 1 (dk_at dksX3_init_0 1 rfl rfl)
theorem dX3_init_4 : decode cX3_init 4 = .ok (.aload_n 0, 1) := dk_42 (dk_at dksX3_init_0 4 rfl rfl)
theorem dX3_init_5 : decode cX3_init 5 = .ok (.sipush 13326, 3) := dk_17 52 14 (dk_at dksX3_init_0 5 rfl rfl)
theorem dX3_init_8 : decode cX3_init 8 = .ok (.newarray .int, 2) := dk_188_10 (dk_at dksX3_init_0 8 rfl rfl)
theorem dX3_init_10 : decode cX3_init 10 = .ok (.putfield 7, 3) := dk_181 0 7 (dk_at dksX3_init_0 10 rfl rfl)
theorem dX3_init_13 : decode cX3_init 13 = .ok (.aload_n 0, 1) := dk_42 (dk_at dksX3_init_0 13 rfl rfl)
theorem dX3_init_14 : decode cX3_init 14 = .ok (.sipush 13326, 3) := dk_17 52 14 (dk_at dksX3_init_0 14 rfl rfl)
theorem dX3_init_17 : decode cX3_init 17 = .ok (.newarray .int, 2) := dk_188_10 (dk_at dksX3_init_0 17 rfl rfl)
theorem dX3_init_19 : decode cX3_init 19 = .ok (.putfield 13, 3) := dk_181 0 13 (dk_at dksX3_init_0 19 rfl rfl)
theorem dX3_init_22 : decode cX3_init 22 = .ok (.aload_n 0, 1) := dk_42 (dk_at dksX3_init_0 22 rfl rfl)
theorem dX3_init_23 : decode cX3_init 23 = .ok (.sipush 26652, 3) := dk_17 104 28 (dk_at dksX3_init_1 0 rfl rfl)
theorem dX3_init_26 : decode cX3_init 26 = .ok (.newarray .int, 2) := dk_188_10 (dk_at dksX3_init_1 3 rfl rfl)
theorem dX3_init_28 : decode cX3_init 28 = .ok (.putfield 16, 3) := dk_181 0 16 (dk_at dksX3_init_1 5 rfl rfl)
theorem dX3_init_31 : decode cX3_init 31 = .ok (.aload_n 0, 1) := dk_42 (dk_at dksX3_init_1 8 rfl rfl)
theorem dX3_init_32 : decode cX3_init 32 = .ok (.iconst 2, 1) := dk_5 (dk_at dksX3_init_1 9 rfl rfl)
theorem dX3_init_33 : decode cX3_init 33 = .ok (.newarray .boolean, 2) := dk_188_4 (dk_at dksX3_init_1 10 rfl rfl)
theorem dX3_init_35 : decode cX3_init 35 = .ok (.putfield 19, 3) := dk_181 0 19 (dk_at dksX3_init_1 12 rfl rfl)
theorem dX3_init_38 : decode cX3_init 38 = .ok (.aload_n 0, 1) := dk_42 (dk_at dksX3_init_1 15 rfl rfl)
theorem dX3_init_39 : decode cX3_init 39 = .ok (.bipush 31, 2) := dk_16 31 (dk_at dksX3_init_1 16 rfl rfl)
theorem dX3_init_41 : decode cX3_init 41 = .ok (.newarray .int, 2) := dk_188_10 (dk_at dksX3_init_1 18 rfl rfl)
theorem dX3_init_43 : decode cX3_init 43 = .ok (.putfield 23, 3) := dk_181 0 23 (dk_at dksX3_init_1 20 rfl rfl)
theorem dX3_init_46 : decode cX3_init 46 = .ok (.aload_n 0, 1) := dk_42 (dk_at dksX3_init_1 23 rfl rfl)
theorem dX3_init_47 : decode cX3_init 47 = .ok (.bipush 31, 2) := dk_16 31 (dk_at dksX3_init_2 0 rfl rfl)
theorem dX3_init_49 : decode cX3_init 49 = .ok (.newarray .int, 2) := dk_188_10 (dk_at dksX3_init_2 2 rfl rfl)
theorem dX3_init_51 : decode cX3_init 51 = .ok (.putfield 26, 3) := dk_181 0 26 (dk_at dksX3_init_2 4 rfl rfl)
theorem dX3_init_54 : decode cX3_init 54 = .ok (.aload_n 0, 1) := dk_42 (dk_at dksX3_init_2 7 rfl rfl)
theorem dX3_init_55 : decode cX3_init 55 = .ok (.bipush 31, 2) := dk_16 31 (dk_at dksX3_init_2 8 rfl rfl)
theorem dX3_init_57 : decode cX3_init 57 = .ok (.newarray .int, 2) := dk_188_10 (dk_at dksX3_init_2 10 rfl rfl)
theorem dX3_init_59 : decode cX3_init 59 = .ok (.putfield 29, 3) := dk_181 0 29 (dk_at dksX3_init_2 12 rfl rfl)
theorem dX3_init_62 : decode cX3_init 62 = .ok (.aload_n 0, 1) := dk_42 (dk_at dksX3_init_2 15 rfl rfl)
theorem dX3_init_63 : decode cX3_init 63 = .ok (.bipush 31, 2) := dk_16 31 (dk_at dksX3_init_2 16 rfl rfl)
theorem dX3_init_65 : decode cX3_init 65 = .ok (.newarray .int, 2) := dk_188_10 (dk_at dksX3_init_2 18 rfl rfl)
theorem dX3_init_67 : decode cX3_init 67 = .ok (.putfield 32, 3) := dk_181 0 32 (dk_at dksX3_init_2 20 rfl rfl)
theorem dX3_init_70 : decode cX3_init 70 = .ok (.aload_n 0, 1) := dk_42 (dk_at dksX3_init_2 23 rfl rfl)
theorem dX3_init_71 : decode cX3_init 71 = .ok (.bipush 30, 2) := dk_16 30 (dk_at dksX3_init_3 0 rfl rfl)
theorem dX3_init_73 : decode cX3_init 73 = .ok (.newarray .int, 2) := dk_188_10 (dk_at dksX3_init_3 2 rfl rfl)
theorem dX3_init_75 : decode cX3_init 75 = .ok (.putfield 35, 3) := dk_181 0 35 (dk_at dksX3_init_3 4 rfl rfl)
theorem dX3_init_78 : decode cX3_init 78 = .ok (.aload_n 0, 1) := dk_42 (dk_at dksX3_init_3 7 rfl rfl)
theorem dX3_init_79 : decode cX3_init 79 = .ok (.bipush 31, 2) := dk_16 31 (dk_at dksX3_init_3 8 rfl rfl)
theorem dX3_init_81 : decode cX3_init 81 = .ok (.newarray .boolean, 2) := dk_188_4 (dk_at dksX3_init_3 10 rfl rfl)
theorem dX3_init_83 : decode cX3_init 83 = .ok (.putfield 38, 3) := dk_181 0 38 (dk_at dksX3_init_3 12 rfl rfl)
theorem dX3_init_86 : decode cX3_init 86 = .ok (.aload_n 0, 1) := dk_42 (dk_at dksX3_init_3 15 rfl rfl)
theorem dX3_init_87 : decode cX3_init 87 = .ok (.bipush 31, 2) := dk_16 31 (dk_at dksX3_init_3 16 rfl rfl)
theorem dX3_init_89 : decode cX3_init 89 = .ok (.newarray .boolean, 2) := dk_188_4 (dk_at dksX3_init_3 18 rfl rfl)
theorem dX3_init_91 : decode cX3_init 91 = .ok (.putfield 41, 3) := dk_181 0 41 (dk_at dksX3_init_3 20 rfl rfl)
theorem dX3_init_94 : decode cX3_init 94 = .ok (.aload_n 0, 1) := dk_42 (dk_at dksX3_init_3 23 rfl rfl)
theorem dX3_init_95 : decode cX3_init 95 = .ok (.bipush 31, 2) := dk_16 31 (dk_at dksX3_init_4 0 rfl rfl)
theorem dX3_init_97 : decode cX3_init 97 = .ok (.newarray .boolean, 2) := dk_188_4 (dk_at dksX3_init_4 2 rfl rfl)
theorem dX3_init_99 : decode cX3_init 99 = .ok (.putfield 44, 3) := dk_181 0 44 (dk_at dksX3_init_4 4 rfl rfl)
theorem dX3_init_102 : decode cX3_init 102 = .ok (.aload_n 0, 1) := dk_42 (dk_at dksX3_init_4 7 rfl rfl)
theorem dX3_init_103 : decode cX3_init 103 = .ok (.sipush 400, 3) := dk_17 1 144 (dk_at dksX3_init_4 8 rfl rfl)
theorem dX3_init_106 : decode cX3_init 106 = .ok (.newarray .int, 2) := dk_188_10 (dk_at dksX3_init_4 11 rfl rfl)
theorem dX3_init_108 : decode cX3_init 108 = .ok (.putfield 47, 3) := dk_181 0 47 (dk_at dksX3_init_4 13 rfl rfl)
theorem dX3_init_111 : decode cX3_init 111 = .ok (.aload_n 0, 1) := dk_42 (dk_at dksX3_init_4 16 rfl rfl)
theorem dX3_init_112 : decode cX3_init 112 = .ok (.sipush 402, 3) := dk_17 1 146 (dk_at dksX3_init_4 17 rfl rfl)
theorem dX3_init_115 : decode cX3_init 115 = .ok (.newarray .int, 2) := dk_188_10 (dk_at dksX3_init_4 20 rfl rfl)
theorem dX3_init_117 : decode cX3_init 117 = .ok (.putfield 50, 3) := dk_181 0 50 (dk_at dksX3_init_5 0 rfl rfl)
theorem dX3_init_120 : decode cX3_init 120 = .ok (.aload_n 0, 1) := dk_42 (dk_at dksX3_init_5 3 rfl rfl)
theorem dX3_init_121 : decode cX3_init 121 = .ok (.sipush 400, 3) := dk_17 1 144 (dk_at dksX3_init_5 4 rfl rfl)
theorem dX3_init_124 : decode cX3_init 124 = .ok (.newarray .byte, 2) := dk_188_8 (dk_at dksX3_init_5 7 rfl rfl)
theorem dX3_init_126 : decode cX3_init 126 = .ok (.putfield 53, 3) := dk_181 0 53 (dk_at dksX3_init_5 9 rfl rfl)
theorem dX3_init_129 : decode cX3_init 129 = .ok (.aload_n 0, 1) := dk_42 (dk_at dksX3_init_5 12 rfl rfl)
theorem dX3_init_130 : decode cX3_init 130 = .ok (.bipush 31, 2) := dk_16 31 (dk_at dksX3_init_5 13 rfl rfl)
theorem dX3_init_132 : decode cX3_init 132 = .ok (.newarray .boolean, 2) := dk_188_4 (dk_at dksX3_init_5 15 rfl rfl)
theorem dX3_init_134 : decode cX3_init 134 = .ok (.putfield 57, 3) := dk_181 0 57 (dk_at dksX3_init_5 17 rfl rfl)
theorem dX3_init_137 : decode cX3_init 137 = .ok (.aload_n 0, 1) := dk_42 (dk_at dksX3_init_5 20 rfl rfl)
theorem dX3_init_138 : decode cX3_init 138 = .ok (.bipush 8, 2) := dk_16 8 (dk_at dksX3_init_5 21 rfl rfl)
theorem dX3_init_140 : decode cX3_init 140 = .ok (.newarray .int, 2) := dk_188_10 (dk_at dksX3_init_6 0 rfl rfl)
theorem dX3_init_142 : decode cX3_init 142 = .ok (.putfield 60, 3) := dk_181 0 60 (dk_at dksX3_init_6 2 rfl rfl)
theorem dX3_init_145 : decode cX3_init 145 = .ok (.aload_n 0, 1) := dk_42 (dk_at dksX3_init_6 5 rfl rfl)
theorem dX3_init_146 : decode cX3_init 146 = .ok (.getfield 7, 3) := dk_180 0 7 (dk_at dksX3_init_6 6 rfl rfl)
theorem dX3_init_149 : decode cX3_init 149 = .ok (.bipush 12, 2) := dk_16 12 (dk_at dksX3_init_6 9 rfl rfl)
theorem dX3_init_151 : decode cX3_init 151 = .ok (.iconst (-1), 1) := dk_2 (dk_at dksX3_init_6 11 rfl rfl)
theorem dX3_init_152 : decode cX3_init 152 = .ok (.iastore, 1) := dk_79 (dk_at dksX3_init_6 12 rfl rfl)
theorem dX3_init_153 : decode cX3_init 153 = .ok (.aload_n 0, 1) := dk_42 (dk_at dksX3_init_6 13 rfl rfl)
theorem dX3_init_154 : decode cX3_init 154 = .ok (.getfield 7, 3) := dk_180 0 7 (dk_at dksX3_init_6 14 rfl rfl)
theorem dX3_init_157 : decode cX3_init 157 = .ok (.bipush 13, 2) := dk_16 13 (dk_at dksX3_init_6 17 rfl rfl)
theorem dX3_init_159 : decode cX3_init 159 = .ok (.iconst (-1), 1) := dk_2 (dk_at dksX3_init_6 19 rfl rfl)
theorem dX3_init_160 : decode cX3_init 160 = .ok (.iastore, 1) := dk_79 (dk_at dksX3_init_6 20 rfl rfl)
theorem dX3_init_161 : decode cX3_init 161 = .ok (.aload_n 0, 1) := dk_42 (dk_at dksX3_init_6 21 rfl rfl)
theorem dX3_init_162 : decode cX3_init 162 = .ok (.getfield 7, 3) := dk_180 0 7 (dk_at dksX3_init_7 0 rfl rfl)
theorem dX3_init_165 : decode cX3_init 165 = .ok (.bipush 14, 2) := dk_16 14 (dk_at dksX3_init_7 3 rfl rfl)
theorem dX3_init_167 : decode cX3_init 167 = .ok (.iconst (-1), 1) := dk_2 (dk_at dksX3_init_7 5 rfl rfl)
theorem dX3_init_168 : decode cX3_init 168 = .ok (.iastore, 1) := dk_79 (dk_at dksX3_init_7 6 rfl rfl)
theorem dX3_init_169 : decode cX3_init 169 = .ok (.aload_n 0, 1) := dk_42 (dk_at dksX3_init_7 7 rfl rfl)
theorem dX3_init_170 : decode cX3_init 170 = .ok (.getfield 7, 3) := dk_180 0 7 (dk_at dksX3_init_7 8 rfl rfl)
theorem dX3_init_173 : decode cX3_init 173 = .ok (.bipush 15, 2) := dk_16 15 (dk_at dksX3_init_7 11 rfl rfl)
theorem dX3_init_175 : decode cX3_init 175 = .ok (.iconst (-1), 1) := dk_2 (dk_at dksX3_init_7 13 rfl rfl)
theorem dX3_init_176 : decode cX3_init 176 = .ok (.iastore, 1) := dk_79 (dk_at dksX3_init_7 14 rfl rfl)
theorem dX3_init_177 : decode cX3_init 177 = .ok (.return_, 1) := dk_177 (dk_at dksX3_init_7 15 rfl rfl)
abbrev cX3_thrown : ByteArray := prog_13_method_2_code
def yX3_thrown : MethodName := ⟨RX3, "thrown", "()I"⟩
theorem dX3_thrown_0 : decode cX3_thrown 0 = .ok (.aload_n 0, 1) := by decide +kernel
theorem dX3_thrown_1 : decode cX3_thrown 1 = .ok (.getfield 63, 3) := by decide +kernel
theorem dX3_thrown_4 : decode cX3_thrown 4 = .ok (.ireturn, 1) := by decide +kernel
abbrev cX3_grow : ByteArray := prog_13_method_12_code
def yX3_grow : MethodName := ⟨RX3, "grow", "(I)I"⟩
def dkwX3_grow_0 : List UInt8 := [42, 3, 181, 0, 63, 42, 27, 182, 0, 79, 172]
abbrev dktX3_grow_0 : List UInt8 := dkwX3_grow_0 ++ []
theorem dksX3_grow_0 : cX3_grow.data.toList.drop 0 = dktX3_grow_0 := by decide +kernel
theorem dX3_grow_0 : decode cX3_grow 0 = .ok (.aload_n 0, 1) := dk_42 (dk_at dksX3_grow_0 0 rfl rfl)
theorem dX3_grow_1 : decode cX3_grow 1 = .ok (.iconst 0, 1) := dk_3 (dk_at dksX3_grow_0 1 rfl rfl)
theorem dX3_grow_2 : decode cX3_grow 2 = .ok (.putfield 63, 3) := dk_181 0 63 (dk_at dksX3_grow_0 2 rfl rfl)
theorem dX3_grow_5 : decode cX3_grow 5 = .ok (.aload_n 0, 1) := dk_42 (dk_at dksX3_grow_0 5 rfl rfl)
theorem dX3_grow_6 : decode cX3_grow 6 = .ok (.iload_n 1, 1) := dk_27 (dk_at dksX3_grow_0 6 rfl rfl)
theorem dX3_grow_7 : decode cX3_grow 7 = .ok (.invokevirtual 79, 3) := dk_182 0 79 (dk_at dksX3_grow_0 7 rfl rfl)
theorem dX3_grow_10 : decode cX3_grow 10 = .ok (.ireturn, 1) := dk_172 (dk_at dksX3_grow_0 10 rfl rfl)
abbrev cX3_grows : ByteArray := prog_13_method_11_code
def yX3_grows : MethodName := ⟨RX3, "grows", "(I)I"⟩
def dkwX3_grows_1 : List UInt8 := [3, 92, 46, 27, 96, 79, 42, 180, 0, 7, 3, 46, 172]
abbrev dktX3_grows_1 : List UInt8 := dkwX3_grows_1 ++ []
def dkwX3_grows_0 : List UInt8 := [27, 4, 161, 0, 16, 27, 16, 30, 42, 180, 0, 7, 3, 46, 100, 164, 0, 5, 2, 172, 42, 180, 0, 7]
abbrev dktX3_grows_0 : List UInt8 := dkwX3_grows_0 ++ dktX3_grows_1
theorem dksX3_grows_0 : cX3_grows.data.toList.drop 0 = dktX3_grows_0 := by decide +kernel
theorem dksX3_grows_1 : cX3_grows.data.toList.drop 24 = dktX3_grows_1 := dk_seg dksX3_grows_0 24 rfl rfl
theorem dX3_grows_0 : decode cX3_grows 0 = .ok (.iload_n 1, 1) := dk_27 (dk_at dksX3_grows_0 0 rfl rfl)
theorem dX3_grows_1 : decode cX3_grows 1 = .ok (.iconst 1, 1) := dk_4 (dk_at dksX3_grows_0 1 rfl rfl)
theorem dX3_grows_2 : decode cX3_grows 2 = .ok (.if_icmp .lt 16, 3) := dk_161 0 16 (dk_at dksX3_grows_0 2 rfl rfl)
theorem dX3_grows_5 : decode cX3_grows 5 = .ok (.iload_n 1, 1) := dk_27 (dk_at dksX3_grows_0 5 rfl rfl)
theorem dX3_grows_6 : decode cX3_grows 6 = .ok (.bipush 30, 2) := dk_16 30 (dk_at dksX3_grows_0 6 rfl rfl)
theorem dX3_grows_8 : decode cX3_grows 8 = .ok (.aload_n 0, 1) := dk_42 (dk_at dksX3_grows_0 8 rfl rfl)
theorem dX3_grows_9 : decode cX3_grows 9 = .ok (.getfield 7, 3) := dk_180 0 7 (dk_at dksX3_grows_0 9 rfl rfl)
theorem dX3_grows_12 : decode cX3_grows 12 = .ok (.iconst 0, 1) := dk_3 (dk_at dksX3_grows_0 12 rfl rfl)
theorem dX3_grows_13 : decode cX3_grows 13 = .ok (.iaload, 1) := dk_46 (dk_at dksX3_grows_0 13 rfl rfl)
theorem dX3_grows_14 : decode cX3_grows 14 = .ok (.isub, 1) := dk_100 (dk_at dksX3_grows_0 14 rfl rfl)
theorem dX3_grows_15 : decode cX3_grows 15 = .ok (.if_icmp .le 5, 3) := dk_164 0 5 (dk_at dksX3_grows_0 15 rfl rfl)
theorem dX3_grows_18 : decode cX3_grows 18 = .ok (.iconst (-1), 1) := dk_2 (dk_at dksX3_grows_0 18 rfl rfl)
theorem dX3_grows_19 : decode cX3_grows 19 = .ok (.ireturn, 1) := dk_172 (dk_at dksX3_grows_0 19 rfl rfl)
theorem dX3_grows_20 : decode cX3_grows 20 = .ok (.aload_n 0, 1) := dk_42 (dk_at dksX3_grows_0 20 rfl rfl)
theorem dX3_grows_21 : decode cX3_grows 21 = .ok (.getfield 7, 3) := dk_180 0 7 (dk_at dksX3_grows_0 21 rfl rfl)
theorem dX3_grows_24 : decode cX3_grows 24 = .ok (.iconst 0, 1) := dk_3 (dk_at dksX3_grows_1 0 rfl rfl)
theorem dX3_grows_25 : decode cX3_grows 25 = .ok (.dup2, 1) := dk_92 (dk_at dksX3_grows_1 1 rfl rfl)
theorem dX3_grows_26 : decode cX3_grows 26 = .ok (.iaload, 1) := dk_46 (dk_at dksX3_grows_1 2 rfl rfl)
theorem dX3_grows_27 : decode cX3_grows 27 = .ok (.iload_n 1, 1) := dk_27 (dk_at dksX3_grows_1 3 rfl rfl)
theorem dX3_grows_28 : decode cX3_grows 28 = .ok (.iadd, 1) := dk_96 (dk_at dksX3_grows_1 4 rfl rfl)
theorem dX3_grows_29 : decode cX3_grows 29 = .ok (.iastore, 1) := dk_79 (dk_at dksX3_grows_1 5 rfl rfl)
theorem dX3_grows_30 : decode cX3_grows 30 = .ok (.aload_n 0, 1) := dk_42 (dk_at dksX3_grows_1 6 rfl rfl)
theorem dX3_grows_31 : decode cX3_grows 31 = .ok (.getfield 7, 3) := dk_180 0 7 (dk_at dksX3_grows_1 7 rfl rfl)
theorem dX3_grows_34 : decode cX3_grows 34 = .ok (.iconst 0, 1) := dk_3 (dk_at dksX3_grows_1 10 rfl rfl)
theorem dX3_grows_35 : decode cX3_grows 35 = .ok (.iaload, 1) := dk_46 (dk_at dksX3_grows_1 11 rfl rfl)
theorem dX3_grows_36 : decode cX3_grows 36 = .ok (.ireturn, 1) := dk_172 (dk_at dksX3_grows_1 12 rfl rfl)
abbrev cX3_add : ByteArray := prog_13_method_13_code
def yX3_add : MethodName := ⟨RX3, "add", "(I)I"⟩
def dkwX3_add_4 : List UInt8 := [46, 172]
abbrev dktX3_add_4 : List UInt8 := dkwX3_add_4 ++ []
def dkwX3_add_3 : List UInt8 := [42, 180, 0, 7, 7, 46, 96, 27, 79, 42, 180, 0, 7, 7, 92, 46, 4, 96, 79, 42, 180, 0, 7, 7]
abbrev dktX3_add_3 : List UInt8 := dkwX3_add_3 ++ dktX3_add_4
def dkwX3_add_2 : List UInt8 := [184, 0, 71, 27, 184, 0, 71, 160, 0, 5, 2, 172, 132, 2, 1, 167, 255, 222, 42, 180, 0, 7, 16, 24]
abbrev dktX3_add_2 : List UInt8 := dkwX3_add_2 ++ dktX3_add_3
def dkwX3_add_1 : List UInt8 := [2, 172, 3, 61, 28, 42, 180, 0, 7, 7, 46, 162, 0, 30, 42, 180, 0, 7, 16, 24, 28, 96, 46]
abbrev dktX3_add_1 : List UInt8 := dkwX3_add_1 ++ dktX3_add_2
def dkwX3_add_0 : List UInt8 := [42, 3, 181, 0, 63, 42, 180, 0, 7, 7, 46, 16, 8, 159, 0, 11, 42, 27, 182, 0, 82, 154, 0, 5]
abbrev dktX3_add_0 : List UInt8 := dkwX3_add_0 ++ dktX3_add_1
theorem dksX3_add_0 : cX3_add.data.toList.drop 0 = dktX3_add_0 := by decide +kernel
theorem dksX3_add_1 : cX3_add.data.toList.drop 24 = dktX3_add_1 := dk_seg dksX3_add_0 24 rfl rfl
theorem dksX3_add_2 : cX3_add.data.toList.drop 47 = dktX3_add_2 := dk_seg dksX3_add_1 23 rfl rfl
theorem dksX3_add_3 : cX3_add.data.toList.drop 71 = dktX3_add_3 := dk_seg dksX3_add_2 24 rfl rfl
theorem dksX3_add_4 : cX3_add.data.toList.drop 95 = dktX3_add_4 := dk_seg dksX3_add_3 24 rfl rfl
theorem dX3_add_0 : decode cX3_add 0 = .ok (.aload_n 0, 1) := dk_42 (dk_at dksX3_add_0 0 rfl rfl)
theorem dX3_add_1 : decode cX3_add 1 = .ok (.iconst 0, 1) := dk_3 (dk_at dksX3_add_0 1 rfl rfl)
theorem dX3_add_2 : decode cX3_add 2 = .ok (.putfield 63, 3) := dk_181 0 63 (dk_at dksX3_add_0 2 rfl rfl)
theorem dX3_add_5 : decode cX3_add 5 = .ok (.aload_n 0, 1) := dk_42 (dk_at dksX3_add_0 5 rfl rfl)
theorem dX3_add_6 : decode cX3_add 6 = .ok (.getfield 7, 3) := dk_180 0 7 (dk_at dksX3_add_0 6 rfl rfl)
theorem dX3_add_9 : decode cX3_add 9 = .ok (.iconst 4, 1) := dk_7 (dk_at dksX3_add_0 9 rfl rfl)
theorem dX3_add_10 : decode cX3_add 10 = .ok (.iaload, 1) := dk_46 (dk_at dksX3_add_0 10 rfl rfl)
theorem dX3_add_11 : decode cX3_add 11 = .ok (.bipush 8, 2) := dk_16 8 (dk_at dksX3_add_0 11 rfl rfl)
theorem dX3_add_13 : decode cX3_add 13 = .ok (.if_icmp .eq 11, 3) := dk_159 0 11 (dk_at dksX3_add_0 13 rfl rfl)
theorem dX3_add_16 : decode cX3_add 16 = .ok (.aload_n 0, 1) := dk_42 (dk_at dksX3_add_0 16 rfl rfl)
theorem dX3_add_17 : decode cX3_add 17 = .ok (.iload_n 1, 1) := dk_27 (dk_at dksX3_add_0 17 rfl rfl)
theorem dX3_add_18 : decode cX3_add 18 = .ok (.invokevirtual 82, 3) := dk_182 0 82 (dk_at dksX3_add_0 18 rfl rfl)
theorem dX3_add_21 : decode cX3_add 21 = .ok (.ifCond .ne 5, 3) := dk_154 0 5 (dk_at dksX3_add_0 21 rfl rfl)
theorem dX3_add_24 : decode cX3_add 24 = .ok (.iconst (-1), 1) := dk_2 (dk_at dksX3_add_1 0 rfl rfl)
theorem dX3_add_25 : decode cX3_add 25 = .ok (.ireturn, 1) := dk_172 (dk_at dksX3_add_1 1 rfl rfl)
theorem dX3_add_26 : decode cX3_add 26 = .ok (.iconst 0, 1) := dk_3 (dk_at dksX3_add_1 2 rfl rfl)
theorem dX3_add_27 : decode cX3_add 27 = .ok (.istore_n 2, 1) := dk_61 (dk_at dksX3_add_1 3 rfl rfl)
theorem dX3_add_28 : decode cX3_add 28 = .ok (.iload_n 2, 1) := dk_28 (dk_at dksX3_add_1 4 rfl rfl)
theorem dX3_add_29 : decode cX3_add 29 = .ok (.aload_n 0, 1) := dk_42 (dk_at dksX3_add_1 5 rfl rfl)
theorem dX3_add_30 : decode cX3_add 30 = .ok (.getfield 7, 3) := dk_180 0 7 (dk_at dksX3_add_1 6 rfl rfl)
theorem dX3_add_33 : decode cX3_add 33 = .ok (.iconst 4, 1) := dk_7 (dk_at dksX3_add_1 9 rfl rfl)
theorem dX3_add_34 : decode cX3_add 34 = .ok (.iaload, 1) := dk_46 (dk_at dksX3_add_1 10 rfl rfl)
theorem dX3_add_35 : decode cX3_add 35 = .ok (.if_icmp .ge 30, 3) := dk_162 0 30 (dk_at dksX3_add_1 11 rfl rfl)
theorem dX3_add_38 : decode cX3_add 38 = .ok (.aload_n 0, 1) := dk_42 (dk_at dksX3_add_1 14 rfl rfl)
theorem dX3_add_39 : decode cX3_add 39 = .ok (.getfield 7, 3) := dk_180 0 7 (dk_at dksX3_add_1 15 rfl rfl)
theorem dX3_add_42 : decode cX3_add 42 = .ok (.bipush 24, 2) := dk_16 24 (dk_at dksX3_add_1 18 rfl rfl)
theorem dX3_add_44 : decode cX3_add 44 = .ok (.iload_n 2, 1) := dk_28 (dk_at dksX3_add_1 20 rfl rfl)
theorem dX3_add_45 : decode cX3_add 45 = .ok (.iadd, 1) := dk_96 (dk_at dksX3_add_1 21 rfl rfl)
theorem dX3_add_46 : decode cX3_add 46 = .ok (.iaload, 1) := dk_46 (dk_at dksX3_add_1 22 rfl rfl)
theorem dX3_add_47 : decode cX3_add 47 = .ok (.invokestatic 71, 3) := dk_184 0 71 (dk_at dksX3_add_2 0 rfl rfl)
theorem dX3_add_50 : decode cX3_add 50 = .ok (.iload_n 1, 1) := dk_27 (dk_at dksX3_add_2 3 rfl rfl)
theorem dX3_add_51 : decode cX3_add 51 = .ok (.invokestatic 71, 3) := dk_184 0 71 (dk_at dksX3_add_2 4 rfl rfl)
theorem dX3_add_54 : decode cX3_add 54 = .ok (.if_icmp .ne 5, 3) := dk_160 0 5 (dk_at dksX3_add_2 7 rfl rfl)
theorem dX3_add_57 : decode cX3_add 57 = .ok (.iconst (-1), 1) := dk_2 (dk_at dksX3_add_2 10 rfl rfl)
theorem dX3_add_58 : decode cX3_add 58 = .ok (.ireturn, 1) := dk_172 (dk_at dksX3_add_2 11 rfl rfl)
theorem dX3_add_59 : decode cX3_add 59 = .ok (.iinc 2 1, 3) := dk_132 2 1 (dk_at dksX3_add_2 12 rfl rfl)
theorem dX3_add_62 : decode cX3_add 62 = .ok (.goto (-34), 3) := dk_167 255 222 (dk_at dksX3_add_2 15 rfl rfl)
theorem dX3_add_65 : decode cX3_add 65 = .ok (.aload_n 0, 1) := dk_42 (dk_at dksX3_add_2 18 rfl rfl)
theorem dX3_add_66 : decode cX3_add 66 = .ok (.getfield 7, 3) := dk_180 0 7 (dk_at dksX3_add_2 19 rfl rfl)
theorem dX3_add_69 : decode cX3_add 69 = .ok (.bipush 24, 2) := dk_16 24 (dk_at dksX3_add_2 22 rfl rfl)
theorem dX3_add_71 : decode cX3_add 71 = .ok (.aload_n 0, 1) := dk_42 (dk_at dksX3_add_3 0 rfl rfl)
theorem dX3_add_72 : decode cX3_add 72 = .ok (.getfield 7, 3) := dk_180 0 7 (dk_at dksX3_add_3 1 rfl rfl)
theorem dX3_add_75 : decode cX3_add 75 = .ok (.iconst 4, 1) := dk_7 (dk_at dksX3_add_3 4 rfl rfl)
theorem dX3_add_76 : decode cX3_add 76 = .ok (.iaload, 1) := dk_46 (dk_at dksX3_add_3 5 rfl rfl)
theorem dX3_add_77 : decode cX3_add 77 = .ok (.iadd, 1) := dk_96 (dk_at dksX3_add_3 6 rfl rfl)
theorem dX3_add_78 : decode cX3_add 78 = .ok (.iload_n 1, 1) := dk_27 (dk_at dksX3_add_3 7 rfl rfl)
theorem dX3_add_79 : decode cX3_add 79 = .ok (.iastore, 1) := dk_79 (dk_at dksX3_add_3 8 rfl rfl)
theorem dX3_add_80 : decode cX3_add 80 = .ok (.aload_n 0, 1) := dk_42 (dk_at dksX3_add_3 9 rfl rfl)
theorem dX3_add_81 : decode cX3_add 81 = .ok (.getfield 7, 3) := dk_180 0 7 (dk_at dksX3_add_3 10 rfl rfl)
theorem dX3_add_84 : decode cX3_add 84 = .ok (.iconst 4, 1) := dk_7 (dk_at dksX3_add_3 13 rfl rfl)
theorem dX3_add_85 : decode cX3_add 85 = .ok (.dup2, 1) := dk_92 (dk_at dksX3_add_3 14 rfl rfl)
theorem dX3_add_86 : decode cX3_add 86 = .ok (.iaload, 1) := dk_46 (dk_at dksX3_add_3 15 rfl rfl)
theorem dX3_add_87 : decode cX3_add 87 = .ok (.iconst 1, 1) := dk_4 (dk_at dksX3_add_3 16 rfl rfl)
theorem dX3_add_88 : decode cX3_add 88 = .ok (.iadd, 1) := dk_96 (dk_at dksX3_add_3 17 rfl rfl)
theorem dX3_add_89 : decode cX3_add 89 = .ok (.iastore, 1) := dk_79 (dk_at dksX3_add_3 18 rfl rfl)
theorem dX3_add_90 : decode cX3_add 90 = .ok (.aload_n 0, 1) := dk_42 (dk_at dksX3_add_3 19 rfl rfl)
theorem dX3_add_91 : decode cX3_add 91 = .ok (.getfield 7, 3) := dk_180 0 7 (dk_at dksX3_add_3 20 rfl rfl)
theorem dX3_add_94 : decode cX3_add 94 = .ok (.iconst 4, 1) := dk_7 (dk_at dksX3_add_3 23 rfl rfl)
theorem dX3_add_95 : decode cX3_add 95 = .ok (.iaload, 1) := dk_46 (dk_at dksX3_add_4 0 rfl rfl)
theorem dX3_add_96 : decode cX3_add 96 = .ok (.ireturn, 1) := dk_172 (dk_at dksX3_add_4 1 rfl rfl)
abbrev cX3_isLiteral : ByteArray := prog_13_method_6_code
def yX3_isLiteral : MethodName := ⟨RX3, "isLiteral", "(I)Z"⟩
def dkwX3_isLiteral_1 : List UInt8 := [167, 0, 4, 3, 172]
abbrev dktX3_isLiteral_1 : List UInt8 := dkwX3_isLiteral_1 ++ []
def dkwX3_isLiteral_0 : List UInt8 := [27, 16, 226, 161, 0, 24, 27, 16, 30, 163, 0, 18, 42, 27, 184, 0, 71, 182, 0, 75, 153, 0, 7, 4]
abbrev dktX3_isLiteral_0 : List UInt8 := dkwX3_isLiteral_0 ++ dktX3_isLiteral_1
theorem dksX3_isLiteral_0 : cX3_isLiteral.data.toList.drop 0 = dktX3_isLiteral_0 := by decide +kernel
theorem dksX3_isLiteral_1 : cX3_isLiteral.data.toList.drop 24 = dktX3_isLiteral_1 := dk_seg dksX3_isLiteral_0 24 rfl rfl
theorem dX3_isLiteral_0 : decode cX3_isLiteral 0 = .ok (.iload_n 1, 1) := dk_27 (dk_at dksX3_isLiteral_0 0 rfl rfl)
theorem dX3_isLiteral_1 : decode cX3_isLiteral 1 = .ok (.bipush (-30), 2) := dk_16 226 (dk_at dksX3_isLiteral_0 1 rfl rfl)
theorem dX3_isLiteral_3 : decode cX3_isLiteral 3 = .ok (.if_icmp .lt 24, 3) := dk_161 0 24 (dk_at dksX3_isLiteral_0 3 rfl rfl)
theorem dX3_isLiteral_6 : decode cX3_isLiteral 6 = .ok (.iload_n 1, 1) := dk_27 (dk_at dksX3_isLiteral_0 6 rfl rfl)
theorem dX3_isLiteral_7 : decode cX3_isLiteral 7 = .ok (.bipush 30, 2) := dk_16 30 (dk_at dksX3_isLiteral_0 7 rfl rfl)
theorem dX3_isLiteral_9 : decode cX3_isLiteral 9 = .ok (.if_icmp .gt 18, 3) := dk_163 0 18 (dk_at dksX3_isLiteral_0 9 rfl rfl)
theorem dX3_isLiteral_12 : decode cX3_isLiteral 12 = .ok (.aload_n 0, 1) := dk_42 (dk_at dksX3_isLiteral_0 12 rfl rfl)
theorem dX3_isLiteral_13 : decode cX3_isLiteral 13 = .ok (.iload_n 1, 1) := dk_27 (dk_at dksX3_isLiteral_0 13 rfl rfl)
theorem dX3_isLiteral_14 : decode cX3_isLiteral 14 = .ok (.invokestatic 71, 3) := dk_184 0 71 (dk_at dksX3_isLiteral_0 14 rfl rfl)
theorem dX3_isLiteral_17 : decode cX3_isLiteral 17 = .ok (.invokevirtual 75, 3) := dk_182 0 75 (dk_at dksX3_isLiteral_0 17 rfl rfl)
theorem dX3_isLiteral_20 : decode cX3_isLiteral 20 = .ok (.ifCond .eq 7, 3) := dk_153 0 7 (dk_at dksX3_isLiteral_0 20 rfl rfl)
theorem dX3_isLiteral_23 : decode cX3_isLiteral 23 = .ok (.iconst 1, 1) := dk_4 (dk_at dksX3_isLiteral_0 23 rfl rfl)
theorem dX3_isLiteral_24 : decode cX3_isLiteral 24 = .ok (.goto 4, 3) := dk_167 0 4 (dk_at dksX3_isLiteral_1 0 rfl rfl)
theorem dX3_isLiteral_27 : decode cX3_isLiteral 27 = .ok (.iconst 0, 1) := dk_3 (dk_at dksX3_isLiteral_1 3 rfl rfl)
theorem dX3_isLiteral_28 : decode cX3_isLiteral 28 = .ok (.ireturn, 1) := dk_172 (dk_at dksX3_isLiteral_1 4 rfl rfl)
abbrev cX3_size : ByteArray := prog_13_method_4_code
def yX3_size : MethodName := ⟨RX3, "size", "(I)I"⟩
def dkwX3_size_0 : List UInt8 := [26, 156, 0, 8, 26, 116, 167, 0, 4, 26, 172]
abbrev dktX3_size_0 : List UInt8 := dkwX3_size_0 ++ []
theorem dksX3_size_0 : cX3_size.data.toList.drop 0 = dktX3_size_0 := by decide +kernel
theorem dX3_size_0 : decode cX3_size 0 = .ok (.iload_n 0, 1) := dk_26 (dk_at dksX3_size_0 0 rfl rfl)
theorem dX3_size_1 : decode cX3_size 1 = .ok (.ifCond .ge 8, 3) := dk_156 0 8 (dk_at dksX3_size_0 1 rfl rfl)
theorem dX3_size_4 : decode cX3_size 4 = .ok (.iload_n 0, 1) := dk_26 (dk_at dksX3_size_0 4 rfl rfl)
theorem dX3_size_5 : decode cX3_size 5 = .ok (.ineg, 1) := dk_116 (dk_at dksX3_size_0 5 rfl rfl)
theorem dX3_size_6 : decode cX3_size 6 = .ok (.goto 4, 3) := dk_167 0 4 (dk_at dksX3_size_0 6 rfl rfl)
theorem dX3_size_9 : decode cX3_size 9 = .ok (.iload_n 0, 1) := dk_26 (dk_at dksX3_size_0 9 rfl rfl)
theorem dX3_size_10 : decode cX3_size 10 = .ok (.ireturn, 1) := dk_172 (dk_at dksX3_size_0 10 rfl rfl)
abbrev cX3_isVariable : ByteArray := prog_13_method_5_code
def yX3_isVariable : MethodName := ⟨RX3, "isVariable", "(I)Z"⟩
def dkwX3_isVariable_0 : List UInt8 := [27, 4, 42, 180, 0, 7, 3, 46, 184, 0, 67, 172]
abbrev dktX3_isVariable_0 : List UInt8 := dkwX3_isVariable_0 ++ []
theorem dksX3_isVariable_0 : cX3_isVariable.data.toList.drop 0 = dktX3_isVariable_0 := by decide +kernel
theorem dX3_isVariable_0 : decode cX3_isVariable 0 = .ok (.iload_n 1, 1) := dk_27 (dk_at dksX3_isVariable_0 0 rfl rfl)
theorem dX3_isVariable_1 : decode cX3_isVariable 1 = .ok (.iconst 1, 1) := dk_4 (dk_at dksX3_isVariable_0 1 rfl rfl)
theorem dX3_isVariable_2 : decode cX3_isVariable 2 = .ok (.aload_n 0, 1) := dk_42 (dk_at dksX3_isVariable_0 2 rfl rfl)
theorem dX3_isVariable_3 : decode cX3_isVariable 3 = .ok (.getfield 7, 3) := dk_180 0 7 (dk_at dksX3_isVariable_0 3 rfl rfl)
theorem dX3_isVariable_6 : decode cX3_isVariable 6 = .ok (.iconst 0, 1) := dk_3 (dk_at dksX3_isVariable_0 6 rfl rfl)
theorem dX3_isVariable_7 : decode cX3_isVariable 7 = .ok (.iaload, 1) := dk_46 (dk_at dksX3_isVariable_0 7 rfl rfl)
theorem dX3_isVariable_8 : decode cX3_isVariable 8 = .ok (.invokestatic 67, 3) := dk_184 0 67 (dk_at dksX3_isVariable_0 8 rfl rfl)
theorem dX3_isVariable_11 : decode cX3_isVariable 11 = .ok (.ireturn, 1) := dk_172 (dk_at dksX3_isVariable_0 11 rfl rfl)
abbrev cX3_isIn : ByteArray := prog_13_method_3_code
def yX3_isIn : MethodName := ⟨RX3, "isIn", "(III)Z"⟩
def dkwX3_isIn_0 : List UInt8 := [26, 27, 161, 0, 12, 26, 28, 163, 0, 7, 4, 167, 0, 4, 3, 172]
abbrev dktX3_isIn_0 : List UInt8 := dkwX3_isIn_0 ++ []
theorem dksX3_isIn_0 : cX3_isIn.data.toList.drop 0 = dktX3_isIn_0 := by decide +kernel
theorem dX3_isIn_0 : decode cX3_isIn 0 = .ok (.iload_n 0, 1) := dk_26 (dk_at dksX3_isIn_0 0 rfl rfl)
theorem dX3_isIn_1 : decode cX3_isIn 1 = .ok (.iload_n 1, 1) := dk_27 (dk_at dksX3_isIn_0 1 rfl rfl)
theorem dX3_isIn_2 : decode cX3_isIn 2 = .ok (.if_icmp .lt 12, 3) := dk_161 0 12 (dk_at dksX3_isIn_0 2 rfl rfl)
theorem dX3_isIn_5 : decode cX3_isIn 5 = .ok (.iload_n 0, 1) := dk_26 (dk_at dksX3_isIn_0 5 rfl rfl)
theorem dX3_isIn_6 : decode cX3_isIn 6 = .ok (.iload_n 2, 1) := dk_28 (dk_at dksX3_isIn_0 6 rfl rfl)
theorem dX3_isIn_7 : decode cX3_isIn 7 = .ok (.if_icmp .gt 7, 3) := dk_163 0 7 (dk_at dksX3_isIn_0 7 rfl rfl)
theorem dX3_isIn_10 : decode cX3_isIn 10 = .ok (.iconst 1, 1) := dk_4 (dk_at dksX3_isIn_0 10 rfl rfl)
theorem dX3_isIn_11 : decode cX3_isIn 11 = .ok (.goto 4, 3) := dk_167 0 4 (dk_at dksX3_isIn_0 11 rfl rfl)
theorem dX3_isIn_14 : decode cX3_isIn 14 = .ok (.iconst 0, 1) := dk_3 (dk_at dksX3_isIn_0 14 rfl rfl)
theorem dX3_isIn_15 : decode cX3_isIn 15 = .ok (.ireturn, 1) := dk_172 (dk_at dksX3_isIn_0 15 rfl rfl)
abbrev cX3_close : ByteArray := prog_13_method_16_code
def yX3_close : MethodName := ⟨RX3, "close", "()I"⟩
def dkwX3_close_3 : List UInt8 := [132, 2, 1, 167, 255, 219, 42, 180, 0, 7, 7, 3, 79, 27, 172]
abbrev dktX3_close_3 : List UInt8 := dkwX3_close_3 ++ []
def dkwX3_close_2 : List UInt8 := [180, 0, 7, 17, 5, 46, 16, 30, 27, 104, 96, 28, 96, 42, 180, 0, 7, 16, 24, 28, 96, 46, 79]
abbrev dktX3_close_2 : List UInt8 := dkwX3_close_2 ++ dktX3_close_3
def dkwX3_close_1 : List UInt8 := [3, 42, 180, 0, 7, 7, 46, 182, 0, 89, 60, 3, 61, 28, 42, 180, 0, 7, 7, 46, 162, 0, 33, 42]
abbrev dktX3_close_1 : List UInt8 := dkwX3_close_1 ++ dktX3_close_2
def dkwX3_close_0 : List UInt8 := [42, 3, 181, 0, 63, 42, 180, 0, 7, 7, 46, 153, 0, 10, 42, 182, 0, 85, 154, 0, 5, 2, 172, 42]
abbrev dktX3_close_0 : List UInt8 := dkwX3_close_0 ++ dktX3_close_1
theorem dksX3_close_0 : cX3_close.data.toList.drop 0 = dktX3_close_0 := by decide +kernel
theorem dksX3_close_1 : cX3_close.data.toList.drop 24 = dktX3_close_1 := dk_seg dksX3_close_0 24 rfl rfl
theorem dksX3_close_2 : cX3_close.data.toList.drop 48 = dktX3_close_2 := dk_seg dksX3_close_1 24 rfl rfl
theorem dksX3_close_3 : cX3_close.data.toList.drop 71 = dktX3_close_3 := dk_seg dksX3_close_2 23 rfl rfl
theorem dX3_close_0 : decode cX3_close 0 = .ok (.aload_n 0, 1) := dk_42 (dk_at dksX3_close_0 0 rfl rfl)
theorem dX3_close_1 : decode cX3_close 1 = .ok (.iconst 0, 1) := dk_3 (dk_at dksX3_close_0 1 rfl rfl)
theorem dX3_close_2 : decode cX3_close 2 = .ok (.putfield 63, 3) := dk_181 0 63 (dk_at dksX3_close_0 2 rfl rfl)
theorem dX3_close_5 : decode cX3_close 5 = .ok (.aload_n 0, 1) := dk_42 (dk_at dksX3_close_0 5 rfl rfl)
theorem dX3_close_6 : decode cX3_close 6 = .ok (.getfield 7, 3) := dk_180 0 7 (dk_at dksX3_close_0 6 rfl rfl)
theorem dX3_close_9 : decode cX3_close 9 = .ok (.iconst 4, 1) := dk_7 (dk_at dksX3_close_0 9 rfl rfl)
theorem dX3_close_10 : decode cX3_close 10 = .ok (.iaload, 1) := dk_46 (dk_at dksX3_close_0 10 rfl rfl)
theorem dX3_close_11 : decode cX3_close 11 = .ok (.ifCond .eq 10, 3) := dk_153 0 10 (dk_at dksX3_close_0 11 rfl rfl)
theorem dX3_close_14 : decode cX3_close 14 = .ok (.aload_n 0, 1) := dk_42 (dk_at dksX3_close_0 14 rfl rfl)
theorem dX3_close_15 : decode cX3_close 15 = .ok (.invokevirtual 85, 3) := dk_182 0 85 (dk_at dksX3_close_0 15 rfl rfl)
theorem dX3_close_18 : decode cX3_close 18 = .ok (.ifCond .ne 5, 3) := dk_154 0 5 (dk_at dksX3_close_0 18 rfl rfl)
theorem dX3_close_21 : decode cX3_close 21 = .ok (.iconst (-1), 1) := dk_2 (dk_at dksX3_close_0 21 rfl rfl)
theorem dX3_close_22 : decode cX3_close 22 = .ok (.ireturn, 1) := dk_172 (dk_at dksX3_close_0 22 rfl rfl)
theorem dX3_close_23 : decode cX3_close 23 = .ok (.aload_n 0, 1) := dk_42 (dk_at dksX3_close_0 23 rfl rfl)
theorem dX3_close_24 : decode cX3_close 24 = .ok (.iconst 0, 1) := dk_3 (dk_at dksX3_close_1 0 rfl rfl)
theorem dX3_close_25 : decode cX3_close 25 = .ok (.aload_n 0, 1) := dk_42 (dk_at dksX3_close_1 1 rfl rfl)
theorem dX3_close_26 : decode cX3_close 26 = .ok (.getfield 7, 3) := dk_180 0 7 (dk_at dksX3_close_1 2 rfl rfl)
theorem dX3_close_29 : decode cX3_close 29 = .ok (.iconst 4, 1) := dk_7 (dk_at dksX3_close_1 5 rfl rfl)
theorem dX3_close_30 : decode cX3_close 30 = .ok (.iaload, 1) := dk_46 (dk_at dksX3_close_1 6 rfl rfl)
theorem dX3_close_31 : decode cX3_close 31 = .ok (.invokevirtual 89, 3) := dk_182 0 89 (dk_at dksX3_close_1 7 rfl rfl)
theorem dX3_close_34 : decode cX3_close 34 = .ok (.istore_n 1, 1) := dk_60 (dk_at dksX3_close_1 10 rfl rfl)
theorem dX3_close_35 : decode cX3_close 35 = .ok (.iconst 0, 1) := dk_3 (dk_at dksX3_close_1 11 rfl rfl)
theorem dX3_close_36 : decode cX3_close 36 = .ok (.istore_n 2, 1) := dk_61 (dk_at dksX3_close_1 12 rfl rfl)
theorem dX3_close_37 : decode cX3_close 37 = .ok (.iload_n 2, 1) := dk_28 (dk_at dksX3_close_1 13 rfl rfl)
theorem dX3_close_38 : decode cX3_close 38 = .ok (.aload_n 0, 1) := dk_42 (dk_at dksX3_close_1 14 rfl rfl)
theorem dX3_close_39 : decode cX3_close 39 = .ok (.getfield 7, 3) := dk_180 0 7 (dk_at dksX3_close_1 15 rfl rfl)
theorem dX3_close_42 : decode cX3_close 42 = .ok (.iconst 4, 1) := dk_7 (dk_at dksX3_close_1 18 rfl rfl)
theorem dX3_close_43 : decode cX3_close 43 = .ok (.iaload, 1) := dk_46 (dk_at dksX3_close_1 19 rfl rfl)
theorem dX3_close_44 : decode cX3_close 44 = .ok (.if_icmp .ge 33, 3) := dk_162 0 33 (dk_at dksX3_close_1 20 rfl rfl)
theorem dX3_close_47 : decode cX3_close 47 = .ok (.aload_n 0, 1) := dk_42 (dk_at dksX3_close_1 23 rfl rfl)
theorem dX3_close_48 : decode cX3_close 48 = .ok (.getfield 7, 3) := dk_180 0 7 (dk_at dksX3_close_2 0 rfl rfl)
theorem dX3_close_51 : decode cX3_close 51 = .ok (.sipush 1326, 3) := dk_17 5 46 (dk_at dksX3_close_2 3 rfl rfl)
theorem dX3_close_54 : decode cX3_close 54 = .ok (.bipush 30, 2) := dk_16 30 (dk_at dksX3_close_2 6 rfl rfl)
theorem dX3_close_56 : decode cX3_close 56 = .ok (.iload_n 1, 1) := dk_27 (dk_at dksX3_close_2 8 rfl rfl)
theorem dX3_close_57 : decode cX3_close 57 = .ok (.imul, 1) := dk_104 (dk_at dksX3_close_2 9 rfl rfl)
theorem dX3_close_58 : decode cX3_close 58 = .ok (.iadd, 1) := dk_96 (dk_at dksX3_close_2 10 rfl rfl)
theorem dX3_close_59 : decode cX3_close 59 = .ok (.iload_n 2, 1) := dk_28 (dk_at dksX3_close_2 11 rfl rfl)
theorem dX3_close_60 : decode cX3_close 60 = .ok (.iadd, 1) := dk_96 (dk_at dksX3_close_2 12 rfl rfl)
theorem dX3_close_61 : decode cX3_close 61 = .ok (.aload_n 0, 1) := dk_42 (dk_at dksX3_close_2 13 rfl rfl)
theorem dX3_close_62 : decode cX3_close 62 = .ok (.getfield 7, 3) := dk_180 0 7 (dk_at dksX3_close_2 14 rfl rfl)
theorem dX3_close_65 : decode cX3_close 65 = .ok (.bipush 24, 2) := dk_16 24 (dk_at dksX3_close_2 17 rfl rfl)
theorem dX3_close_67 : decode cX3_close 67 = .ok (.iload_n 2, 1) := dk_28 (dk_at dksX3_close_2 19 rfl rfl)
theorem dX3_close_68 : decode cX3_close 68 = .ok (.iadd, 1) := dk_96 (dk_at dksX3_close_2 20 rfl rfl)
theorem dX3_close_69 : decode cX3_close 69 = .ok (.iaload, 1) := dk_46 (dk_at dksX3_close_2 21 rfl rfl)
theorem dX3_close_70 : decode cX3_close 70 = .ok (.iastore, 1) := dk_79 (dk_at dksX3_close_2 22 rfl rfl)
theorem dX3_close_71 : decode cX3_close 71 = .ok (.iinc 2 1, 3) := dk_132 2 1 (dk_at dksX3_close_3 0 rfl rfl)
theorem dX3_close_74 : decode cX3_close 74 = .ok (.goto (-37), 3) := dk_167 255 219 (dk_at dksX3_close_3 3 rfl rfl)
theorem dX3_close_77 : decode cX3_close 77 = .ok (.aload_n 0, 1) := dk_42 (dk_at dksX3_close_3 6 rfl rfl)
theorem dX3_close_78 : decode cX3_close 78 = .ok (.getfield 7, 3) := dk_180 0 7 (dk_at dksX3_close_3 7 rfl rfl)
theorem dX3_close_81 : decode cX3_close 81 = .ok (.iconst 4, 1) := dk_7 (dk_at dksX3_close_3 10 rfl rfl)
theorem dX3_close_82 : decode cX3_close 82 = .ok (.iconst 0, 1) := dk_3 (dk_at dksX3_close_3 11 rfl rfl)
theorem dX3_close_83 : decode cX3_close 83 = .ok (.iastore, 1) := dk_79 (dk_at dksX3_close_3 12 rfl rfl)
theorem dX3_close_84 : decode cX3_close 84 = .ok (.iload_n 1, 1) := dk_27 (dk_at dksX3_close_3 13 rfl rfl)
theorem dX3_close_85 : decode cX3_close 85 = .ok (.ireturn, 1) := dk_172 (dk_at dksX3_close_3 14 rfl rfl)
abbrev cX3_isRoom : ByteArray := prog_13_method_14_code
def yX3_isRoom : MethodName := ⟨RX3, "isRoom", "()Z"⟩
def dkwX3_isRoom_1 : List UInt8 := [167, 0, 4, 3, 172]
abbrev dktX3_isRoom_1 : List UInt8 := dkwX3_isRoom_1 ++ []
def dkwX3_isRoom_0 : List UInt8 := [42, 180, 0, 7, 5, 46, 16, 80, 162, 0, 19, 42, 180, 0, 7, 4, 46, 17, 1, 144, 162, 0, 7, 4]
abbrev dktX3_isRoom_0 : List UInt8 := dkwX3_isRoom_0 ++ dktX3_isRoom_1
theorem dksX3_isRoom_0 : cX3_isRoom.data.toList.drop 0 = dktX3_isRoom_0 := by decide +kernel
theorem dksX3_isRoom_1 : cX3_isRoom.data.toList.drop 24 = dktX3_isRoom_1 := dk_seg dksX3_isRoom_0 24 rfl rfl
theorem dX3_isRoom_0 : decode cX3_isRoom 0 = .ok (.aload_n 0, 1) := dk_42 (dk_at dksX3_isRoom_0 0 rfl rfl)
theorem dX3_isRoom_1 : decode cX3_isRoom 1 = .ok (.getfield 7, 3) := dk_180 0 7 (dk_at dksX3_isRoom_0 1 rfl rfl)
theorem dX3_isRoom_4 : decode cX3_isRoom 4 = .ok (.iconst 2, 1) := dk_5 (dk_at dksX3_isRoom_0 4 rfl rfl)
theorem dX3_isRoom_5 : decode cX3_isRoom 5 = .ok (.iaload, 1) := dk_46 (dk_at dksX3_isRoom_0 5 rfl rfl)
theorem dX3_isRoom_6 : decode cX3_isRoom 6 = .ok (.bipush 80, 2) := dk_16 80 (dk_at dksX3_isRoom_0 6 rfl rfl)
theorem dX3_isRoom_8 : decode cX3_isRoom 8 = .ok (.if_icmp .ge 19, 3) := dk_162 0 19 (dk_at dksX3_isRoom_0 8 rfl rfl)
theorem dX3_isRoom_11 : decode cX3_isRoom 11 = .ok (.aload_n 0, 1) := dk_42 (dk_at dksX3_isRoom_0 11 rfl rfl)
theorem dX3_isRoom_12 : decode cX3_isRoom 12 = .ok (.getfield 7, 3) := dk_180 0 7 (dk_at dksX3_isRoom_0 12 rfl rfl)
theorem dX3_isRoom_15 : decode cX3_isRoom 15 = .ok (.iconst 1, 1) := dk_4 (dk_at dksX3_isRoom_0 15 rfl rfl)
theorem dX3_isRoom_16 : decode cX3_isRoom 16 = .ok (.iaload, 1) := dk_46 (dk_at dksX3_isRoom_0 16 rfl rfl)
theorem dX3_isRoom_17 : decode cX3_isRoom 17 = .ok (.sipush 400, 3) := dk_17 1 144 (dk_at dksX3_isRoom_0 17 rfl rfl)
theorem dX3_isRoom_20 : decode cX3_isRoom 20 = .ok (.if_icmp .ge 7, 3) := dk_162 0 7 (dk_at dksX3_isRoom_0 20 rfl rfl)
theorem dX3_isRoom_23 : decode cX3_isRoom 23 = .ok (.iconst 1, 1) := dk_4 (dk_at dksX3_isRoom_0 23 rfl rfl)
theorem dX3_isRoom_24 : decode cX3_isRoom 24 = .ok (.goto 4, 3) := dk_167 0 4 (dk_at dksX3_isRoom_1 0 rfl rfl)
theorem dX3_isRoom_27 : decode cX3_isRoom 27 = .ok (.iconst 0, 1) := dk_3 (dk_at dksX3_isRoom_1 3 rfl rfl)
theorem dX3_isRoom_28 : decode cX3_isRoom 28 = .ok (.ireturn, 1) := dk_172 (dk_at dksX3_isRoom_1 4 rfl rfl)
abbrev cX3_begins : ByteArray := prog_13_method_15_code
def yX3_begins : MethodName := ⟨RX3, "begins", "(II)I"⟩
def dkwX3_begins_2 : List UInt8 := [154, 0, 7, 4, 167, 0, 4, 3, 96, 79, 29, 172]
abbrev dktX3_begins_2 : List UInt8 := dkwX3_begins_2 ++ []
def dkwX3_begins_1 : List UInt8 := [29, 96, 28, 79, 42, 180, 0, 7, 4, 92, 46, 4, 96, 79, 42, 180, 0, 7, 5, 92, 46, 27]
abbrev dktX3_begins_1 : List UInt8 := dkwX3_begins_1 ++ dktX3_begins_2
def dkwX3_begins_0 : List UInt8 := [42, 180, 0, 7, 4, 46, 62, 42, 180, 0, 7, 17, 2, 13, 29, 96, 27, 79, 42, 180, 0, 7, 16, 125]
abbrev dktX3_begins_0 : List UInt8 := dkwX3_begins_0 ++ dktX3_begins_1
theorem dksX3_begins_0 : cX3_begins.data.toList.drop 0 = dktX3_begins_0 := by decide +kernel
theorem dksX3_begins_1 : cX3_begins.data.toList.drop 24 = dktX3_begins_1 := dk_seg dksX3_begins_0 24 rfl rfl
theorem dksX3_begins_2 : cX3_begins.data.toList.drop 46 = dktX3_begins_2 := dk_seg dksX3_begins_1 22 rfl rfl
theorem dX3_begins_0 : decode cX3_begins 0 = .ok (.aload_n 0, 1) := dk_42 (dk_at dksX3_begins_0 0 rfl rfl)
theorem dX3_begins_1 : decode cX3_begins 1 = .ok (.getfield 7, 3) := dk_180 0 7 (dk_at dksX3_begins_0 1 rfl rfl)
theorem dX3_begins_4 : decode cX3_begins 4 = .ok (.iconst 1, 1) := dk_4 (dk_at dksX3_begins_0 4 rfl rfl)
theorem dX3_begins_5 : decode cX3_begins 5 = .ok (.iaload, 1) := dk_46 (dk_at dksX3_begins_0 5 rfl rfl)
theorem dX3_begins_6 : decode cX3_begins 6 = .ok (.istore_n 3, 1) := dk_62 (dk_at dksX3_begins_0 6 rfl rfl)
theorem dX3_begins_7 : decode cX3_begins 7 = .ok (.aload_n 0, 1) := dk_42 (dk_at dksX3_begins_0 7 rfl rfl)
theorem dX3_begins_8 : decode cX3_begins 8 = .ok (.getfield 7, 3) := dk_180 0 7 (dk_at dksX3_begins_0 8 rfl rfl)
theorem dX3_begins_11 : decode cX3_begins 11 = .ok (.sipush 525, 3) := dk_17 2 13 (dk_at dksX3_begins_0 11 rfl rfl)
theorem dX3_begins_14 : decode cX3_begins 14 = .ok (.iload_n 3, 1) := dk_29 (dk_at dksX3_begins_0 14 rfl rfl)
theorem dX3_begins_15 : decode cX3_begins 15 = .ok (.iadd, 1) := dk_96 (dk_at dksX3_begins_0 15 rfl rfl)
theorem dX3_begins_16 : decode cX3_begins 16 = .ok (.iload_n 1, 1) := dk_27 (dk_at dksX3_begins_0 16 rfl rfl)
theorem dX3_begins_17 : decode cX3_begins 17 = .ok (.iastore, 1) := dk_79 (dk_at dksX3_begins_0 17 rfl rfl)
theorem dX3_begins_18 : decode cX3_begins 18 = .ok (.aload_n 0, 1) := dk_42 (dk_at dksX3_begins_0 18 rfl rfl)
theorem dX3_begins_19 : decode cX3_begins 19 = .ok (.getfield 7, 3) := dk_180 0 7 (dk_at dksX3_begins_0 19 rfl rfl)
theorem dX3_begins_22 : decode cX3_begins 22 = .ok (.bipush 125, 2) := dk_16 125 (dk_at dksX3_begins_0 22 rfl rfl)
theorem dX3_begins_24 : decode cX3_begins 24 = .ok (.iload_n 3, 1) := dk_29 (dk_at dksX3_begins_1 0 rfl rfl)
theorem dX3_begins_25 : decode cX3_begins 25 = .ok (.iadd, 1) := dk_96 (dk_at dksX3_begins_1 1 rfl rfl)
theorem dX3_begins_26 : decode cX3_begins 26 = .ok (.iload_n 2, 1) := dk_28 (dk_at dksX3_begins_1 2 rfl rfl)
theorem dX3_begins_27 : decode cX3_begins 27 = .ok (.iastore, 1) := dk_79 (dk_at dksX3_begins_1 3 rfl rfl)
theorem dX3_begins_28 : decode cX3_begins 28 = .ok (.aload_n 0, 1) := dk_42 (dk_at dksX3_begins_1 4 rfl rfl)
theorem dX3_begins_29 : decode cX3_begins 29 = .ok (.getfield 7, 3) := dk_180 0 7 (dk_at dksX3_begins_1 5 rfl rfl)
theorem dX3_begins_32 : decode cX3_begins 32 = .ok (.iconst 1, 1) := dk_4 (dk_at dksX3_begins_1 8 rfl rfl)
theorem dX3_begins_33 : decode cX3_begins 33 = .ok (.dup2, 1) := dk_92 (dk_at dksX3_begins_1 9 rfl rfl)
theorem dX3_begins_34 : decode cX3_begins 34 = .ok (.iaload, 1) := dk_46 (dk_at dksX3_begins_1 10 rfl rfl)
theorem dX3_begins_35 : decode cX3_begins 35 = .ok (.iconst 1, 1) := dk_4 (dk_at dksX3_begins_1 11 rfl rfl)
theorem dX3_begins_36 : decode cX3_begins 36 = .ok (.iadd, 1) := dk_96 (dk_at dksX3_begins_1 12 rfl rfl)
theorem dX3_begins_37 : decode cX3_begins 37 = .ok (.iastore, 1) := dk_79 (dk_at dksX3_begins_1 13 rfl rfl)
theorem dX3_begins_38 : decode cX3_begins 38 = .ok (.aload_n 0, 1) := dk_42 (dk_at dksX3_begins_1 14 rfl rfl)
theorem dX3_begins_39 : decode cX3_begins 39 = .ok (.getfield 7, 3) := dk_180 0 7 (dk_at dksX3_begins_1 15 rfl rfl)
theorem dX3_begins_42 : decode cX3_begins 42 = .ok (.iconst 2, 1) := dk_5 (dk_at dksX3_begins_1 18 rfl rfl)
theorem dX3_begins_43 : decode cX3_begins 43 = .ok (.dup2, 1) := dk_92 (dk_at dksX3_begins_1 19 rfl rfl)
theorem dX3_begins_44 : decode cX3_begins 44 = .ok (.iaload, 1) := dk_46 (dk_at dksX3_begins_1 20 rfl rfl)
theorem dX3_begins_45 : decode cX3_begins 45 = .ok (.iload_n 1, 1) := dk_27 (dk_at dksX3_begins_1 21 rfl rfl)
theorem dX3_begins_46 : decode cX3_begins 46 = .ok (.ifCond .ne 7, 3) := dk_154 0 7 (dk_at dksX3_begins_2 0 rfl rfl)
theorem dX3_begins_49 : decode cX3_begins 49 = .ok (.iconst 1, 1) := dk_4 (dk_at dksX3_begins_2 3 rfl rfl)
theorem dX3_begins_50 : decode cX3_begins 50 = .ok (.goto 4, 3) := dk_167 0 4 (dk_at dksX3_begins_2 4 rfl rfl)
theorem dX3_begins_53 : decode cX3_begins 53 = .ok (.iconst 0, 1) := dk_3 (dk_at dksX3_begins_2 7 rfl rfl)
theorem dX3_begins_54 : decode cX3_begins 54 = .ok (.iadd, 1) := dk_96 (dk_at dksX3_begins_2 8 rfl rfl)
theorem dX3_begins_55 : decode cX3_begins 55 = .ok (.iastore, 1) := dk_79 (dk_at dksX3_begins_2 9 rfl rfl)
theorem dX3_begins_56 : decode cX3_begins 56 = .ok (.iload_n 3, 1) := dk_29 (dk_at dksX3_begins_2 10 rfl rfl)
theorem dX3_begins_57 : decode cX3_begins 57 = .ok (.ireturn, 1) := dk_172 (dk_at dksX3_begins_2 11 rfl rfl)
abbrev cX3_assume : ByteArray := prog_13_method_17_code
def yX3_assume : MethodName := ⟨RX3, "assume", "(I)I"⟩
def dkwX3_assume_4 : List UInt8 := [46, 172]
abbrev dktX3_assume_4 : List UInt8 := dkwX3_assume_4 ++ []
def dkwX3_assume_3 : List UInt8 := [42, 180, 0, 7, 6, 46, 96, 27, 79, 42, 180, 0, 7, 6, 92, 46, 4, 96, 79, 42, 180, 0, 7, 6]
abbrev dktX3_assume_3 : List UInt8 := dkwX3_assume_3 ++ dktX3_assume_4
def dkwX3_assume_2 : List UInt8 := [184, 0, 71, 27, 184, 0, 71, 160, 0, 5, 2, 172, 132, 2, 1, 167, 255, 222, 42, 180, 0, 7, 16, 16]
abbrev dktX3_assume_2 : List UInt8 := dkwX3_assume_2 ++ dktX3_assume_3
def dkwX3_assume_1 : List UInt8 := [2, 172, 3, 61, 28, 42, 180, 0, 7, 6, 46, 162, 0, 30, 42, 180, 0, 7, 16, 16, 28, 96, 46]
abbrev dktX3_assume_1 : List UInt8 := dkwX3_assume_1 ++ dktX3_assume_2
def dkwX3_assume_0 : List UInt8 := [42, 3, 181, 0, 63, 42, 180, 0, 7, 6, 46, 16, 8, 159, 0, 11, 42, 27, 182, 0, 82, 154, 0, 5]
abbrev dktX3_assume_0 : List UInt8 := dkwX3_assume_0 ++ dktX3_assume_1
theorem dksX3_assume_0 : cX3_assume.data.toList.drop 0 = dktX3_assume_0 := by decide +kernel
theorem dksX3_assume_1 : cX3_assume.data.toList.drop 24 = dktX3_assume_1 := dk_seg dksX3_assume_0 24 rfl rfl
theorem dksX3_assume_2 : cX3_assume.data.toList.drop 47 = dktX3_assume_2 := dk_seg dksX3_assume_1 23 rfl rfl
theorem dksX3_assume_3 : cX3_assume.data.toList.drop 71 = dktX3_assume_3 := dk_seg dksX3_assume_2 24 rfl rfl
theorem dksX3_assume_4 : cX3_assume.data.toList.drop 95 = dktX3_assume_4 := dk_seg dksX3_assume_3 24 rfl rfl
theorem dX3_assume_0 : decode cX3_assume 0 = .ok (.aload_n 0, 1) := dk_42 (dk_at dksX3_assume_0 0 rfl rfl)
theorem dX3_assume_1 : decode cX3_assume 1 = .ok (.iconst 0, 1) := dk_3 (dk_at dksX3_assume_0 1 rfl rfl)
theorem dX3_assume_2 : decode cX3_assume 2 = .ok (.putfield 63, 3) := dk_181 0 63 (dk_at dksX3_assume_0 2 rfl rfl)
theorem dX3_assume_5 : decode cX3_assume 5 = .ok (.aload_n 0, 1) := dk_42 (dk_at dksX3_assume_0 5 rfl rfl)
theorem dX3_assume_6 : decode cX3_assume 6 = .ok (.getfield 7, 3) := dk_180 0 7 (dk_at dksX3_assume_0 6 rfl rfl)
theorem dX3_assume_9 : decode cX3_assume 9 = .ok (.iconst 3, 1) := dk_6 (dk_at dksX3_assume_0 9 rfl rfl)
theorem dX3_assume_10 : decode cX3_assume 10 = .ok (.iaload, 1) := dk_46 (dk_at dksX3_assume_0 10 rfl rfl)
theorem dX3_assume_11 : decode cX3_assume 11 = .ok (.bipush 8, 2) := dk_16 8 (dk_at dksX3_assume_0 11 rfl rfl)
theorem dX3_assume_13 : decode cX3_assume 13 = .ok (.if_icmp .eq 11, 3) := dk_159 0 11 (dk_at dksX3_assume_0 13 rfl rfl)
theorem dX3_assume_16 : decode cX3_assume 16 = .ok (.aload_n 0, 1) := dk_42 (dk_at dksX3_assume_0 16 rfl rfl)
theorem dX3_assume_17 : decode cX3_assume 17 = .ok (.iload_n 1, 1) := dk_27 (dk_at dksX3_assume_0 17 rfl rfl)
theorem dX3_assume_18 : decode cX3_assume 18 = .ok (.invokevirtual 82, 3) := dk_182 0 82 (dk_at dksX3_assume_0 18 rfl rfl)
theorem dX3_assume_21 : decode cX3_assume 21 = .ok (.ifCond .ne 5, 3) := dk_154 0 5 (dk_at dksX3_assume_0 21 rfl rfl)
theorem dX3_assume_24 : decode cX3_assume 24 = .ok (.iconst (-1), 1) := dk_2 (dk_at dksX3_assume_1 0 rfl rfl)
theorem dX3_assume_25 : decode cX3_assume 25 = .ok (.ireturn, 1) := dk_172 (dk_at dksX3_assume_1 1 rfl rfl)
theorem dX3_assume_26 : decode cX3_assume 26 = .ok (.iconst 0, 1) := dk_3 (dk_at dksX3_assume_1 2 rfl rfl)
theorem dX3_assume_27 : decode cX3_assume 27 = .ok (.istore_n 2, 1) := dk_61 (dk_at dksX3_assume_1 3 rfl rfl)
theorem dX3_assume_28 : decode cX3_assume 28 = .ok (.iload_n 2, 1) := dk_28 (dk_at dksX3_assume_1 4 rfl rfl)
theorem dX3_assume_29 : decode cX3_assume 29 = .ok (.aload_n 0, 1) := dk_42 (dk_at dksX3_assume_1 5 rfl rfl)
theorem dX3_assume_30 : decode cX3_assume 30 = .ok (.getfield 7, 3) := dk_180 0 7 (dk_at dksX3_assume_1 6 rfl rfl)
theorem dX3_assume_33 : decode cX3_assume 33 = .ok (.iconst 3, 1) := dk_6 (dk_at dksX3_assume_1 9 rfl rfl)
theorem dX3_assume_34 : decode cX3_assume 34 = .ok (.iaload, 1) := dk_46 (dk_at dksX3_assume_1 10 rfl rfl)
theorem dX3_assume_35 : decode cX3_assume 35 = .ok (.if_icmp .ge 30, 3) := dk_162 0 30 (dk_at dksX3_assume_1 11 rfl rfl)
theorem dX3_assume_38 : decode cX3_assume 38 = .ok (.aload_n 0, 1) := dk_42 (dk_at dksX3_assume_1 14 rfl rfl)
theorem dX3_assume_39 : decode cX3_assume 39 = .ok (.getfield 7, 3) := dk_180 0 7 (dk_at dksX3_assume_1 15 rfl rfl)
theorem dX3_assume_42 : decode cX3_assume 42 = .ok (.bipush 16, 2) := dk_16 16 (dk_at dksX3_assume_1 18 rfl rfl)
theorem dX3_assume_44 : decode cX3_assume 44 = .ok (.iload_n 2, 1) := dk_28 (dk_at dksX3_assume_1 20 rfl rfl)
theorem dX3_assume_45 : decode cX3_assume 45 = .ok (.iadd, 1) := dk_96 (dk_at dksX3_assume_1 21 rfl rfl)
theorem dX3_assume_46 : decode cX3_assume 46 = .ok (.iaload, 1) := dk_46 (dk_at dksX3_assume_1 22 rfl rfl)
theorem dX3_assume_47 : decode cX3_assume 47 = .ok (.invokestatic 71, 3) := dk_184 0 71 (dk_at dksX3_assume_2 0 rfl rfl)
theorem dX3_assume_50 : decode cX3_assume 50 = .ok (.iload_n 1, 1) := dk_27 (dk_at dksX3_assume_2 3 rfl rfl)
theorem dX3_assume_51 : decode cX3_assume 51 = .ok (.invokestatic 71, 3) := dk_184 0 71 (dk_at dksX3_assume_2 4 rfl rfl)
theorem dX3_assume_54 : decode cX3_assume 54 = .ok (.if_icmp .ne 5, 3) := dk_160 0 5 (dk_at dksX3_assume_2 7 rfl rfl)
theorem dX3_assume_57 : decode cX3_assume 57 = .ok (.iconst (-1), 1) := dk_2 (dk_at dksX3_assume_2 10 rfl rfl)
theorem dX3_assume_58 : decode cX3_assume 58 = .ok (.ireturn, 1) := dk_172 (dk_at dksX3_assume_2 11 rfl rfl)
theorem dX3_assume_59 : decode cX3_assume 59 = .ok (.iinc 2 1, 3) := dk_132 2 1 (dk_at dksX3_assume_2 12 rfl rfl)
theorem dX3_assume_62 : decode cX3_assume 62 = .ok (.goto (-34), 3) := dk_167 255 222 (dk_at dksX3_assume_2 15 rfl rfl)
theorem dX3_assume_65 : decode cX3_assume 65 = .ok (.aload_n 0, 1) := dk_42 (dk_at dksX3_assume_2 18 rfl rfl)
theorem dX3_assume_66 : decode cX3_assume 66 = .ok (.getfield 7, 3) := dk_180 0 7 (dk_at dksX3_assume_2 19 rfl rfl)
theorem dX3_assume_69 : decode cX3_assume 69 = .ok (.bipush 16, 2) := dk_16 16 (dk_at dksX3_assume_2 22 rfl rfl)
theorem dX3_assume_71 : decode cX3_assume 71 = .ok (.aload_n 0, 1) := dk_42 (dk_at dksX3_assume_3 0 rfl rfl)
theorem dX3_assume_72 : decode cX3_assume 72 = .ok (.getfield 7, 3) := dk_180 0 7 (dk_at dksX3_assume_3 1 rfl rfl)
theorem dX3_assume_75 : decode cX3_assume 75 = .ok (.iconst 3, 1) := dk_6 (dk_at dksX3_assume_3 4 rfl rfl)
theorem dX3_assume_76 : decode cX3_assume 76 = .ok (.iaload, 1) := dk_46 (dk_at dksX3_assume_3 5 rfl rfl)
theorem dX3_assume_77 : decode cX3_assume 77 = .ok (.iadd, 1) := dk_96 (dk_at dksX3_assume_3 6 rfl rfl)
theorem dX3_assume_78 : decode cX3_assume 78 = .ok (.iload_n 1, 1) := dk_27 (dk_at dksX3_assume_3 7 rfl rfl)
theorem dX3_assume_79 : decode cX3_assume 79 = .ok (.iastore, 1) := dk_79 (dk_at dksX3_assume_3 8 rfl rfl)
theorem dX3_assume_80 : decode cX3_assume 80 = .ok (.aload_n 0, 1) := dk_42 (dk_at dksX3_assume_3 9 rfl rfl)
theorem dX3_assume_81 : decode cX3_assume 81 = .ok (.getfield 7, 3) := dk_180 0 7 (dk_at dksX3_assume_3 10 rfl rfl)
theorem dX3_assume_84 : decode cX3_assume 84 = .ok (.iconst 3, 1) := dk_6 (dk_at dksX3_assume_3 13 rfl rfl)
theorem dX3_assume_85 : decode cX3_assume 85 = .ok (.dup2, 1) := dk_92 (dk_at dksX3_assume_3 14 rfl rfl)
theorem dX3_assume_86 : decode cX3_assume 86 = .ok (.iaload, 1) := dk_46 (dk_at dksX3_assume_3 15 rfl rfl)
theorem dX3_assume_87 : decode cX3_assume 87 = .ok (.iconst 1, 1) := dk_4 (dk_at dksX3_assume_3 16 rfl rfl)
theorem dX3_assume_88 : decode cX3_assume 88 = .ok (.iadd, 1) := dk_96 (dk_at dksX3_assume_3 17 rfl rfl)
theorem dX3_assume_89 : decode cX3_assume 89 = .ok (.iastore, 1) := dk_79 (dk_at dksX3_assume_3 18 rfl rfl)
theorem dX3_assume_90 : decode cX3_assume 90 = .ok (.aload_n 0, 1) := dk_42 (dk_at dksX3_assume_3 19 rfl rfl)
theorem dX3_assume_91 : decode cX3_assume 91 = .ok (.getfield 7, 3) := dk_180 0 7 (dk_at dksX3_assume_3 20 rfl rfl)
theorem dX3_assume_94 : decode cX3_assume 94 = .ok (.iconst 3, 1) := dk_6 (dk_at dksX3_assume_3 23 rfl rfl)
theorem dX3_assume_95 : decode cX3_assume 95 = .ok (.iaload, 1) := dk_46 (dk_at dksX3_assume_4 0 rfl rfl)
theorem dX3_assume_96 : decode cX3_assume 96 = .ok (.ireturn, 1) := dk_172 (dk_at dksX3_assume_4 1 rfl rfl)
abbrev cX3_free : ByteArray := prog_13_method_18_code
def yX3_free : MethodName := ⟨RX3, "free", "()I"⟩
def dkwX3_free_0 : List UInt8 := [42, 3, 181, 0, 63, 42, 180, 0, 7, 6, 46, 60, 42, 180, 0, 7, 6, 3, 79, 27, 172]
abbrev dktX3_free_0 : List UInt8 := dkwX3_free_0 ++ []
theorem dksX3_free_0 : cX3_free.data.toList.drop 0 = dktX3_free_0 := by decide +kernel
theorem dX3_free_0 : decode cX3_free 0 = .ok (.aload_n 0, 1) := dk_42 (dk_at dksX3_free_0 0 rfl rfl)
theorem dX3_free_1 : decode cX3_free 1 = .ok (.iconst 0, 1) := dk_3 (dk_at dksX3_free_0 1 rfl rfl)
theorem dX3_free_2 : decode cX3_free 2 = .ok (.putfield 63, 3) := dk_181 0 63 (dk_at dksX3_free_0 2 rfl rfl)
theorem dX3_free_5 : decode cX3_free 5 = .ok (.aload_n 0, 1) := dk_42 (dk_at dksX3_free_0 5 rfl rfl)
theorem dX3_free_6 : decode cX3_free 6 = .ok (.getfield 7, 3) := dk_180 0 7 (dk_at dksX3_free_0 6 rfl rfl)
theorem dX3_free_9 : decode cX3_free 9 = .ok (.iconst 3, 1) := dk_6 (dk_at dksX3_free_0 9 rfl rfl)
theorem dX3_free_10 : decode cX3_free 10 = .ok (.iaload, 1) := dk_46 (dk_at dksX3_free_0 10 rfl rfl)
theorem dX3_free_11 : decode cX3_free 11 = .ok (.istore_n 1, 1) := dk_60 (dk_at dksX3_free_0 11 rfl rfl)
theorem dX3_free_12 : decode cX3_free 12 = .ok (.aload_n 0, 1) := dk_42 (dk_at dksX3_free_0 12 rfl rfl)
theorem dX3_free_13 : decode cX3_free 13 = .ok (.getfield 7, 3) := dk_180 0 7 (dk_at dksX3_free_0 13 rfl rfl)
theorem dX3_free_16 : decode cX3_free 16 = .ok (.iconst 3, 1) := dk_6 (dk_at dksX3_free_0 16 rfl rfl)
theorem dX3_free_17 : decode cX3_free 17 = .ok (.iconst 0, 1) := dk_3 (dk_at dksX3_free_0 17 rfl rfl)
theorem dX3_free_18 : decode cX3_free 18 = .ok (.iastore, 1) := dk_79 (dk_at dksX3_free_0 18 rfl rfl)
theorem dX3_free_19 : decode cX3_free 19 = .ok (.iload_n 1, 1) := dk_27 (dk_at dksX3_free_0 19 rfl rfl)
theorem dX3_free_20 : decode cX3_free 20 = .ok (.ireturn, 1) := dk_172 (dk_at dksX3_free_0 20 rfl rfl)
abbrev cX3_phase : ByteArray := prog_13_method_19_code
def yX3_phase : MethodName := ⟨RX3, "phase", "(I)Z"⟩
def dkwX3_phase_2 : List UInt8 := [184, 0, 71, 96, 27, 158, 0, 7, 4, 167, 0, 4, 3, 79, 4, 172]
abbrev dktX3_phase_2 : List UInt8 := dkwX3_phase_2 ++ []
def dkwX3_phase_1 : List UInt8 := [46, 27, 158, 0, 7, 4, 167, 0, 4, 3, 160, 0, 5, 3, 172, 42, 180, 0, 7, 16, 32, 27]
abbrev dktX3_phase_1 : List UInt8 := dkwX3_phase_1 ++ dktX3_phase_2
def dkwX3_phase_0 : List UInt8 := [42, 3, 181, 0, 63, 42, 27, 182, 0, 82, 153, 0, 27, 42, 180, 0, 7, 16, 32, 27, 184, 0, 71, 96]
abbrev dktX3_phase_0 : List UInt8 := dkwX3_phase_0 ++ dktX3_phase_1
theorem dksX3_phase_0 : cX3_phase.data.toList.drop 0 = dktX3_phase_0 := by decide +kernel
theorem dksX3_phase_1 : cX3_phase.data.toList.drop 24 = dktX3_phase_1 := dk_seg dksX3_phase_0 24 rfl rfl
theorem dksX3_phase_2 : cX3_phase.data.toList.drop 46 = dktX3_phase_2 := dk_seg dksX3_phase_1 22 rfl rfl
theorem dX3_phase_0 : decode cX3_phase 0 = .ok (.aload_n 0, 1) := dk_42 (dk_at dksX3_phase_0 0 rfl rfl)
theorem dX3_phase_1 : decode cX3_phase 1 = .ok (.iconst 0, 1) := dk_3 (dk_at dksX3_phase_0 1 rfl rfl)
theorem dX3_phase_2 : decode cX3_phase 2 = .ok (.putfield 63, 3) := dk_181 0 63 (dk_at dksX3_phase_0 2 rfl rfl)
theorem dX3_phase_5 : decode cX3_phase 5 = .ok (.aload_n 0, 1) := dk_42 (dk_at dksX3_phase_0 5 rfl rfl)
theorem dX3_phase_6 : decode cX3_phase 6 = .ok (.iload_n 1, 1) := dk_27 (dk_at dksX3_phase_0 6 rfl rfl)
theorem dX3_phase_7 : decode cX3_phase 7 = .ok (.invokevirtual 82, 3) := dk_182 0 82 (dk_at dksX3_phase_0 7 rfl rfl)
theorem dX3_phase_10 : decode cX3_phase 10 = .ok (.ifCond .eq 27, 3) := dk_153 0 27 (dk_at dksX3_phase_0 10 rfl rfl)
theorem dX3_phase_13 : decode cX3_phase 13 = .ok (.aload_n 0, 1) := dk_42 (dk_at dksX3_phase_0 13 rfl rfl)
theorem dX3_phase_14 : decode cX3_phase 14 = .ok (.getfield 7, 3) := dk_180 0 7 (dk_at dksX3_phase_0 14 rfl rfl)
theorem dX3_phase_17 : decode cX3_phase 17 = .ok (.bipush 32, 2) := dk_16 32 (dk_at dksX3_phase_0 17 rfl rfl)
theorem dX3_phase_19 : decode cX3_phase 19 = .ok (.iload_n 1, 1) := dk_27 (dk_at dksX3_phase_0 19 rfl rfl)
theorem dX3_phase_20 : decode cX3_phase 20 = .ok (.invokestatic 71, 3) := dk_184 0 71 (dk_at dksX3_phase_0 20 rfl rfl)
theorem dX3_phase_23 : decode cX3_phase 23 = .ok (.iadd, 1) := dk_96 (dk_at dksX3_phase_0 23 rfl rfl)
theorem dX3_phase_24 : decode cX3_phase 24 = .ok (.iaload, 1) := dk_46 (dk_at dksX3_phase_1 0 rfl rfl)
theorem dX3_phase_25 : decode cX3_phase 25 = .ok (.iload_n 1, 1) := dk_27 (dk_at dksX3_phase_1 1 rfl rfl)
theorem dX3_phase_26 : decode cX3_phase 26 = .ok (.ifCond .le 7, 3) := dk_158 0 7 (dk_at dksX3_phase_1 2 rfl rfl)
theorem dX3_phase_29 : decode cX3_phase 29 = .ok (.iconst 1, 1) := dk_4 (dk_at dksX3_phase_1 5 rfl rfl)
theorem dX3_phase_30 : decode cX3_phase 30 = .ok (.goto 4, 3) := dk_167 0 4 (dk_at dksX3_phase_1 6 rfl rfl)
theorem dX3_phase_33 : decode cX3_phase 33 = .ok (.iconst 0, 1) := dk_3 (dk_at dksX3_phase_1 9 rfl rfl)
theorem dX3_phase_34 : decode cX3_phase 34 = .ok (.if_icmp .ne 5, 3) := dk_160 0 5 (dk_at dksX3_phase_1 10 rfl rfl)
theorem dX3_phase_37 : decode cX3_phase 37 = .ok (.iconst 0, 1) := dk_3 (dk_at dksX3_phase_1 13 rfl rfl)
theorem dX3_phase_38 : decode cX3_phase 38 = .ok (.ireturn, 1) := dk_172 (dk_at dksX3_phase_1 14 rfl rfl)
theorem dX3_phase_39 : decode cX3_phase 39 = .ok (.aload_n 0, 1) := dk_42 (dk_at dksX3_phase_1 15 rfl rfl)
theorem dX3_phase_40 : decode cX3_phase 40 = .ok (.getfield 7, 3) := dk_180 0 7 (dk_at dksX3_phase_1 16 rfl rfl)
theorem dX3_phase_43 : decode cX3_phase 43 = .ok (.bipush 32, 2) := dk_16 32 (dk_at dksX3_phase_1 19 rfl rfl)
theorem dX3_phase_45 : decode cX3_phase 45 = .ok (.iload_n 1, 1) := dk_27 (dk_at dksX3_phase_1 21 rfl rfl)
theorem dX3_phase_46 : decode cX3_phase 46 = .ok (.invokestatic 71, 3) := dk_184 0 71 (dk_at dksX3_phase_2 0 rfl rfl)
theorem dX3_phase_49 : decode cX3_phase 49 = .ok (.iadd, 1) := dk_96 (dk_at dksX3_phase_2 3 rfl rfl)
theorem dX3_phase_50 : decode cX3_phase 50 = .ok (.iload_n 1, 1) := dk_27 (dk_at dksX3_phase_2 4 rfl rfl)
theorem dX3_phase_51 : decode cX3_phase 51 = .ok (.ifCond .le 7, 3) := dk_158 0 7 (dk_at dksX3_phase_2 5 rfl rfl)
theorem dX3_phase_54 : decode cX3_phase 54 = .ok (.iconst 1, 1) := dk_4 (dk_at dksX3_phase_2 8 rfl rfl)
theorem dX3_phase_55 : decode cX3_phase 55 = .ok (.goto 4, 3) := dk_167 0 4 (dk_at dksX3_phase_2 9 rfl rfl)
theorem dX3_phase_58 : decode cX3_phase 58 = .ok (.iconst 0, 1) := dk_3 (dk_at dksX3_phase_2 12 rfl rfl)
theorem dX3_phase_59 : decode cX3_phase 59 = .ok (.iastore, 1) := dk_79 (dk_at dksX3_phase_2 13 rfl rfl)
theorem dX3_phase_60 : decode cX3_phase 60 = .ok (.iconst 1, 1) := dk_4 (dk_at dksX3_phase_2 14 rfl rfl)
theorem dX3_phase_61 : decode cX3_phase 61 = .ok (.ireturn, 1) := dk_172 (dk_at dksX3_phase_2 15 rfl rfl)
abbrev cX3_unit : ByteArray := prog_13_method_20_code
def yX3_unit : MethodName := ⟨RX3, "unit", "(I)Z"⟩
def dkwX3_unit_1 : List UInt8 := [160, 0, 5, 3, 172, 42, 180, 0, 7, 8, 27, 79, 4, 172]
abbrev dktX3_unit_1 : List UInt8 := dkwX3_unit_1 ++ []
def dkwX3_unit_0 : List UInt8 := [42, 3, 181, 0, 63, 27, 3, 16, 50, 184, 0, 67, 153, 0, 13, 42, 180, 0, 7, 8, 46, 27]
abbrev dktX3_unit_0 : List UInt8 := dkwX3_unit_0 ++ dktX3_unit_1
theorem dksX3_unit_0 : cX3_unit.data.toList.drop 0 = dktX3_unit_0 := by decide +kernel
theorem dksX3_unit_1 : cX3_unit.data.toList.drop 22 = dktX3_unit_1 := dk_seg dksX3_unit_0 22 rfl rfl
theorem dX3_unit_0 : decode cX3_unit 0 = .ok (.aload_n 0, 1) := dk_42 (dk_at dksX3_unit_0 0 rfl rfl)
theorem dX3_unit_1 : decode cX3_unit 1 = .ok (.iconst 0, 1) := dk_3 (dk_at dksX3_unit_0 1 rfl rfl)
theorem dX3_unit_2 : decode cX3_unit 2 = .ok (.putfield 63, 3) := dk_181 0 63 (dk_at dksX3_unit_0 2 rfl rfl)
theorem dX3_unit_5 : decode cX3_unit 5 = .ok (.iload_n 1, 1) := dk_27 (dk_at dksX3_unit_0 5 rfl rfl)
theorem dX3_unit_6 : decode cX3_unit 6 = .ok (.iconst 0, 1) := dk_3 (dk_at dksX3_unit_0 6 rfl rfl)
theorem dX3_unit_7 : decode cX3_unit 7 = .ok (.bipush 50, 2) := dk_16 50 (dk_at dksX3_unit_0 7 rfl rfl)
theorem dX3_unit_9 : decode cX3_unit 9 = .ok (.invokestatic 67, 3) := dk_184 0 67 (dk_at dksX3_unit_0 9 rfl rfl)
theorem dX3_unit_12 : decode cX3_unit 12 = .ok (.ifCond .eq 13, 3) := dk_153 0 13 (dk_at dksX3_unit_0 12 rfl rfl)
theorem dX3_unit_15 : decode cX3_unit 15 = .ok (.aload_n 0, 1) := dk_42 (dk_at dksX3_unit_0 15 rfl rfl)
theorem dX3_unit_16 : decode cX3_unit 16 = .ok (.getfield 7, 3) := dk_180 0 7 (dk_at dksX3_unit_0 16 rfl rfl)
theorem dX3_unit_19 : decode cX3_unit 19 = .ok (.iconst 5, 1) := dk_8 (dk_at dksX3_unit_0 19 rfl rfl)
theorem dX3_unit_20 : decode cX3_unit 20 = .ok (.iaload, 1) := dk_46 (dk_at dksX3_unit_0 20 rfl rfl)
theorem dX3_unit_21 : decode cX3_unit 21 = .ok (.iload_n 1, 1) := dk_27 (dk_at dksX3_unit_0 21 rfl rfl)
theorem dX3_unit_22 : decode cX3_unit 22 = .ok (.if_icmp .ne 5, 3) := dk_160 0 5 (dk_at dksX3_unit_1 0 rfl rfl)
theorem dX3_unit_25 : decode cX3_unit 25 = .ok (.iconst 0, 1) := dk_3 (dk_at dksX3_unit_1 3 rfl rfl)
theorem dX3_unit_26 : decode cX3_unit 26 = .ok (.ireturn, 1) := dk_172 (dk_at dksX3_unit_1 4 rfl rfl)
theorem dX3_unit_27 : decode cX3_unit 27 = .ok (.aload_n 0, 1) := dk_42 (dk_at dksX3_unit_1 5 rfl rfl)
theorem dX3_unit_28 : decode cX3_unit 28 = .ok (.getfield 7, 3) := dk_180 0 7 (dk_at dksX3_unit_1 6 rfl rfl)
theorem dX3_unit_31 : decode cX3_unit 31 = .ok (.iconst 5, 1) := dk_8 (dk_at dksX3_unit_1 9 rfl rfl)
theorem dX3_unit_32 : decode cX3_unit 32 = .ok (.iload_n 1, 1) := dk_27 (dk_at dksX3_unit_1 10 rfl rfl)
theorem dX3_unit_33 : decode cX3_unit 33 = .ok (.iastore, 1) := dk_79 (dk_at dksX3_unit_1 11 rfl rfl)
theorem dX3_unit_34 : decode cX3_unit 34 = .ok (.iconst 1, 1) := dk_4 (dk_at dksX3_unit_1 12 rfl rfl)
theorem dX3_unit_35 : decode cX3_unit 35 = .ok (.ireturn, 1) := dk_172 (dk_at dksX3_unit_1 13 rfl rfl)
abbrev cX3_forget : ByteArray := prog_13_method_21_code
def yX3_forget : MethodName := ⟨RX3, "forget", "(I)I"⟩
def dkwX3_forget_3 : List UInt8 := [128, 79, 132, 2, 1, 132, 3, 1, 167, 255, 198, 28, 172]
abbrev dktX3_forget_3 : List UInt8 := dkwX3_forget_3 ++ []
def dkwX3_forget_2 : List UInt8 := [42, 29, 182, 0, 99, 27, 163, 0, 6, 167, 0, 20, 42, 180, 0, 7, 17, 2, 13, 29, 96, 92, 46, 5]
abbrev dktX3_forget_2 : List UInt8 := dkwX3_forget_2 ++ dktX3_forget_3
def dkwX3_forget_1 : List UInt8 := [180, 0, 7, 4, 46, 162, 0, 54, 42, 29, 182, 0, 93, 153, 0, 40, 42, 29, 182, 0, 96, 154, 0, 32]
abbrev dktX3_forget_1 : List UInt8 := dkwX3_forget_1 ++ dktX3_forget_2
def dkwX3_forget_0 : List UInt8 := [42, 3, 181, 0, 63, 27, 4, 16, 30, 184, 0, 67, 154, 0, 5, 2, 172, 3, 61, 3, 62, 29, 42]
abbrev dktX3_forget_0 : List UInt8 := dkwX3_forget_0 ++ dktX3_forget_1
theorem dksX3_forget_0 : cX3_forget.data.toList.drop 0 = dktX3_forget_0 := by decide +kernel
theorem dksX3_forget_1 : cX3_forget.data.toList.drop 23 = dktX3_forget_1 := dk_seg dksX3_forget_0 23 rfl rfl
theorem dksX3_forget_2 : cX3_forget.data.toList.drop 47 = dktX3_forget_2 := dk_seg dksX3_forget_1 24 rfl rfl
theorem dksX3_forget_3 : cX3_forget.data.toList.drop 71 = dktX3_forget_3 := dk_seg dksX3_forget_2 24 rfl rfl
theorem dX3_forget_0 : decode cX3_forget 0 = .ok (.aload_n 0, 1) := dk_42 (dk_at dksX3_forget_0 0 rfl rfl)
theorem dX3_forget_1 : decode cX3_forget 1 = .ok (.iconst 0, 1) := dk_3 (dk_at dksX3_forget_0 1 rfl rfl)
theorem dX3_forget_2 : decode cX3_forget 2 = .ok (.putfield 63, 3) := dk_181 0 63 (dk_at dksX3_forget_0 2 rfl rfl)
theorem dX3_forget_5 : decode cX3_forget 5 = .ok (.iload_n 1, 1) := dk_27 (dk_at dksX3_forget_0 5 rfl rfl)
theorem dX3_forget_6 : decode cX3_forget 6 = .ok (.iconst 1, 1) := dk_4 (dk_at dksX3_forget_0 6 rfl rfl)
theorem dX3_forget_7 : decode cX3_forget 7 = .ok (.bipush 30, 2) := dk_16 30 (dk_at dksX3_forget_0 7 rfl rfl)
theorem dX3_forget_9 : decode cX3_forget 9 = .ok (.invokestatic 67, 3) := dk_184 0 67 (dk_at dksX3_forget_0 9 rfl rfl)
theorem dX3_forget_12 : decode cX3_forget 12 = .ok (.ifCond .ne 5, 3) := dk_154 0 5 (dk_at dksX3_forget_0 12 rfl rfl)
theorem dX3_forget_15 : decode cX3_forget 15 = .ok (.iconst (-1), 1) := dk_2 (dk_at dksX3_forget_0 15 rfl rfl)
theorem dX3_forget_16 : decode cX3_forget 16 = .ok (.ireturn, 1) := dk_172 (dk_at dksX3_forget_0 16 rfl rfl)
theorem dX3_forget_17 : decode cX3_forget 17 = .ok (.iconst 0, 1) := dk_3 (dk_at dksX3_forget_0 17 rfl rfl)
theorem dX3_forget_18 : decode cX3_forget 18 = .ok (.istore_n 2, 1) := dk_61 (dk_at dksX3_forget_0 18 rfl rfl)
theorem dX3_forget_19 : decode cX3_forget 19 = .ok (.iconst 0, 1) := dk_3 (dk_at dksX3_forget_0 19 rfl rfl)
theorem dX3_forget_20 : decode cX3_forget 20 = .ok (.istore_n 3, 1) := dk_62 (dk_at dksX3_forget_0 20 rfl rfl)
theorem dX3_forget_21 : decode cX3_forget 21 = .ok (.iload_n 3, 1) := dk_29 (dk_at dksX3_forget_0 21 rfl rfl)
theorem dX3_forget_22 : decode cX3_forget 22 = .ok (.aload_n 0, 1) := dk_42 (dk_at dksX3_forget_0 22 rfl rfl)
theorem dX3_forget_23 : decode cX3_forget 23 = .ok (.getfield 7, 3) := dk_180 0 7 (dk_at dksX3_forget_1 0 rfl rfl)
theorem dX3_forget_26 : decode cX3_forget 26 = .ok (.iconst 1, 1) := dk_4 (dk_at dksX3_forget_1 3 rfl rfl)
theorem dX3_forget_27 : decode cX3_forget 27 = .ok (.iaload, 1) := dk_46 (dk_at dksX3_forget_1 4 rfl rfl)
theorem dX3_forget_28 : decode cX3_forget 28 = .ok (.if_icmp .ge 54, 3) := dk_162 0 54 (dk_at dksX3_forget_1 5 rfl rfl)
theorem dX3_forget_31 : decode cX3_forget 31 = .ok (.aload_n 0, 1) := dk_42 (dk_at dksX3_forget_1 8 rfl rfl)
theorem dX3_forget_32 : decode cX3_forget 32 = .ok (.iload_n 3, 1) := dk_29 (dk_at dksX3_forget_1 9 rfl rfl)
theorem dX3_forget_33 : decode cX3_forget 33 = .ok (.invokevirtual 93, 3) := dk_182 0 93 (dk_at dksX3_forget_1 10 rfl rfl)
theorem dX3_forget_36 : decode cX3_forget 36 = .ok (.ifCond .eq 40, 3) := dk_153 0 40 (dk_at dksX3_forget_1 13 rfl rfl)
theorem dX3_forget_39 : decode cX3_forget 39 = .ok (.aload_n 0, 1) := dk_42 (dk_at dksX3_forget_1 16 rfl rfl)
theorem dX3_forget_40 : decode cX3_forget 40 = .ok (.iload_n 3, 1) := dk_29 (dk_at dksX3_forget_1 17 rfl rfl)
theorem dX3_forget_41 : decode cX3_forget 41 = .ok (.invokevirtual 96, 3) := dk_182 0 96 (dk_at dksX3_forget_1 18 rfl rfl)
theorem dX3_forget_44 : decode cX3_forget 44 = .ok (.ifCond .ne 32, 3) := dk_154 0 32 (dk_at dksX3_forget_1 21 rfl rfl)
theorem dX3_forget_47 : decode cX3_forget 47 = .ok (.aload_n 0, 1) := dk_42 (dk_at dksX3_forget_2 0 rfl rfl)
theorem dX3_forget_48 : decode cX3_forget 48 = .ok (.iload_n 3, 1) := dk_29 (dk_at dksX3_forget_2 1 rfl rfl)
theorem dX3_forget_49 : decode cX3_forget 49 = .ok (.invokevirtual 99, 3) := dk_182 0 99 (dk_at dksX3_forget_2 2 rfl rfl)
theorem dX3_forget_52 : decode cX3_forget 52 = .ok (.iload_n 1, 1) := dk_27 (dk_at dksX3_forget_2 5 rfl rfl)
theorem dX3_forget_53 : decode cX3_forget 53 = .ok (.if_icmp .gt 6, 3) := dk_163 0 6 (dk_at dksX3_forget_2 6 rfl rfl)
theorem dX3_forget_56 : decode cX3_forget 56 = .ok (.goto 20, 3) := dk_167 0 20 (dk_at dksX3_forget_2 9 rfl rfl)
theorem dX3_forget_59 : decode cX3_forget 59 = .ok (.aload_n 0, 1) := dk_42 (dk_at dksX3_forget_2 12 rfl rfl)
theorem dX3_forget_60 : decode cX3_forget 60 = .ok (.getfield 7, 3) := dk_180 0 7 (dk_at dksX3_forget_2 13 rfl rfl)
theorem dX3_forget_63 : decode cX3_forget 63 = .ok (.sipush 525, 3) := dk_17 2 13 (dk_at dksX3_forget_2 16 rfl rfl)
theorem dX3_forget_66 : decode cX3_forget 66 = .ok (.iload_n 3, 1) := dk_29 (dk_at dksX3_forget_2 19 rfl rfl)
theorem dX3_forget_67 : decode cX3_forget 67 = .ok (.iadd, 1) := dk_96 (dk_at dksX3_forget_2 20 rfl rfl)
theorem dX3_forget_68 : decode cX3_forget 68 = .ok (.dup2, 1) := dk_92 (dk_at dksX3_forget_2 21 rfl rfl)
theorem dX3_forget_69 : decode cX3_forget 69 = .ok (.iaload, 1) := dk_46 (dk_at dksX3_forget_2 22 rfl rfl)
theorem dX3_forget_70 : decode cX3_forget 70 = .ok (.iconst 2, 1) := dk_5 (dk_at dksX3_forget_2 23 rfl rfl)
theorem dX3_forget_71 : decode cX3_forget 71 = .ok (.ior, 1) := dk_128 (dk_at dksX3_forget_3 0 rfl rfl)
theorem dX3_forget_72 : decode cX3_forget 72 = .ok (.iastore, 1) := dk_79 (dk_at dksX3_forget_3 1 rfl rfl)
theorem dX3_forget_73 : decode cX3_forget 73 = .ok (.iinc 2 1, 3) := dk_132 2 1 (dk_at dksX3_forget_3 2 rfl rfl)
theorem dX3_forget_76 : decode cX3_forget 76 = .ok (.iinc 3 1, 3) := dk_132 3 1 (dk_at dksX3_forget_3 5 rfl rfl)
theorem dX3_forget_79 : decode cX3_forget 79 = .ok (.goto (-58), 3) := dk_167 255 198 (dk_at dksX3_forget_3 8 rfl rfl)
theorem dX3_forget_82 : decode cX3_forget 82 = .ok (.iload_n 2, 1) := dk_28 (dk_at dksX3_forget_3 11 rfl rfl)
theorem dX3_forget_83 : decode cX3_forget 83 = .ok (.ireturn, 1) := dk_172 (dk_at dksX3_forget_3 12 rfl rfl)
abbrev cX3_isLearnt : ByteArray := prog_13_method_10_code
def yX3_isLearnt : MethodName := ⟨RX3, "isLearnt", "(I)Z"⟩
def dkwX3_isLearnt_0 : List UInt8 := [42, 180, 0, 7, 17, 2, 13, 27, 96, 46, 4, 126, 153, 0, 7, 4, 167, 0, 4, 3, 172]
abbrev dktX3_isLearnt_0 : List UInt8 := dkwX3_isLearnt_0 ++ []
theorem dksX3_isLearnt_0 : cX3_isLearnt.data.toList.drop 0 = dktX3_isLearnt_0 := by decide +kernel
theorem dX3_isLearnt_0 : decode cX3_isLearnt 0 = .ok (.aload_n 0, 1) := dk_42 (dk_at dksX3_isLearnt_0 0 rfl rfl)
theorem dX3_isLearnt_1 : decode cX3_isLearnt 1 = .ok (.getfield 7, 3) := dk_180 0 7 (dk_at dksX3_isLearnt_0 1 rfl rfl)
theorem dX3_isLearnt_4 : decode cX3_isLearnt 4 = .ok (.sipush 525, 3) := dk_17 2 13 (dk_at dksX3_isLearnt_0 4 rfl rfl)
theorem dX3_isLearnt_7 : decode cX3_isLearnt 7 = .ok (.iload_n 1, 1) := dk_27 (dk_at dksX3_isLearnt_0 7 rfl rfl)
theorem dX3_isLearnt_8 : decode cX3_isLearnt 8 = .ok (.iadd, 1) := dk_96 (dk_at dksX3_isLearnt_0 8 rfl rfl)
theorem dX3_isLearnt_9 : decode cX3_isLearnt 9 = .ok (.iaload, 1) := dk_46 (dk_at dksX3_isLearnt_0 9 rfl rfl)
theorem dX3_isLearnt_10 : decode cX3_isLearnt 10 = .ok (.iconst 1, 1) := dk_4 (dk_at dksX3_isLearnt_0 10 rfl rfl)
theorem dX3_isLearnt_11 : decode cX3_isLearnt 11 = .ok (.iand, 1) := dk_126 (dk_at dksX3_isLearnt_0 11 rfl rfl)
theorem dX3_isLearnt_12 : decode cX3_isLearnt 12 = .ok (.ifCond .eq 7, 3) := dk_153 0 7 (dk_at dksX3_isLearnt_0 12 rfl rfl)
theorem dX3_isLearnt_15 : decode cX3_isLearnt 15 = .ok (.iconst 1, 1) := dk_4 (dk_at dksX3_isLearnt_0 15 rfl rfl)
theorem dX3_isLearnt_16 : decode cX3_isLearnt 16 = .ok (.goto 4, 3) := dk_167 0 4 (dk_at dksX3_isLearnt_0 16 rfl rfl)
theorem dX3_isLearnt_19 : decode cX3_isLearnt 19 = .ok (.iconst 0, 1) := dk_3 (dk_at dksX3_isLearnt_0 19 rfl rfl)
theorem dX3_isLearnt_20 : decode cX3_isLearnt 20 = .ok (.ireturn, 1) := dk_172 (dk_at dksX3_isLearnt_0 20 rfl rfl)
abbrev cX3_isGone : ByteArray := prog_13_method_9_code
def yX3_isGone : MethodName := ⟨RX3, "isGone", "(I)Z"⟩
def dkwX3_isGone_0 : List UInt8 := [42, 180, 0, 7, 17, 2, 13, 27, 96, 46, 5, 126, 153, 0, 7, 4, 167, 0, 4, 3, 172]
abbrev dktX3_isGone_0 : List UInt8 := dkwX3_isGone_0 ++ []
theorem dksX3_isGone_0 : cX3_isGone.data.toList.drop 0 = dktX3_isGone_0 := by decide +kernel
theorem dX3_isGone_0 : decode cX3_isGone 0 = .ok (.aload_n 0, 1) := dk_42 (dk_at dksX3_isGone_0 0 rfl rfl)
theorem dX3_isGone_1 : decode cX3_isGone 1 = .ok (.getfield 7, 3) := dk_180 0 7 (dk_at dksX3_isGone_0 1 rfl rfl)
theorem dX3_isGone_4 : decode cX3_isGone 4 = .ok (.sipush 525, 3) := dk_17 2 13 (dk_at dksX3_isGone_0 4 rfl rfl)
theorem dX3_isGone_7 : decode cX3_isGone 7 = .ok (.iload_n 1, 1) := dk_27 (dk_at dksX3_isGone_0 7 rfl rfl)
theorem dX3_isGone_8 : decode cX3_isGone 8 = .ok (.iadd, 1) := dk_96 (dk_at dksX3_isGone_0 8 rfl rfl)
theorem dX3_isGone_9 : decode cX3_isGone 9 = .ok (.iaload, 1) := dk_46 (dk_at dksX3_isGone_0 9 rfl rfl)
theorem dX3_isGone_10 : decode cX3_isGone 10 = .ok (.iconst 2, 1) := dk_5 (dk_at dksX3_isGone_0 10 rfl rfl)
theorem dX3_isGone_11 : decode cX3_isGone 11 = .ok (.iand, 1) := dk_126 (dk_at dksX3_isGone_0 11 rfl rfl)
theorem dX3_isGone_12 : decode cX3_isGone 12 = .ok (.ifCond .eq 7, 3) := dk_153 0 7 (dk_at dksX3_isGone_0 12 rfl rfl)
theorem dX3_isGone_15 : decode cX3_isGone 15 = .ok (.iconst 1, 1) := dk_4 (dk_at dksX3_isGone_0 15 rfl rfl)
theorem dX3_isGone_16 : decode cX3_isGone 16 = .ok (.goto 4, 3) := dk_167 0 4 (dk_at dksX3_isGone_0 16 rfl rfl)
theorem dX3_isGone_19 : decode cX3_isGone 19 = .ok (.iconst 0, 1) := dk_3 (dk_at dksX3_isGone_0 19 rfl rfl)
theorem dX3_isGone_20 : decode cX3_isGone 20 = .ok (.ireturn, 1) := dk_172 (dk_at dksX3_isGone_0 20 rfl rfl)
abbrev cX3_sizeOf : ByteArray := prog_13_method_8_code
def yX3_sizeOf : MethodName := ⟨RX3, "sizeOf", "(I)I"⟩
def dkwX3_sizeOf_0 : List UInt8 := [42, 180, 0, 7, 16, 125, 27, 96, 46, 172]
abbrev dktX3_sizeOf_0 : List UInt8 := dkwX3_sizeOf_0 ++ []
theorem dksX3_sizeOf_0 : cX3_sizeOf.data.toList.drop 0 = dktX3_sizeOf_0 := by decide +kernel
theorem dX3_sizeOf_0 : decode cX3_sizeOf 0 = .ok (.aload_n 0, 1) := dk_42 (dk_at dksX3_sizeOf_0 0 rfl rfl)
theorem dX3_sizeOf_1 : decode cX3_sizeOf 1 = .ok (.getfield 7, 3) := dk_180 0 7 (dk_at dksX3_sizeOf_0 1 rfl rfl)
theorem dX3_sizeOf_4 : decode cX3_sizeOf 4 = .ok (.bipush 125, 2) := dk_16 125 (dk_at dksX3_sizeOf_0 4 rfl rfl)
theorem dX3_sizeOf_6 : decode cX3_sizeOf 6 = .ok (.iload_n 1, 1) := dk_27 (dk_at dksX3_sizeOf_0 6 rfl rfl)
theorem dX3_sizeOf_7 : decode cX3_sizeOf 7 = .ok (.iadd, 1) := dk_96 (dk_at dksX3_sizeOf_0 7 rfl rfl)
theorem dX3_sizeOf_8 : decode cX3_sizeOf 8 = .ok (.iaload, 1) := dk_46 (dk_at dksX3_sizeOf_0 8 rfl rfl)
theorem dX3_sizeOf_9 : decode cX3_sizeOf 9 = .ok (.ireturn, 1) := dk_172 (dk_at dksX3_sizeOf_0 9 rfl rfl)
abbrev cX3_keep : ByteArray := prog_13_method_22_code
def yX3_keep : MethodName := ⟨RX3, "keep", "(I)Z"⟩
def dkwX3_keep_2 : List UInt8 := [167, 255, 228, 42, 180, 0, 19, 27, 4, 84, 4, 172]
abbrev dktX3_keep_2 : List UInt8 := dkwX3_keep_2 ++ []
def dkwX3_keep_1 : List UInt8 := [162, 0, 27, 42, 180, 0, 16, 17, 52, 14, 27, 104, 28, 96, 42, 180, 0, 7, 28, 46, 79, 132, 2, 1]
abbrev dktX3_keep_1 : List UInt8 := dkwX3_keep_1 ++ dktX3_keep_2
def dkwX3_keep_0 : List UInt8 := [42, 3, 181, 0, 63, 27, 3, 4, 184, 0, 67, 154, 0, 5, 3, 172, 3, 61, 28, 17, 52, 14]
abbrev dktX3_keep_0 : List UInt8 := dkwX3_keep_0 ++ dktX3_keep_1
theorem dksX3_keep_0 : cX3_keep.data.toList.drop 0 = dktX3_keep_0 := by decide +kernel
theorem dksX3_keep_1 : cX3_keep.data.toList.drop 22 = dktX3_keep_1 := dk_seg dksX3_keep_0 22 rfl rfl
theorem dksX3_keep_2 : cX3_keep.data.toList.drop 46 = dktX3_keep_2 := dk_seg dksX3_keep_1 24 rfl rfl
theorem dX3_keep_0 : decode cX3_keep 0 = .ok (.aload_n 0, 1) := dk_42 (dk_at dksX3_keep_0 0 rfl rfl)
theorem dX3_keep_1 : decode cX3_keep 1 = .ok (.iconst 0, 1) := dk_3 (dk_at dksX3_keep_0 1 rfl rfl)
theorem dX3_keep_2 : decode cX3_keep 2 = .ok (.putfield 63, 3) := dk_181 0 63 (dk_at dksX3_keep_0 2 rfl rfl)
theorem dX3_keep_5 : decode cX3_keep 5 = .ok (.iload_n 1, 1) := dk_27 (dk_at dksX3_keep_0 5 rfl rfl)
theorem dX3_keep_6 : decode cX3_keep 6 = .ok (.iconst 0, 1) := dk_3 (dk_at dksX3_keep_0 6 rfl rfl)
theorem dX3_keep_7 : decode cX3_keep 7 = .ok (.iconst 1, 1) := dk_4 (dk_at dksX3_keep_0 7 rfl rfl)
theorem dX3_keep_8 : decode cX3_keep 8 = .ok (.invokestatic 67, 3) := dk_184 0 67 (dk_at dksX3_keep_0 8 rfl rfl)
theorem dX3_keep_11 : decode cX3_keep 11 = .ok (.ifCond .ne 5, 3) := dk_154 0 5 (dk_at dksX3_keep_0 11 rfl rfl)
theorem dX3_keep_14 : decode cX3_keep 14 = .ok (.iconst 0, 1) := dk_3 (dk_at dksX3_keep_0 14 rfl rfl)
theorem dX3_keep_15 : decode cX3_keep 15 = .ok (.ireturn, 1) := dk_172 (dk_at dksX3_keep_0 15 rfl rfl)
theorem dX3_keep_16 : decode cX3_keep 16 = .ok (.iconst 0, 1) := dk_3 (dk_at dksX3_keep_0 16 rfl rfl)
theorem dX3_keep_17 : decode cX3_keep 17 = .ok (.istore_n 2, 1) := dk_61 (dk_at dksX3_keep_0 17 rfl rfl)
theorem dX3_keep_18 : decode cX3_keep 18 = .ok (.iload_n 2, 1) := dk_28 (dk_at dksX3_keep_0 18 rfl rfl)
theorem dX3_keep_19 : decode cX3_keep 19 = .ok (.sipush 13326, 3) := dk_17 52 14 (dk_at dksX3_keep_0 19 rfl rfl)
theorem dX3_keep_22 : decode cX3_keep 22 = .ok (.if_icmp .ge 27, 3) := dk_162 0 27 (dk_at dksX3_keep_1 0 rfl rfl)
theorem dX3_keep_25 : decode cX3_keep 25 = .ok (.aload_n 0, 1) := dk_42 (dk_at dksX3_keep_1 3 rfl rfl)
theorem dX3_keep_26 : decode cX3_keep 26 = .ok (.getfield 16, 3) := dk_180 0 16 (dk_at dksX3_keep_1 4 rfl rfl)
theorem dX3_keep_29 : decode cX3_keep 29 = .ok (.sipush 13326, 3) := dk_17 52 14 (dk_at dksX3_keep_1 7 rfl rfl)
theorem dX3_keep_32 : decode cX3_keep 32 = .ok (.iload_n 1, 1) := dk_27 (dk_at dksX3_keep_1 10 rfl rfl)
theorem dX3_keep_33 : decode cX3_keep 33 = .ok (.imul, 1) := dk_104 (dk_at dksX3_keep_1 11 rfl rfl)
theorem dX3_keep_34 : decode cX3_keep 34 = .ok (.iload_n 2, 1) := dk_28 (dk_at dksX3_keep_1 12 rfl rfl)
theorem dX3_keep_35 : decode cX3_keep 35 = .ok (.iadd, 1) := dk_96 (dk_at dksX3_keep_1 13 rfl rfl)
theorem dX3_keep_36 : decode cX3_keep 36 = .ok (.aload_n 0, 1) := dk_42 (dk_at dksX3_keep_1 14 rfl rfl)
theorem dX3_keep_37 : decode cX3_keep 37 = .ok (.getfield 7, 3) := dk_180 0 7 (dk_at dksX3_keep_1 15 rfl rfl)
theorem dX3_keep_40 : decode cX3_keep 40 = .ok (.iload_n 2, 1) := dk_28 (dk_at dksX3_keep_1 18 rfl rfl)
theorem dX3_keep_41 : decode cX3_keep 41 = .ok (.iaload, 1) := dk_46 (dk_at dksX3_keep_1 19 rfl rfl)
theorem dX3_keep_42 : decode cX3_keep 42 = .ok (.iastore, 1) := dk_79 (dk_at dksX3_keep_1 20 rfl rfl)
theorem dX3_keep_43 : decode cX3_keep 43 = .ok (.iinc 2 1, 3) := dk_132 2 1 (dk_at dksX3_keep_1 21 rfl rfl)
theorem dX3_keep_46 : decode cX3_keep 46 = .ok (.goto (-28), 3) := dk_167 255 228 (dk_at dksX3_keep_2 0 rfl rfl)
theorem dX3_keep_49 : decode cX3_keep 49 = .ok (.aload_n 0, 1) := dk_42 (dk_at dksX3_keep_2 3 rfl rfl)
theorem dX3_keep_50 : decode cX3_keep 50 = .ok (.getfield 19, 3) := dk_180 0 19 (dk_at dksX3_keep_2 4 rfl rfl)
theorem dX3_keep_53 : decode cX3_keep 53 = .ok (.iload_n 1, 1) := dk_27 (dk_at dksX3_keep_2 7 rfl rfl)
theorem dX3_keep_54 : decode cX3_keep 54 = .ok (.iconst 1, 1) := dk_4 (dk_at dksX3_keep_2 8 rfl rfl)
theorem dX3_keep_55 : decode cX3_keep 55 = .ok (.bastore, 1) := dk_84 (dk_at dksX3_keep_2 9 rfl rfl)
theorem dX3_keep_56 : decode cX3_keep 56 = .ok (.iconst 1, 1) := dk_4 (dk_at dksX3_keep_2 10 rfl rfl)
theorem dX3_keep_57 : decode cX3_keep 57 = .ok (.ireturn, 1) := dk_172 (dk_at dksX3_keep_2 11 rfl rfl)
abbrev cX3_back : ByteArray := prog_13_method_23_code
def yX3_back : MethodName := ⟨RX3, "back", "(I)Z"⟩
def dkwX3_back_2 : List UInt8 := [28, 96, 46, 79, 132, 2, 1, 167, 255, 228, 4, 172]
abbrev dktX3_back_2 : List UInt8 := dkwX3_back_2 ++ []
def dkwX3_back_1 : List UInt8 := [172, 3, 61, 28, 17, 52, 14, 162, 0, 27, 42, 180, 0, 7, 28, 42, 180, 0, 16, 17, 52, 14, 27, 104]
abbrev dktX3_back_1 : List UInt8 := dkwX3_back_1 ++ dktX3_back_2
def dkwX3_back_0 : List UInt8 := [42, 3, 181, 0, 63, 27, 3, 4, 184, 0, 67, 153, 0, 12, 42, 180, 0, 19, 27, 51, 154, 0, 5, 3]
abbrev dktX3_back_0 : List UInt8 := dkwX3_back_0 ++ dktX3_back_1
theorem dksX3_back_0 : cX3_back.data.toList.drop 0 = dktX3_back_0 := by decide +kernel
theorem dksX3_back_1 : cX3_back.data.toList.drop 24 = dktX3_back_1 := dk_seg dksX3_back_0 24 rfl rfl
theorem dksX3_back_2 : cX3_back.data.toList.drop 48 = dktX3_back_2 := dk_seg dksX3_back_1 24 rfl rfl
theorem dX3_back_0 : decode cX3_back 0 = .ok (.aload_n 0, 1) := dk_42 (dk_at dksX3_back_0 0 rfl rfl)
theorem dX3_back_1 : decode cX3_back 1 = .ok (.iconst 0, 1) := dk_3 (dk_at dksX3_back_0 1 rfl rfl)
theorem dX3_back_2 : decode cX3_back 2 = .ok (.putfield 63, 3) := dk_181 0 63 (dk_at dksX3_back_0 2 rfl rfl)
theorem dX3_back_5 : decode cX3_back 5 = .ok (.iload_n 1, 1) := dk_27 (dk_at dksX3_back_0 5 rfl rfl)
theorem dX3_back_6 : decode cX3_back 6 = .ok (.iconst 0, 1) := dk_3 (dk_at dksX3_back_0 6 rfl rfl)
theorem dX3_back_7 : decode cX3_back 7 = .ok (.iconst 1, 1) := dk_4 (dk_at dksX3_back_0 7 rfl rfl)
theorem dX3_back_8 : decode cX3_back 8 = .ok (.invokestatic 67, 3) := dk_184 0 67 (dk_at dksX3_back_0 8 rfl rfl)
theorem dX3_back_11 : decode cX3_back 11 = .ok (.ifCond .eq 12, 3) := dk_153 0 12 (dk_at dksX3_back_0 11 rfl rfl)
theorem dX3_back_14 : decode cX3_back 14 = .ok (.aload_n 0, 1) := dk_42 (dk_at dksX3_back_0 14 rfl rfl)
theorem dX3_back_15 : decode cX3_back 15 = .ok (.getfield 19, 3) := dk_180 0 19 (dk_at dksX3_back_0 15 rfl rfl)
theorem dX3_back_18 : decode cX3_back 18 = .ok (.iload_n 1, 1) := dk_27 (dk_at dksX3_back_0 18 rfl rfl)
theorem dX3_back_19 : decode cX3_back 19 = .ok (.baload, 1) := dk_51 (dk_at dksX3_back_0 19 rfl rfl)
theorem dX3_back_20 : decode cX3_back 20 = .ok (.ifCond .ne 5, 3) := dk_154 0 5 (dk_at dksX3_back_0 20 rfl rfl)
theorem dX3_back_23 : decode cX3_back 23 = .ok (.iconst 0, 1) := dk_3 (dk_at dksX3_back_0 23 rfl rfl)
theorem dX3_back_24 : decode cX3_back 24 = .ok (.ireturn, 1) := dk_172 (dk_at dksX3_back_1 0 rfl rfl)
theorem dX3_back_25 : decode cX3_back 25 = .ok (.iconst 0, 1) := dk_3 (dk_at dksX3_back_1 1 rfl rfl)
theorem dX3_back_26 : decode cX3_back 26 = .ok (.istore_n 2, 1) := dk_61 (dk_at dksX3_back_1 2 rfl rfl)
theorem dX3_back_27 : decode cX3_back 27 = .ok (.iload_n 2, 1) := dk_28 (dk_at dksX3_back_1 3 rfl rfl)
theorem dX3_back_28 : decode cX3_back 28 = .ok (.sipush 13326, 3) := dk_17 52 14 (dk_at dksX3_back_1 4 rfl rfl)
theorem dX3_back_31 : decode cX3_back 31 = .ok (.if_icmp .ge 27, 3) := dk_162 0 27 (dk_at dksX3_back_1 7 rfl rfl)
theorem dX3_back_34 : decode cX3_back 34 = .ok (.aload_n 0, 1) := dk_42 (dk_at dksX3_back_1 10 rfl rfl)
theorem dX3_back_35 : decode cX3_back 35 = .ok (.getfield 7, 3) := dk_180 0 7 (dk_at dksX3_back_1 11 rfl rfl)
theorem dX3_back_38 : decode cX3_back 38 = .ok (.iload_n 2, 1) := dk_28 (dk_at dksX3_back_1 14 rfl rfl)
theorem dX3_back_39 : decode cX3_back 39 = .ok (.aload_n 0, 1) := dk_42 (dk_at dksX3_back_1 15 rfl rfl)
theorem dX3_back_40 : decode cX3_back 40 = .ok (.getfield 16, 3) := dk_180 0 16 (dk_at dksX3_back_1 16 rfl rfl)
theorem dX3_back_43 : decode cX3_back 43 = .ok (.sipush 13326, 3) := dk_17 52 14 (dk_at dksX3_back_1 19 rfl rfl)
theorem dX3_back_46 : decode cX3_back 46 = .ok (.iload_n 1, 1) := dk_27 (dk_at dksX3_back_1 22 rfl rfl)
theorem dX3_back_47 : decode cX3_back 47 = .ok (.imul, 1) := dk_104 (dk_at dksX3_back_1 23 rfl rfl)
theorem dX3_back_48 : decode cX3_back 48 = .ok (.iload_n 2, 1) := dk_28 (dk_at dksX3_back_2 0 rfl rfl)
theorem dX3_back_49 : decode cX3_back 49 = .ok (.iadd, 1) := dk_96 (dk_at dksX3_back_2 1 rfl rfl)
theorem dX3_back_50 : decode cX3_back 50 = .ok (.iaload, 1) := dk_46 (dk_at dksX3_back_2 2 rfl rfl)
theorem dX3_back_51 : decode cX3_back 51 = .ok (.iastore, 1) := dk_79 (dk_at dksX3_back_2 3 rfl rfl)
theorem dX3_back_52 : decode cX3_back 52 = .ok (.iinc 2 1, 3) := dk_132 2 1 (dk_at dksX3_back_2 4 rfl rfl)
theorem dX3_back_55 : decode cX3_back 55 = .ok (.goto (-28), 3) := dk_167 255 228 (dk_at dksX3_back_2 7 rfl rfl)
theorem dX3_back_58 : decode cX3_back 58 = .ok (.iconst 1, 1) := dk_4 (dk_at dksX3_back_2 10 rfl rfl)
theorem dX3_back_59 : decode cX3_back 59 = .ok (.ireturn, 1) := dk_172 (dk_at dksX3_back_2 11 rfl rfl)
abbrev cX3_solve : ByteArray := prog_13_method_46_code
def yX3_solve : MethodName := ⟨RX3, "solve", "(I)I"⟩
def dkwX3_solve_3 : List UInt8 := [182, 0, 186, 61, 167, 255, 245, 28, 172]
abbrev dktX3_solve_3 : List UInt8 := dkwX3_solve_3 ++ []
def dkwX3_solve_2 : List UInt8 := [180, 0, 7, 16, 7, 46, 4, 160, 0, 8, 42, 182, 0, 153, 172, 2, 61, 28, 2, 160, 0, 12, 42, 27]
abbrev dktX3_solve_2 : List UInt8 := dkwX3_solve_2 ++ dktX3_solve_3
def dkwX3_solve_1 : List UInt8 := [181, 0, 159, 42, 3, 181, 0, 141, 42, 3, 181, 0, 144, 42, 180, 0, 7, 16, 13, 2, 79, 42]
abbrev dktX3_solve_1 : List UInt8 := dkwX3_solve_1 ++ dktX3_solve_2
def dkwX3_solve_0 : List UInt8 := [42, 3, 181, 0, 63, 27, 4, 17, 0, 200, 184, 0, 67, 154, 0, 5, 2, 172, 42, 182, 0, 183, 42, 3]
abbrev dktX3_solve_0 : List UInt8 := dkwX3_solve_0 ++ dktX3_solve_1
theorem dksX3_solve_0 : cX3_solve.data.toList.drop 0 = dktX3_solve_0 := by decide +kernel
theorem dksX3_solve_1 : cX3_solve.data.toList.drop 24 = dktX3_solve_1 := dk_seg dksX3_solve_0 24 rfl rfl
theorem dksX3_solve_2 : cX3_solve.data.toList.drop 46 = dktX3_solve_2 := dk_seg dksX3_solve_1 22 rfl rfl
theorem dksX3_solve_3 : cX3_solve.data.toList.drop 70 = dktX3_solve_3 := dk_seg dksX3_solve_2 24 rfl rfl
theorem dX3_solve_0 : decode cX3_solve 0 = .ok (.aload_n 0, 1) := dk_42 (dk_at dksX3_solve_0 0 rfl rfl)
theorem dX3_solve_1 : decode cX3_solve 1 = .ok (.iconst 0, 1) := dk_3 (dk_at dksX3_solve_0 1 rfl rfl)
theorem dX3_solve_2 : decode cX3_solve 2 = .ok (.putfield 63, 3) := dk_181 0 63 (dk_at dksX3_solve_0 2 rfl rfl)
theorem dX3_solve_5 : decode cX3_solve 5 = .ok (.iload_n 1, 1) := dk_27 (dk_at dksX3_solve_0 5 rfl rfl)
theorem dX3_solve_6 : decode cX3_solve 6 = .ok (.iconst 1, 1) := dk_4 (dk_at dksX3_solve_0 6 rfl rfl)
theorem dX3_solve_7 : decode cX3_solve 7 = .ok (.sipush 200, 3) := dk_17 0 200 (dk_at dksX3_solve_0 7 rfl rfl)
theorem dX3_solve_10 : decode cX3_solve 10 = .ok (.invokestatic 67, 3) := dk_184 0 67 (dk_at dksX3_solve_0 10 rfl rfl)
theorem dX3_solve_13 : decode cX3_solve 13 = .ok (.ifCond .ne 5, 3) := dk_154 0 5 (dk_at dksX3_solve_0 13 rfl rfl)
theorem dX3_solve_16 : decode cX3_solve 16 = .ok (.iconst (-1), 1) := dk_2 (dk_at dksX3_solve_0 16 rfl rfl)
theorem dX3_solve_17 : decode cX3_solve 17 = .ok (.ireturn, 1) := dk_172 (dk_at dksX3_solve_0 17 rfl rfl)
theorem dX3_solve_18 : decode cX3_solve 18 = .ok (.aload_n 0, 1) := dk_42 (dk_at dksX3_solve_0 18 rfl rfl)
theorem dX3_solve_19 : decode cX3_solve 19 = .ok (.invokevirtual 183, 3) := dk_182 0 183 (dk_at dksX3_solve_0 19 rfl rfl)
theorem dX3_solve_22 : decode cX3_solve 22 = .ok (.aload_n 0, 1) := dk_42 (dk_at dksX3_solve_0 22 rfl rfl)
theorem dX3_solve_23 : decode cX3_solve 23 = .ok (.iconst 0, 1) := dk_3 (dk_at dksX3_solve_0 23 rfl rfl)
theorem dX3_solve_24 : decode cX3_solve 24 = .ok (.putfield 159, 3) := dk_181 0 159 (dk_at dksX3_solve_1 0 rfl rfl)
theorem dX3_solve_27 : decode cX3_solve 27 = .ok (.aload_n 0, 1) := dk_42 (dk_at dksX3_solve_1 3 rfl rfl)
theorem dX3_solve_28 : decode cX3_solve 28 = .ok (.iconst 0, 1) := dk_3 (dk_at dksX3_solve_1 4 rfl rfl)
theorem dX3_solve_29 : decode cX3_solve 29 = .ok (.putfield 141, 3) := dk_181 0 141 (dk_at dksX3_solve_1 5 rfl rfl)
theorem dX3_solve_32 : decode cX3_solve 32 = .ok (.aload_n 0, 1) := dk_42 (dk_at dksX3_solve_1 8 rfl rfl)
theorem dX3_solve_33 : decode cX3_solve 33 = .ok (.iconst 0, 1) := dk_3 (dk_at dksX3_solve_1 9 rfl rfl)
theorem dX3_solve_34 : decode cX3_solve 34 = .ok (.putfield 144, 3) := dk_181 0 144 (dk_at dksX3_solve_1 10 rfl rfl)
theorem dX3_solve_37 : decode cX3_solve 37 = .ok (.aload_n 0, 1) := dk_42 (dk_at dksX3_solve_1 13 rfl rfl)
theorem dX3_solve_38 : decode cX3_solve 38 = .ok (.getfield 7, 3) := dk_180 0 7 (dk_at dksX3_solve_1 14 rfl rfl)
theorem dX3_solve_41 : decode cX3_solve 41 = .ok (.bipush 13, 2) := dk_16 13 (dk_at dksX3_solve_1 17 rfl rfl)
theorem dX3_solve_43 : decode cX3_solve 43 = .ok (.iconst (-1), 1) := dk_2 (dk_at dksX3_solve_1 19 rfl rfl)
theorem dX3_solve_44 : decode cX3_solve 44 = .ok (.iastore, 1) := dk_79 (dk_at dksX3_solve_1 20 rfl rfl)
theorem dX3_solve_45 : decode cX3_solve 45 = .ok (.aload_n 0, 1) := dk_42 (dk_at dksX3_solve_1 21 rfl rfl)
theorem dX3_solve_46 : decode cX3_solve 46 = .ok (.getfield 7, 3) := dk_180 0 7 (dk_at dksX3_solve_2 0 rfl rfl)
theorem dX3_solve_49 : decode cX3_solve 49 = .ok (.bipush 7, 2) := dk_16 7 (dk_at dksX3_solve_2 3 rfl rfl)
theorem dX3_solve_51 : decode cX3_solve 51 = .ok (.iaload, 1) := dk_46 (dk_at dksX3_solve_2 5 rfl rfl)
theorem dX3_solve_52 : decode cX3_solve 52 = .ok (.iconst 1, 1) := dk_4 (dk_at dksX3_solve_2 6 rfl rfl)
theorem dX3_solve_53 : decode cX3_solve 53 = .ok (.if_icmp .ne 8, 3) := dk_160 0 8 (dk_at dksX3_solve_2 7 rfl rfl)
theorem dX3_solve_56 : decode cX3_solve 56 = .ok (.aload_n 0, 1) := dk_42 (dk_at dksX3_solve_2 10 rfl rfl)
theorem dX3_solve_57 : decode cX3_solve 57 = .ok (.invokevirtual 153, 3) := dk_182 0 153 (dk_at dksX3_solve_2 11 rfl rfl)
theorem dX3_solve_60 : decode cX3_solve 60 = .ok (.ireturn, 1) := dk_172 (dk_at dksX3_solve_2 14 rfl rfl)
theorem dX3_solve_61 : decode cX3_solve 61 = .ok (.iconst (-1), 1) := dk_2 (dk_at dksX3_solve_2 15 rfl rfl)
theorem dX3_solve_62 : decode cX3_solve 62 = .ok (.istore_n 2, 1) := dk_61 (dk_at dksX3_solve_2 16 rfl rfl)
theorem dX3_solve_63 : decode cX3_solve 63 = .ok (.iload_n 2, 1) := dk_28 (dk_at dksX3_solve_2 17 rfl rfl)
theorem dX3_solve_64 : decode cX3_solve 64 = .ok (.iconst (-1), 1) := dk_2 (dk_at dksX3_solve_2 18 rfl rfl)
theorem dX3_solve_65 : decode cX3_solve 65 = .ok (.if_icmp .ne 12, 3) := dk_160 0 12 (dk_at dksX3_solve_2 19 rfl rfl)
theorem dX3_solve_68 : decode cX3_solve 68 = .ok (.aload_n 0, 1) := dk_42 (dk_at dksX3_solve_2 22 rfl rfl)
theorem dX3_solve_69 : decode cX3_solve 69 = .ok (.iload_n 1, 1) := dk_27 (dk_at dksX3_solve_2 23 rfl rfl)
theorem dX3_solve_70 : decode cX3_solve 70 = .ok (.invokevirtual 186, 3) := dk_182 0 186 (dk_at dksX3_solve_3 0 rfl rfl)
theorem dX3_solve_73 : decode cX3_solve 73 = .ok (.istore_n 2, 1) := dk_61 (dk_at dksX3_solve_3 3 rfl rfl)
theorem dX3_solve_74 : decode cX3_solve 74 = .ok (.goto (-11), 3) := dk_167 255 245 (dk_at dksX3_solve_3 4 rfl rfl)
theorem dX3_solve_77 : decode cX3_solve 77 = .ok (.iload_n 2, 1) := dk_28 (dk_at dksX3_solve_3 7 rfl rfl)
theorem dX3_solve_78 : decode cX3_solve 78 = .ok (.ireturn, 1) := dk_172 (dk_at dksX3_solve_3 8 rfl rfl)
abbrev cX3_empties : ByteArray := prog_13_method_24_code
def yX3_empties : MethodName := ⟨RX3, "empties", "()V"⟩
def dkwX3_empties_1 : List UInt8 := [79, 132, 1, 1, 167, 255, 240, 177]
abbrev dktX3_empties_1 : List UInt8 := dkwX3_empties_1 ++ []
def dkwX3_empties_0 : List UInt8 := [42, 3, 181, 0, 102, 42, 3, 181, 0, 105, 3, 60, 27, 16, 30, 163, 0, 16, 42, 180, 0, 23, 27, 3]
abbrev dktX3_empties_0 : List UInt8 := dkwX3_empties_0 ++ dktX3_empties_1
theorem dksX3_empties_0 : cX3_empties.data.toList.drop 0 = dktX3_empties_0 := by decide +kernel
theorem dksX3_empties_1 : cX3_empties.data.toList.drop 24 = dktX3_empties_1 := dk_seg dksX3_empties_0 24 rfl rfl
theorem dX3_empties_0 : decode cX3_empties 0 = .ok (.aload_n 0, 1) := dk_42 (dk_at dksX3_empties_0 0 rfl rfl)
theorem dX3_empties_1 : decode cX3_empties 1 = .ok (.iconst 0, 1) := dk_3 (dk_at dksX3_empties_0 1 rfl rfl)
theorem dX3_empties_2 : decode cX3_empties 2 = .ok (.putfield 102, 3) := dk_181 0 102 (dk_at dksX3_empties_0 2 rfl rfl)
theorem dX3_empties_5 : decode cX3_empties 5 = .ok (.aload_n 0, 1) := dk_42 (dk_at dksX3_empties_0 5 rfl rfl)
theorem dX3_empties_6 : decode cX3_empties 6 = .ok (.iconst 0, 1) := dk_3 (dk_at dksX3_empties_0 6 rfl rfl)
theorem dX3_empties_7 : decode cX3_empties 7 = .ok (.putfield 105, 3) := dk_181 0 105 (dk_at dksX3_empties_0 7 rfl rfl)
theorem dX3_empties_10 : decode cX3_empties 10 = .ok (.iconst 0, 1) := dk_3 (dk_at dksX3_empties_0 10 rfl rfl)
theorem dX3_empties_11 : decode cX3_empties 11 = .ok (.istore_n 1, 1) := dk_60 (dk_at dksX3_empties_0 11 rfl rfl)
theorem dX3_empties_12 : decode cX3_empties 12 = .ok (.iload_n 1, 1) := dk_27 (dk_at dksX3_empties_0 12 rfl rfl)
theorem dX3_empties_13 : decode cX3_empties 13 = .ok (.bipush 30, 2) := dk_16 30 (dk_at dksX3_empties_0 13 rfl rfl)
theorem dX3_empties_15 : decode cX3_empties 15 = .ok (.if_icmp .gt 16, 3) := dk_163 0 16 (dk_at dksX3_empties_0 15 rfl rfl)
theorem dX3_empties_18 : decode cX3_empties 18 = .ok (.aload_n 0, 1) := dk_42 (dk_at dksX3_empties_0 18 rfl rfl)
theorem dX3_empties_19 : decode cX3_empties 19 = .ok (.getfield 23, 3) := dk_180 0 23 (dk_at dksX3_empties_0 19 rfl rfl)
theorem dX3_empties_22 : decode cX3_empties 22 = .ok (.iload_n 1, 1) := dk_27 (dk_at dksX3_empties_0 22 rfl rfl)
theorem dX3_empties_23 : decode cX3_empties 23 = .ok (.iconst 0, 1) := dk_3 (dk_at dksX3_empties_0 23 rfl rfl)
theorem dX3_empties_24 : decode cX3_empties 24 = .ok (.iastore, 1) := dk_79 (dk_at dksX3_empties_1 0 rfl rfl)
theorem dX3_empties_25 : decode cX3_empties 25 = .ok (.iinc 1 1, 3) := dk_132 1 1 (dk_at dksX3_empties_1 1 rfl rfl)
theorem dX3_empties_28 : decode cX3_empties 28 = .ok (.goto (-16), 3) := dk_167 255 240 (dk_at dksX3_empties_1 4 rfl rfl)
theorem dX3_empties_31 : decode cX3_empties 31 = .ok (.return_, 1) := dk_177 (dk_at dksX3_empties_1 7 rfl rfl)
abbrev cX3_refuted : ByteArray := prog_13_method_39_code
def yX3_refuted : MethodName := ⟨RX3, "refuted", "()I"⟩
def dkwX3_refuted_2 : List UInt8 := [16, 6, 92, 46, 4, 96, 79, 42, 3, 182, 0, 147, 172]
abbrev dktX3_refuted_2 : List UInt8 := dkwX3_refuted_2 ++ []
def dkwX3_refuted_1 : List UInt8 := [4, 79, 42, 180, 0, 7, 17, 3, 157, 42, 180, 0, 7, 16, 6, 46, 96, 2, 79, 42, 180, 0, 7]
abbrev dktX3_refuted_1 : List UInt8 := dkwX3_refuted_1 ++ dktX3_refuted_2
def dkwX3_refuted_0 : List UInt8 := [42, 180, 0, 7, 16, 13, 3, 79, 42, 180, 0, 7, 16, 7, 46, 154, 0, 39, 42, 180, 0, 7, 16, 7]
abbrev dktX3_refuted_0 : List UInt8 := dkwX3_refuted_0 ++ dktX3_refuted_1
theorem dksX3_refuted_0 : cX3_refuted.data.toList.drop 0 = dktX3_refuted_0 := by decide +kernel
theorem dksX3_refuted_1 : cX3_refuted.data.toList.drop 24 = dktX3_refuted_1 := dk_seg dksX3_refuted_0 24 rfl rfl
theorem dksX3_refuted_2 : cX3_refuted.data.toList.drop 47 = dktX3_refuted_2 := dk_seg dksX3_refuted_1 23 rfl rfl
theorem dX3_refuted_0 : decode cX3_refuted 0 = .ok (.aload_n 0, 1) := dk_42 (dk_at dksX3_refuted_0 0 rfl rfl)
theorem dX3_refuted_1 : decode cX3_refuted 1 = .ok (.getfield 7, 3) := dk_180 0 7 (dk_at dksX3_refuted_0 1 rfl rfl)
theorem dX3_refuted_4 : decode cX3_refuted 4 = .ok (.bipush 13, 2) := dk_16 13 (dk_at dksX3_refuted_0 4 rfl rfl)
theorem dX3_refuted_6 : decode cX3_refuted 6 = .ok (.iconst 0, 1) := dk_3 (dk_at dksX3_refuted_0 6 rfl rfl)
theorem dX3_refuted_7 : decode cX3_refuted 7 = .ok (.iastore, 1) := dk_79 (dk_at dksX3_refuted_0 7 rfl rfl)
theorem dX3_refuted_8 : decode cX3_refuted 8 = .ok (.aload_n 0, 1) := dk_42 (dk_at dksX3_refuted_0 8 rfl rfl)
theorem dX3_refuted_9 : decode cX3_refuted 9 = .ok (.getfield 7, 3) := dk_180 0 7 (dk_at dksX3_refuted_0 9 rfl rfl)
theorem dX3_refuted_12 : decode cX3_refuted 12 = .ok (.bipush 7, 2) := dk_16 7 (dk_at dksX3_refuted_0 12 rfl rfl)
theorem dX3_refuted_14 : decode cX3_refuted 14 = .ok (.iaload, 1) := dk_46 (dk_at dksX3_refuted_0 14 rfl rfl)
theorem dX3_refuted_15 : decode cX3_refuted 15 = .ok (.ifCond .ne 39, 3) := dk_154 0 39 (dk_at dksX3_refuted_0 15 rfl rfl)
theorem dX3_refuted_18 : decode cX3_refuted 18 = .ok (.aload_n 0, 1) := dk_42 (dk_at dksX3_refuted_0 18 rfl rfl)
theorem dX3_refuted_19 : decode cX3_refuted 19 = .ok (.getfield 7, 3) := dk_180 0 7 (dk_at dksX3_refuted_0 19 rfl rfl)
theorem dX3_refuted_22 : decode cX3_refuted 22 = .ok (.bipush 7, 2) := dk_16 7 (dk_at dksX3_refuted_0 22 rfl rfl)
theorem dX3_refuted_24 : decode cX3_refuted 24 = .ok (.iconst 1, 1) := dk_4 (dk_at dksX3_refuted_1 0 rfl rfl)
theorem dX3_refuted_25 : decode cX3_refuted 25 = .ok (.iastore, 1) := dk_79 (dk_at dksX3_refuted_1 1 rfl rfl)
theorem dX3_refuted_26 : decode cX3_refuted 26 = .ok (.aload_n 0, 1) := dk_42 (dk_at dksX3_refuted_1 2 rfl rfl)
theorem dX3_refuted_27 : decode cX3_refuted 27 = .ok (.getfield 7, 3) := dk_180 0 7 (dk_at dksX3_refuted_1 3 rfl rfl)
theorem dX3_refuted_30 : decode cX3_refuted 30 = .ok (.sipush 925, 3) := dk_17 3 157 (dk_at dksX3_refuted_1 6 rfl rfl)
theorem dX3_refuted_33 : decode cX3_refuted 33 = .ok (.aload_n 0, 1) := dk_42 (dk_at dksX3_refuted_1 9 rfl rfl)
theorem dX3_refuted_34 : decode cX3_refuted 34 = .ok (.getfield 7, 3) := dk_180 0 7 (dk_at dksX3_refuted_1 10 rfl rfl)
theorem dX3_refuted_37 : decode cX3_refuted 37 = .ok (.bipush 6, 2) := dk_16 6 (dk_at dksX3_refuted_1 13 rfl rfl)
theorem dX3_refuted_39 : decode cX3_refuted 39 = .ok (.iaload, 1) := dk_46 (dk_at dksX3_refuted_1 15 rfl rfl)
theorem dX3_refuted_40 : decode cX3_refuted 40 = .ok (.iadd, 1) := dk_96 (dk_at dksX3_refuted_1 16 rfl rfl)
theorem dX3_refuted_41 : decode cX3_refuted 41 = .ok (.iconst (-1), 1) := dk_2 (dk_at dksX3_refuted_1 17 rfl rfl)
theorem dX3_refuted_42 : decode cX3_refuted 42 = .ok (.iastore, 1) := dk_79 (dk_at dksX3_refuted_1 18 rfl rfl)
theorem dX3_refuted_43 : decode cX3_refuted 43 = .ok (.aload_n 0, 1) := dk_42 (dk_at dksX3_refuted_1 19 rfl rfl)
theorem dX3_refuted_44 : decode cX3_refuted 44 = .ok (.getfield 7, 3) := dk_180 0 7 (dk_at dksX3_refuted_1 20 rfl rfl)
theorem dX3_refuted_47 : decode cX3_refuted 47 = .ok (.bipush 6, 2) := dk_16 6 (dk_at dksX3_refuted_2 0 rfl rfl)
theorem dX3_refuted_49 : decode cX3_refuted 49 = .ok (.dup2, 1) := dk_92 (dk_at dksX3_refuted_2 2 rfl rfl)
theorem dX3_refuted_50 : decode cX3_refuted 50 = .ok (.iaload, 1) := dk_46 (dk_at dksX3_refuted_2 3 rfl rfl)
theorem dX3_refuted_51 : decode cX3_refuted 51 = .ok (.iconst 1, 1) := dk_4 (dk_at dksX3_refuted_2 4 rfl rfl)
theorem dX3_refuted_52 : decode cX3_refuted 52 = .ok (.iadd, 1) := dk_96 (dk_at dksX3_refuted_2 5 rfl rfl)
theorem dX3_refuted_53 : decode cX3_refuted 53 = .ok (.iastore, 1) := dk_79 (dk_at dksX3_refuted_2 6 rfl rfl)
theorem dX3_refuted_54 : decode cX3_refuted 54 = .ok (.aload_n 0, 1) := dk_42 (dk_at dksX3_refuted_2 7 rfl rfl)
theorem dX3_refuted_55 : decode cX3_refuted 55 = .ok (.iconst 0, 1) := dk_3 (dk_at dksX3_refuted_2 8 rfl rfl)
theorem dX3_refuted_56 : decode cX3_refuted 56 = .ok (.invokevirtual 147, 3) := dk_182 0 147 (dk_at dksX3_refuted_2 9 rfl rfl)
theorem dX3_refuted_59 : decode cX3_refuted 59 = .ok (.ireturn, 1) := dk_172 (dk_at dksX3_refuted_2 12 rfl rfl)
abbrev cX3_ends : ByteArray := prog_13_method_38_code
def yX3_ends : MethodName := ⟨RX3, "ends", "(I)I"⟩
def dkwX3_ends_3 : List UInt8 := [79, 27, 172]
abbrev dktX3_ends_3 : List UInt8 := dkwX3_ends_3 ++ []
def dkwX3_ends_2 : List UInt8 := [180, 0, 7, 16, 14, 42, 180, 0, 7, 3, 46, 79, 42, 2, 182, 0, 131, 42, 180, 0, 7, 16, 12, 27]
abbrev dktX3_ends_2 : List UInt8 := dkwX3_ends_2 ++ dktX3_ends_3
def dkwX3_ends_1 : List UInt8 := [96, 42, 180, 0, 23, 28, 46, 158, 0, 7, 4, 167, 0, 4, 3, 79, 132, 2, 1, 167, 255, 220, 42]
abbrev dktX3_ends_1 : List UInt8 := dkwX3_ends_1 ++ dktX3_ends_2
def dkwX3_ends_0 : List UInt8 := [27, 4, 160, 0, 57, 4, 61, 28, 42, 180, 0, 7, 3, 46, 163, 0, 32, 42, 180, 0, 7, 16, 94, 28]
abbrev dktX3_ends_0 : List UInt8 := dkwX3_ends_0 ++ dktX3_ends_1
theorem dksX3_ends_0 : cX3_ends.data.toList.drop 0 = dktX3_ends_0 := by decide +kernel
theorem dksX3_ends_1 : cX3_ends.data.toList.drop 24 = dktX3_ends_1 := dk_seg dksX3_ends_0 24 rfl rfl
theorem dksX3_ends_2 : cX3_ends.data.toList.drop 47 = dktX3_ends_2 := dk_seg dksX3_ends_1 23 rfl rfl
theorem dksX3_ends_3 : cX3_ends.data.toList.drop 71 = dktX3_ends_3 := dk_seg dksX3_ends_2 24 rfl rfl
theorem dX3_ends_0 : decode cX3_ends 0 = .ok (.iload_n 1, 1) := dk_27 (dk_at dksX3_ends_0 0 rfl rfl)
theorem dX3_ends_1 : decode cX3_ends 1 = .ok (.iconst 1, 1) := dk_4 (dk_at dksX3_ends_0 1 rfl rfl)
theorem dX3_ends_2 : decode cX3_ends 2 = .ok (.if_icmp .ne 57, 3) := dk_160 0 57 (dk_at dksX3_ends_0 2 rfl rfl)
theorem dX3_ends_5 : decode cX3_ends 5 = .ok (.iconst 1, 1) := dk_4 (dk_at dksX3_ends_0 5 rfl rfl)
theorem dX3_ends_6 : decode cX3_ends 6 = .ok (.istore_n 2, 1) := dk_61 (dk_at dksX3_ends_0 6 rfl rfl)
theorem dX3_ends_7 : decode cX3_ends 7 = .ok (.iload_n 2, 1) := dk_28 (dk_at dksX3_ends_0 7 rfl rfl)
theorem dX3_ends_8 : decode cX3_ends 8 = .ok (.aload_n 0, 1) := dk_42 (dk_at dksX3_ends_0 8 rfl rfl)
theorem dX3_ends_9 : decode cX3_ends 9 = .ok (.getfield 7, 3) := dk_180 0 7 (dk_at dksX3_ends_0 9 rfl rfl)
theorem dX3_ends_12 : decode cX3_ends 12 = .ok (.iconst 0, 1) := dk_3 (dk_at dksX3_ends_0 12 rfl rfl)
theorem dX3_ends_13 : decode cX3_ends 13 = .ok (.iaload, 1) := dk_46 (dk_at dksX3_ends_0 13 rfl rfl)
theorem dX3_ends_14 : decode cX3_ends 14 = .ok (.if_icmp .gt 32, 3) := dk_163 0 32 (dk_at dksX3_ends_0 14 rfl rfl)
theorem dX3_ends_17 : decode cX3_ends 17 = .ok (.aload_n 0, 1) := dk_42 (dk_at dksX3_ends_0 17 rfl rfl)
theorem dX3_ends_18 : decode cX3_ends 18 = .ok (.getfield 7, 3) := dk_180 0 7 (dk_at dksX3_ends_0 18 rfl rfl)
theorem dX3_ends_21 : decode cX3_ends 21 = .ok (.bipush 94, 2) := dk_16 94 (dk_at dksX3_ends_0 21 rfl rfl)
theorem dX3_ends_23 : decode cX3_ends 23 = .ok (.iload_n 2, 1) := dk_28 (dk_at dksX3_ends_0 23 rfl rfl)
theorem dX3_ends_24 : decode cX3_ends 24 = .ok (.iadd, 1) := dk_96 (dk_at dksX3_ends_1 0 rfl rfl)
theorem dX3_ends_25 : decode cX3_ends 25 = .ok (.aload_n 0, 1) := dk_42 (dk_at dksX3_ends_1 1 rfl rfl)
theorem dX3_ends_26 : decode cX3_ends 26 = .ok (.getfield 23, 3) := dk_180 0 23 (dk_at dksX3_ends_1 2 rfl rfl)
theorem dX3_ends_29 : decode cX3_ends 29 = .ok (.iload_n 2, 1) := dk_28 (dk_at dksX3_ends_1 5 rfl rfl)
theorem dX3_ends_30 : decode cX3_ends 30 = .ok (.iaload, 1) := dk_46 (dk_at dksX3_ends_1 6 rfl rfl)
theorem dX3_ends_31 : decode cX3_ends 31 = .ok (.ifCond .le 7, 3) := dk_158 0 7 (dk_at dksX3_ends_1 7 rfl rfl)
theorem dX3_ends_34 : decode cX3_ends 34 = .ok (.iconst 1, 1) := dk_4 (dk_at dksX3_ends_1 10 rfl rfl)
theorem dX3_ends_35 : decode cX3_ends 35 = .ok (.goto 4, 3) := dk_167 0 4 (dk_at dksX3_ends_1 11 rfl rfl)
theorem dX3_ends_38 : decode cX3_ends 38 = .ok (.iconst 0, 1) := dk_3 (dk_at dksX3_ends_1 14 rfl rfl)
theorem dX3_ends_39 : decode cX3_ends 39 = .ok (.iastore, 1) := dk_79 (dk_at dksX3_ends_1 15 rfl rfl)
theorem dX3_ends_40 : decode cX3_ends 40 = .ok (.iinc 2 1, 3) := dk_132 2 1 (dk_at dksX3_ends_1 16 rfl rfl)
theorem dX3_ends_43 : decode cX3_ends 43 = .ok (.goto (-36), 3) := dk_167 255 220 (dk_at dksX3_ends_1 19 rfl rfl)
theorem dX3_ends_46 : decode cX3_ends 46 = .ok (.aload_n 0, 1) := dk_42 (dk_at dksX3_ends_1 22 rfl rfl)
theorem dX3_ends_47 : decode cX3_ends 47 = .ok (.getfield 7, 3) := dk_180 0 7 (dk_at dksX3_ends_2 0 rfl rfl)
theorem dX3_ends_50 : decode cX3_ends 50 = .ok (.bipush 14, 2) := dk_16 14 (dk_at dksX3_ends_2 3 rfl rfl)
theorem dX3_ends_52 : decode cX3_ends 52 = .ok (.aload_n 0, 1) := dk_42 (dk_at dksX3_ends_2 5 rfl rfl)
theorem dX3_ends_53 : decode cX3_ends 53 = .ok (.getfield 7, 3) := dk_180 0 7 (dk_at dksX3_ends_2 6 rfl rfl)
theorem dX3_ends_56 : decode cX3_ends 56 = .ok (.iconst 0, 1) := dk_3 (dk_at dksX3_ends_2 9 rfl rfl)
theorem dX3_ends_57 : decode cX3_ends 57 = .ok (.iaload, 1) := dk_46 (dk_at dksX3_ends_2 10 rfl rfl)
theorem dX3_ends_58 : decode cX3_ends 58 = .ok (.iastore, 1) := dk_79 (dk_at dksX3_ends_2 11 rfl rfl)
theorem dX3_ends_59 : decode cX3_ends 59 = .ok (.aload_n 0, 1) := dk_42 (dk_at dksX3_ends_2 12 rfl rfl)
theorem dX3_ends_60 : decode cX3_ends 60 = .ok (.iconst (-1), 1) := dk_2 (dk_at dksX3_ends_2 13 rfl rfl)
theorem dX3_ends_61 : decode cX3_ends 61 = .ok (.invokevirtual 131, 3) := dk_182 0 131 (dk_at dksX3_ends_2 14 rfl rfl)
theorem dX3_ends_64 : decode cX3_ends 64 = .ok (.aload_n 0, 1) := dk_42 (dk_at dksX3_ends_2 17 rfl rfl)
theorem dX3_ends_65 : decode cX3_ends 65 = .ok (.getfield 7, 3) := dk_180 0 7 (dk_at dksX3_ends_2 18 rfl rfl)
theorem dX3_ends_68 : decode cX3_ends 68 = .ok (.bipush 12, 2) := dk_16 12 (dk_at dksX3_ends_2 21 rfl rfl)
theorem dX3_ends_70 : decode cX3_ends 70 = .ok (.iload_n 1, 1) := dk_27 (dk_at dksX3_ends_2 23 rfl rfl)
theorem dX3_ends_71 : decode cX3_ends 71 = .ok (.iastore, 1) := dk_79 (dk_at dksX3_ends_3 0 rfl rfl)
theorem dX3_ends_72 : decode cX3_ends 72 = .ok (.iload_n 1, 1) := dk_27 (dk_at dksX3_ends_3 1 rfl rfl)
theorem dX3_ends_73 : decode cX3_ends 73 = .ok (.ireturn, 1) := dk_172 (dk_at dksX3_ends_3 2 rfl rfl)
abbrev cX3_leaves : ByteArray := prog_13_method_27_code
def yX3_leaves : MethodName := ⟨RX3, "leaves", "(I)V"⟩
def dkwX3_leaves_4 : List UInt8 := [27, 181, 0, 105, 177]
abbrev dktX3_leaves_4 : List UInt8 := dkwX3_leaves_4 ++ []
def dkwX3_leaves_3 : List UInt8 := [3, 79, 42, 180, 0, 23, 28, 184, 0, 71, 3, 79, 167, 255, 175, 42, 27, 156, 0, 7, 3, 167, 0, 4]
abbrev dktX3_leaves_3 : List UInt8 := dkwX3_leaves_3 ++ dktX3_leaves_4
def dkwX3_leaves_2 : List UInt8 := [180, 0, 102, 46, 61, 42, 180, 0, 7, 16, 32, 28, 184, 0, 71, 96, 28, 158, 0, 7, 4, 167, 0, 4]
abbrev dktX3_leaves_2 : List UInt8 := dkwX3_leaves_2 ++ dktX3_leaves_3
def dkwX3_leaves_1 : List UInt8 := [184, 0, 71, 46, 27, 164, 0, 57, 42, 89, 180, 0, 102, 4, 100, 181, 0, 102, 42, 180, 0, 35, 42]
abbrev dktX3_leaves_1 : List UInt8 := dkwX3_leaves_1 ++ dktX3_leaves_2
def dkwX3_leaves_0 : List UInt8 := [42, 180, 0, 102, 158, 0, 80, 42, 180, 0, 26, 42, 180, 0, 35, 42, 180, 0, 102, 4, 100, 46]
abbrev dktX3_leaves_0 : List UInt8 := dkwX3_leaves_0 ++ dktX3_leaves_1
theorem dksX3_leaves_0 : cX3_leaves.data.toList.drop 0 = dktX3_leaves_0 := by decide +kernel
theorem dksX3_leaves_1 : cX3_leaves.data.toList.drop 22 = dktX3_leaves_1 := dk_seg dksX3_leaves_0 22 rfl rfl
theorem dksX3_leaves_2 : cX3_leaves.data.toList.drop 45 = dktX3_leaves_2 := dk_seg dksX3_leaves_1 23 rfl rfl
theorem dksX3_leaves_3 : cX3_leaves.data.toList.drop 69 = dktX3_leaves_3 := dk_seg dksX3_leaves_2 24 rfl rfl
theorem dksX3_leaves_4 : cX3_leaves.data.toList.drop 93 = dktX3_leaves_4 := dk_seg dksX3_leaves_3 24 rfl rfl
theorem dX3_leaves_0 : decode cX3_leaves 0 = .ok (.aload_n 0, 1) := dk_42 (dk_at dksX3_leaves_0 0 rfl rfl)
theorem dX3_leaves_1 : decode cX3_leaves 1 = .ok (.getfield 102, 3) := dk_180 0 102 (dk_at dksX3_leaves_0 1 rfl rfl)
theorem dX3_leaves_4 : decode cX3_leaves 4 = .ok (.ifCond .le 80, 3) := dk_158 0 80 (dk_at dksX3_leaves_0 4 rfl rfl)
theorem dX3_leaves_7 : decode cX3_leaves 7 = .ok (.aload_n 0, 1) := dk_42 (dk_at dksX3_leaves_0 7 rfl rfl)
theorem dX3_leaves_8 : decode cX3_leaves 8 = .ok (.getfield 26, 3) := dk_180 0 26 (dk_at dksX3_leaves_0 8 rfl rfl)
theorem dX3_leaves_11 : decode cX3_leaves 11 = .ok (.aload_n 0, 1) := dk_42 (dk_at dksX3_leaves_0 11 rfl rfl)
theorem dX3_leaves_12 : decode cX3_leaves 12 = .ok (.getfield 35, 3) := dk_180 0 35 (dk_at dksX3_leaves_0 12 rfl rfl)
theorem dX3_leaves_15 : decode cX3_leaves 15 = .ok (.aload_n 0, 1) := dk_42 (dk_at dksX3_leaves_0 15 rfl rfl)
theorem dX3_leaves_16 : decode cX3_leaves 16 = .ok (.getfield 102, 3) := dk_180 0 102 (dk_at dksX3_leaves_0 16 rfl rfl)
theorem dX3_leaves_19 : decode cX3_leaves 19 = .ok (.iconst 1, 1) := dk_4 (dk_at dksX3_leaves_0 19 rfl rfl)
theorem dX3_leaves_20 : decode cX3_leaves 20 = .ok (.isub, 1) := dk_100 (dk_at dksX3_leaves_0 20 rfl rfl)
theorem dX3_leaves_21 : decode cX3_leaves 21 = .ok (.iaload, 1) := dk_46 (dk_at dksX3_leaves_0 21 rfl rfl)
theorem dX3_leaves_22 : decode cX3_leaves 22 = .ok (.invokestatic 71, 3) := dk_184 0 71 (dk_at dksX3_leaves_1 0 rfl rfl)
theorem dX3_leaves_25 : decode cX3_leaves 25 = .ok (.iaload, 1) := dk_46 (dk_at dksX3_leaves_1 3 rfl rfl)
theorem dX3_leaves_26 : decode cX3_leaves 26 = .ok (.iload_n 1, 1) := dk_27 (dk_at dksX3_leaves_1 4 rfl rfl)
theorem dX3_leaves_27 : decode cX3_leaves 27 = .ok (.if_icmp .le 57, 3) := dk_164 0 57 (dk_at dksX3_leaves_1 5 rfl rfl)
theorem dX3_leaves_30 : decode cX3_leaves 30 = .ok (.aload_n 0, 1) := dk_42 (dk_at dksX3_leaves_1 8 rfl rfl)
theorem dX3_leaves_31 : decode cX3_leaves 31 = .ok (.dup, 1) := dk_89 (dk_at dksX3_leaves_1 9 rfl rfl)
theorem dX3_leaves_32 : decode cX3_leaves 32 = .ok (.getfield 102, 3) := dk_180 0 102 (dk_at dksX3_leaves_1 10 rfl rfl)
theorem dX3_leaves_35 : decode cX3_leaves 35 = .ok (.iconst 1, 1) := dk_4 (dk_at dksX3_leaves_1 13 rfl rfl)
theorem dX3_leaves_36 : decode cX3_leaves 36 = .ok (.isub, 1) := dk_100 (dk_at dksX3_leaves_1 14 rfl rfl)
theorem dX3_leaves_37 : decode cX3_leaves 37 = .ok (.putfield 102, 3) := dk_181 0 102 (dk_at dksX3_leaves_1 15 rfl rfl)
theorem dX3_leaves_40 : decode cX3_leaves 40 = .ok (.aload_n 0, 1) := dk_42 (dk_at dksX3_leaves_1 18 rfl rfl)
theorem dX3_leaves_41 : decode cX3_leaves 41 = .ok (.getfield 35, 3) := dk_180 0 35 (dk_at dksX3_leaves_1 19 rfl rfl)
theorem dX3_leaves_44 : decode cX3_leaves 44 = .ok (.aload_n 0, 1) := dk_42 (dk_at dksX3_leaves_1 22 rfl rfl)
theorem dX3_leaves_45 : decode cX3_leaves 45 = .ok (.getfield 102, 3) := dk_180 0 102 (dk_at dksX3_leaves_2 0 rfl rfl)
theorem dX3_leaves_48 : decode cX3_leaves 48 = .ok (.iaload, 1) := dk_46 (dk_at dksX3_leaves_2 3 rfl rfl)
theorem dX3_leaves_49 : decode cX3_leaves 49 = .ok (.istore_n 2, 1) := dk_61 (dk_at dksX3_leaves_2 4 rfl rfl)
theorem dX3_leaves_50 : decode cX3_leaves 50 = .ok (.aload_n 0, 1) := dk_42 (dk_at dksX3_leaves_2 5 rfl rfl)
theorem dX3_leaves_51 : decode cX3_leaves 51 = .ok (.getfield 7, 3) := dk_180 0 7 (dk_at dksX3_leaves_2 6 rfl rfl)
theorem dX3_leaves_54 : decode cX3_leaves 54 = .ok (.bipush 32, 2) := dk_16 32 (dk_at dksX3_leaves_2 9 rfl rfl)
theorem dX3_leaves_56 : decode cX3_leaves 56 = .ok (.iload_n 2, 1) := dk_28 (dk_at dksX3_leaves_2 11 rfl rfl)
theorem dX3_leaves_57 : decode cX3_leaves 57 = .ok (.invokestatic 71, 3) := dk_184 0 71 (dk_at dksX3_leaves_2 12 rfl rfl)
theorem dX3_leaves_60 : decode cX3_leaves 60 = .ok (.iadd, 1) := dk_96 (dk_at dksX3_leaves_2 15 rfl rfl)
theorem dX3_leaves_61 : decode cX3_leaves 61 = .ok (.iload_n 2, 1) := dk_28 (dk_at dksX3_leaves_2 16 rfl rfl)
theorem dX3_leaves_62 : decode cX3_leaves 62 = .ok (.ifCond .le 7, 3) := dk_158 0 7 (dk_at dksX3_leaves_2 17 rfl rfl)
theorem dX3_leaves_65 : decode cX3_leaves 65 = .ok (.iconst 1, 1) := dk_4 (dk_at dksX3_leaves_2 20 rfl rfl)
theorem dX3_leaves_66 : decode cX3_leaves 66 = .ok (.goto 4, 3) := dk_167 0 4 (dk_at dksX3_leaves_2 21 rfl rfl)
theorem dX3_leaves_69 : decode cX3_leaves 69 = .ok (.iconst 0, 1) := dk_3 (dk_at dksX3_leaves_3 0 rfl rfl)
theorem dX3_leaves_70 : decode cX3_leaves 70 = .ok (.iastore, 1) := dk_79 (dk_at dksX3_leaves_3 1 rfl rfl)
theorem dX3_leaves_71 : decode cX3_leaves 71 = .ok (.aload_n 0, 1) := dk_42 (dk_at dksX3_leaves_3 2 rfl rfl)
theorem dX3_leaves_72 : decode cX3_leaves 72 = .ok (.getfield 23, 3) := dk_180 0 23 (dk_at dksX3_leaves_3 3 rfl rfl)
theorem dX3_leaves_75 : decode cX3_leaves 75 = .ok (.iload_n 2, 1) := dk_28 (dk_at dksX3_leaves_3 6 rfl rfl)
theorem dX3_leaves_76 : decode cX3_leaves 76 = .ok (.invokestatic 71, 3) := dk_184 0 71 (dk_at dksX3_leaves_3 7 rfl rfl)
theorem dX3_leaves_79 : decode cX3_leaves 79 = .ok (.iconst 0, 1) := dk_3 (dk_at dksX3_leaves_3 10 rfl rfl)
theorem dX3_leaves_80 : decode cX3_leaves 80 = .ok (.iastore, 1) := dk_79 (dk_at dksX3_leaves_3 11 rfl rfl)
theorem dX3_leaves_81 : decode cX3_leaves 81 = .ok (.goto (-81), 3) := dk_167 255 175 (dk_at dksX3_leaves_3 12 rfl rfl)
theorem dX3_leaves_84 : decode cX3_leaves 84 = .ok (.aload_n 0, 1) := dk_42 (dk_at dksX3_leaves_3 15 rfl rfl)
theorem dX3_leaves_85 : decode cX3_leaves 85 = .ok (.iload_n 1, 1) := dk_27 (dk_at dksX3_leaves_3 16 rfl rfl)
theorem dX3_leaves_86 : decode cX3_leaves 86 = .ok (.ifCond .ge 7, 3) := dk_156 0 7 (dk_at dksX3_leaves_3 17 rfl rfl)
theorem dX3_leaves_89 : decode cX3_leaves 89 = .ok (.iconst 0, 1) := dk_3 (dk_at dksX3_leaves_3 20 rfl rfl)
theorem dX3_leaves_90 : decode cX3_leaves 90 = .ok (.goto 4, 3) := dk_167 0 4 (dk_at dksX3_leaves_3 21 rfl rfl)
theorem dX3_leaves_93 : decode cX3_leaves 93 = .ok (.iload_n 1, 1) := dk_27 (dk_at dksX3_leaves_4 0 rfl rfl)
theorem dX3_leaves_94 : decode cX3_leaves 94 = .ok (.putfield 105, 3) := dk_181 0 105 (dk_at dksX3_leaves_4 1 rfl rfl)
theorem dX3_leaves_97 : decode cX3_leaves 97 = .ok (.return_, 1) := dk_177 (dk_at dksX3_leaves_4 4 rfl rfl)
abbrev cX3_step : ByteArray := prog_13_method_45_code
def yX3_step : MethodName := ⟨RX3, "step", "(I)I"⟩
def dkwX3_step_7 : List UInt8 := [16, 32, 21, 4, 96, 46, 4, 160, 0, 8, 21, 4, 167, 0, 6, 21, 4, 116, 2, 182, 0, 135, 2, 172]
abbrev dktX3_step_7 : List UInt8 := dkwX3_step_7 ++ []
def dkwX3_step_6 : List UInt8 := [180, 0, 105, 4, 96, 181, 0, 105, 42, 180, 0, 7, 16, 9, 92, 46, 4, 96, 79, 42, 42, 180, 0, 7]
abbrev dktX3_step_6 : List UInt8 := dkwX3_step_6 ++ dktX3_step_7
def dkwX3_step_5 : List UInt8 := [182, 0, 135, 2, 172, 42, 182, 0, 180, 54, 4, 21, 4, 154, 0, 9, 42, 4, 182, 0, 147, 172, 42, 89]
abbrev dktX3_step_5 : List UInt8 := dkwX3_step_5 ++ dktX3_step_6
def dkwX3_step_4 : List UInt8 := [172, 42, 89, 180, 0, 105, 4, 96, 181, 0, 105, 42, 42, 180, 0, 7, 16, 16, 29, 96, 46, 2]
abbrev dktX3_step_4 : List UInt8 := dkwX3_step_4 ++ dktX3_step_5
def dkwX3_step_3 : List UInt8 := [46, 182, 0, 111, 156, 0, 21, 42, 180, 0, 7, 16, 13, 42, 29, 182, 0, 177, 79, 42, 3, 182, 0, 147]
abbrev dktX3_step_3 : List UInt8 := dkwX3_step_3 ++ dktX3_step_4
def dkwX3_step_2 : List UInt8 := [182, 0, 135, 2, 172, 42, 182, 0, 174, 62, 29, 2, 159, 0, 63, 42, 42, 180, 0, 7, 16, 16, 29, 96]
abbrev dktX3_step_2 : List UInt8 := dkwX3_step_2 ++ dktX3_step_3
def dkwX3_step_1 : List UInt8 := [28, 2, 159, 0, 26, 42, 180, 0, 7, 16, 10, 92, 46, 4, 96, 79, 42, 42, 28, 182, 0, 171, 28]
abbrev dktX3_step_1 : List UInt8 := dkwX3_step_1 ++ dktX3_step_2
def dkwX3_step_0 : List UInt8 := [42, 3, 182, 0, 165, 61, 28, 2, 159, 0, 10, 42, 28, 27, 182, 0, 168, 172, 42, 4, 182, 0, 165, 61]
abbrev dktX3_step_0 : List UInt8 := dkwX3_step_0 ++ dktX3_step_1
theorem dksX3_step_0 : cX3_step.data.toList.drop 0 = dktX3_step_0 := by decide +kernel
theorem dksX3_step_1 : cX3_step.data.toList.drop 24 = dktX3_step_1 := dk_seg dksX3_step_0 24 rfl rfl
theorem dksX3_step_2 : cX3_step.data.toList.drop 47 = dktX3_step_2 := dk_seg dksX3_step_1 23 rfl rfl
theorem dksX3_step_3 : cX3_step.data.toList.drop 71 = dktX3_step_3 := dk_seg dksX3_step_2 24 rfl rfl
theorem dksX3_step_4 : cX3_step.data.toList.drop 95 = dktX3_step_4 := dk_seg dksX3_step_3 24 rfl rfl
theorem dksX3_step_5 : cX3_step.data.toList.drop 117 = dktX3_step_5 := dk_seg dksX3_step_4 22 rfl rfl
theorem dksX3_step_6 : cX3_step.data.toList.drop 141 = dktX3_step_6 := dk_seg dksX3_step_5 24 rfl rfl
theorem dksX3_step_7 : cX3_step.data.toList.drop 165 = dktX3_step_7 := dk_seg dksX3_step_6 24 rfl rfl
theorem dX3_step_0 : decode cX3_step 0 = .ok (.aload_n 0, 1) := dk_42 (dk_at dksX3_step_0 0 rfl rfl)
theorem dX3_step_1 : decode cX3_step 1 = .ok (.iconst 0, 1) := dk_3 (dk_at dksX3_step_0 1 rfl rfl)
theorem dX3_step_2 : decode cX3_step 2 = .ok (.invokevirtual 165, 3) := dk_182 0 165 (dk_at dksX3_step_0 2 rfl rfl)
theorem dX3_step_5 : decode cX3_step 5 = .ok (.istore_n 2, 1) := dk_61 (dk_at dksX3_step_0 5 rfl rfl)
theorem dX3_step_6 : decode cX3_step 6 = .ok (.iload_n 2, 1) := dk_28 (dk_at dksX3_step_0 6 rfl rfl)
theorem dX3_step_7 : decode cX3_step 7 = .ok (.iconst (-1), 1) := dk_2 (dk_at dksX3_step_0 7 rfl rfl)
theorem dX3_step_8 : decode cX3_step 8 = .ok (.if_icmp .eq 10, 3) := dk_159 0 10 (dk_at dksX3_step_0 8 rfl rfl)
theorem dX3_step_11 : decode cX3_step 11 = .ok (.aload_n 0, 1) := dk_42 (dk_at dksX3_step_0 11 rfl rfl)
theorem dX3_step_12 : decode cX3_step 12 = .ok (.iload_n 2, 1) := dk_28 (dk_at dksX3_step_0 12 rfl rfl)
theorem dX3_step_13 : decode cX3_step 13 = .ok (.iload_n 1, 1) := dk_27 (dk_at dksX3_step_0 13 rfl rfl)
theorem dX3_step_14 : decode cX3_step 14 = .ok (.invokevirtual 168, 3) := dk_182 0 168 (dk_at dksX3_step_0 14 rfl rfl)
theorem dX3_step_17 : decode cX3_step 17 = .ok (.ireturn, 1) := dk_172 (dk_at dksX3_step_0 17 rfl rfl)
theorem dX3_step_18 : decode cX3_step 18 = .ok (.aload_n 0, 1) := dk_42 (dk_at dksX3_step_0 18 rfl rfl)
theorem dX3_step_19 : decode cX3_step 19 = .ok (.iconst 1, 1) := dk_4 (dk_at dksX3_step_0 19 rfl rfl)
theorem dX3_step_20 : decode cX3_step 20 = .ok (.invokevirtual 165, 3) := dk_182 0 165 (dk_at dksX3_step_0 20 rfl rfl)
theorem dX3_step_23 : decode cX3_step 23 = .ok (.istore_n 2, 1) := dk_61 (dk_at dksX3_step_0 23 rfl rfl)
theorem dX3_step_24 : decode cX3_step 24 = .ok (.iload_n 2, 1) := dk_28 (dk_at dksX3_step_1 0 rfl rfl)
theorem dX3_step_25 : decode cX3_step 25 = .ok (.iconst (-1), 1) := dk_2 (dk_at dksX3_step_1 1 rfl rfl)
theorem dX3_step_26 : decode cX3_step 26 = .ok (.if_icmp .eq 26, 3) := dk_159 0 26 (dk_at dksX3_step_1 2 rfl rfl)
theorem dX3_step_29 : decode cX3_step 29 = .ok (.aload_n 0, 1) := dk_42 (dk_at dksX3_step_1 5 rfl rfl)
theorem dX3_step_30 : decode cX3_step 30 = .ok (.getfield 7, 3) := dk_180 0 7 (dk_at dksX3_step_1 6 rfl rfl)
theorem dX3_step_33 : decode cX3_step 33 = .ok (.bipush 10, 2) := dk_16 10 (dk_at dksX3_step_1 9 rfl rfl)
theorem dX3_step_35 : decode cX3_step 35 = .ok (.dup2, 1) := dk_92 (dk_at dksX3_step_1 11 rfl rfl)
theorem dX3_step_36 : decode cX3_step 36 = .ok (.iaload, 1) := dk_46 (dk_at dksX3_step_1 12 rfl rfl)
theorem dX3_step_37 : decode cX3_step 37 = .ok (.iconst 1, 1) := dk_4 (dk_at dksX3_step_1 13 rfl rfl)
theorem dX3_step_38 : decode cX3_step 38 = .ok (.iadd, 1) := dk_96 (dk_at dksX3_step_1 14 rfl rfl)
theorem dX3_step_39 : decode cX3_step 39 = .ok (.iastore, 1) := dk_79 (dk_at dksX3_step_1 15 rfl rfl)
theorem dX3_step_40 : decode cX3_step 40 = .ok (.aload_n 0, 1) := dk_42 (dk_at dksX3_step_1 16 rfl rfl)
theorem dX3_step_41 : decode cX3_step 41 = .ok (.aload_n 0, 1) := dk_42 (dk_at dksX3_step_1 17 rfl rfl)
theorem dX3_step_42 : decode cX3_step 42 = .ok (.iload_n 2, 1) := dk_28 (dk_at dksX3_step_1 18 rfl rfl)
theorem dX3_step_43 : decode cX3_step 43 = .ok (.invokevirtual 171, 3) := dk_182 0 171 (dk_at dksX3_step_1 19 rfl rfl)
theorem dX3_step_46 : decode cX3_step 46 = .ok (.iload_n 2, 1) := dk_28 (dk_at dksX3_step_1 22 rfl rfl)
theorem dX3_step_47 : decode cX3_step 47 = .ok (.invokevirtual 135, 3) := dk_182 0 135 (dk_at dksX3_step_2 0 rfl rfl)
theorem dX3_step_50 : decode cX3_step 50 = .ok (.iconst (-1), 1) := dk_2 (dk_at dksX3_step_2 3 rfl rfl)
theorem dX3_step_51 : decode cX3_step 51 = .ok (.ireturn, 1) := dk_172 (dk_at dksX3_step_2 4 rfl rfl)
theorem dX3_step_52 : decode cX3_step 52 = .ok (.aload_n 0, 1) := dk_42 (dk_at dksX3_step_2 5 rfl rfl)
theorem dX3_step_53 : decode cX3_step 53 = .ok (.invokevirtual 174, 3) := dk_182 0 174 (dk_at dksX3_step_2 6 rfl rfl)
theorem dX3_step_56 : decode cX3_step 56 = .ok (.istore_n 3, 1) := dk_62 (dk_at dksX3_step_2 9 rfl rfl)
theorem dX3_step_57 : decode cX3_step 57 = .ok (.iload_n 3, 1) := dk_29 (dk_at dksX3_step_2 10 rfl rfl)
theorem dX3_step_58 : decode cX3_step 58 = .ok (.iconst (-1), 1) := dk_2 (dk_at dksX3_step_2 11 rfl rfl)
theorem dX3_step_59 : decode cX3_step 59 = .ok (.if_icmp .eq 63, 3) := dk_159 0 63 (dk_at dksX3_step_2 12 rfl rfl)
theorem dX3_step_62 : decode cX3_step 62 = .ok (.aload_n 0, 1) := dk_42 (dk_at dksX3_step_2 15 rfl rfl)
theorem dX3_step_63 : decode cX3_step 63 = .ok (.aload_n 0, 1) := dk_42 (dk_at dksX3_step_2 16 rfl rfl)
theorem dX3_step_64 : decode cX3_step 64 = .ok (.getfield 7, 3) := dk_180 0 7 (dk_at dksX3_step_2 17 rfl rfl)
theorem dX3_step_67 : decode cX3_step 67 = .ok (.bipush 16, 2) := dk_16 16 (dk_at dksX3_step_2 20 rfl rfl)
theorem dX3_step_69 : decode cX3_step 69 = .ok (.iload_n 3, 1) := dk_29 (dk_at dksX3_step_2 22 rfl rfl)
theorem dX3_step_70 : decode cX3_step 70 = .ok (.iadd, 1) := dk_96 (dk_at dksX3_step_2 23 rfl rfl)
theorem dX3_step_71 : decode cX3_step 71 = .ok (.iaload, 1) := dk_46 (dk_at dksX3_step_3 0 rfl rfl)
theorem dX3_step_72 : decode cX3_step 72 = .ok (.invokevirtual 111, 3) := dk_182 0 111 (dk_at dksX3_step_3 1 rfl rfl)
theorem dX3_step_75 : decode cX3_step 75 = .ok (.ifCond .ge 21, 3) := dk_156 0 21 (dk_at dksX3_step_3 4 rfl rfl)
theorem dX3_step_78 : decode cX3_step 78 = .ok (.aload_n 0, 1) := dk_42 (dk_at dksX3_step_3 7 rfl rfl)
theorem dX3_step_79 : decode cX3_step 79 = .ok (.getfield 7, 3) := dk_180 0 7 (dk_at dksX3_step_3 8 rfl rfl)
theorem dX3_step_82 : decode cX3_step 82 = .ok (.bipush 13, 2) := dk_16 13 (dk_at dksX3_step_3 11 rfl rfl)
theorem dX3_step_84 : decode cX3_step 84 = .ok (.aload_n 0, 1) := dk_42 (dk_at dksX3_step_3 13 rfl rfl)
theorem dX3_step_85 : decode cX3_step 85 = .ok (.iload_n 3, 1) := dk_29 (dk_at dksX3_step_3 14 rfl rfl)
theorem dX3_step_86 : decode cX3_step 86 = .ok (.invokevirtual 177, 3) := dk_182 0 177 (dk_at dksX3_step_3 15 rfl rfl)
theorem dX3_step_89 : decode cX3_step 89 = .ok (.iastore, 1) := dk_79 (dk_at dksX3_step_3 18 rfl rfl)
theorem dX3_step_90 : decode cX3_step 90 = .ok (.aload_n 0, 1) := dk_42 (dk_at dksX3_step_3 19 rfl rfl)
theorem dX3_step_91 : decode cX3_step 91 = .ok (.iconst 0, 1) := dk_3 (dk_at dksX3_step_3 20 rfl rfl)
theorem dX3_step_92 : decode cX3_step 92 = .ok (.invokevirtual 147, 3) := dk_182 0 147 (dk_at dksX3_step_3 21 rfl rfl)
theorem dX3_step_95 : decode cX3_step 95 = .ok (.ireturn, 1) := dk_172 (dk_at dksX3_step_4 0 rfl rfl)
theorem dX3_step_96 : decode cX3_step 96 = .ok (.aload_n 0, 1) := dk_42 (dk_at dksX3_step_4 1 rfl rfl)
theorem dX3_step_97 : decode cX3_step 97 = .ok (.dup, 1) := dk_89 (dk_at dksX3_step_4 2 rfl rfl)
theorem dX3_step_98 : decode cX3_step 98 = .ok (.getfield 105, 3) := dk_180 0 105 (dk_at dksX3_step_4 3 rfl rfl)
theorem dX3_step_101 : decode cX3_step 101 = .ok (.iconst 1, 1) := dk_4 (dk_at dksX3_step_4 6 rfl rfl)
theorem dX3_step_102 : decode cX3_step 102 = .ok (.iadd, 1) := dk_96 (dk_at dksX3_step_4 7 rfl rfl)
theorem dX3_step_103 : decode cX3_step 103 = .ok (.putfield 105, 3) := dk_181 0 105 (dk_at dksX3_step_4 8 rfl rfl)
theorem dX3_step_106 : decode cX3_step 106 = .ok (.aload_n 0, 1) := dk_42 (dk_at dksX3_step_4 11 rfl rfl)
theorem dX3_step_107 : decode cX3_step 107 = .ok (.aload_n 0, 1) := dk_42 (dk_at dksX3_step_4 12 rfl rfl)
theorem dX3_step_108 : decode cX3_step 108 = .ok (.getfield 7, 3) := dk_180 0 7 (dk_at dksX3_step_4 13 rfl rfl)
theorem dX3_step_111 : decode cX3_step 111 = .ok (.bipush 16, 2) := dk_16 16 (dk_at dksX3_step_4 16 rfl rfl)
theorem dX3_step_113 : decode cX3_step 113 = .ok (.iload_n 3, 1) := dk_29 (dk_at dksX3_step_4 18 rfl rfl)
theorem dX3_step_114 : decode cX3_step 114 = .ok (.iadd, 1) := dk_96 (dk_at dksX3_step_4 19 rfl rfl)
theorem dX3_step_115 : decode cX3_step 115 = .ok (.iaload, 1) := dk_46 (dk_at dksX3_step_4 20 rfl rfl)
theorem dX3_step_116 : decode cX3_step 116 = .ok (.iconst (-1), 1) := dk_2 (dk_at dksX3_step_4 21 rfl rfl)
theorem dX3_step_117 : decode cX3_step 117 = .ok (.invokevirtual 135, 3) := dk_182 0 135 (dk_at dksX3_step_5 0 rfl rfl)
theorem dX3_step_120 : decode cX3_step 120 = .ok (.iconst (-1), 1) := dk_2 (dk_at dksX3_step_5 3 rfl rfl)
theorem dX3_step_121 : decode cX3_step 121 = .ok (.ireturn, 1) := dk_172 (dk_at dksX3_step_5 4 rfl rfl)
theorem dX3_step_122 : decode cX3_step 122 = .ok (.aload_n 0, 1) := dk_42 (dk_at dksX3_step_5 5 rfl rfl)
theorem dX3_step_123 : decode cX3_step 123 = .ok (.invokevirtual 180, 3) := dk_182 0 180 (dk_at dksX3_step_5 6 rfl rfl)
theorem dX3_step_126 : decode cX3_step 126 = .ok (.istore 4, 2) := dk_54 4 (dk_at dksX3_step_5 9 rfl rfl)
theorem dX3_step_128 : decode cX3_step 128 = .ok (.iload 4, 2) := dk_21 4 (dk_at dksX3_step_5 11 rfl rfl)
theorem dX3_step_130 : decode cX3_step 130 = .ok (.ifCond .ne 9, 3) := dk_154 0 9 (dk_at dksX3_step_5 13 rfl rfl)
theorem dX3_step_133 : decode cX3_step 133 = .ok (.aload_n 0, 1) := dk_42 (dk_at dksX3_step_5 16 rfl rfl)
theorem dX3_step_134 : decode cX3_step 134 = .ok (.iconst 1, 1) := dk_4 (dk_at dksX3_step_5 17 rfl rfl)
theorem dX3_step_135 : decode cX3_step 135 = .ok (.invokevirtual 147, 3) := dk_182 0 147 (dk_at dksX3_step_5 18 rfl rfl)
theorem dX3_step_138 : decode cX3_step 138 = .ok (.ireturn, 1) := dk_172 (dk_at dksX3_step_5 21 rfl rfl)
theorem dX3_step_139 : decode cX3_step 139 = .ok (.aload_n 0, 1) := dk_42 (dk_at dksX3_step_5 22 rfl rfl)
theorem dX3_step_140 : decode cX3_step 140 = .ok (.dup, 1) := dk_89 (dk_at dksX3_step_5 23 rfl rfl)
theorem dX3_step_141 : decode cX3_step 141 = .ok (.getfield 105, 3) := dk_180 0 105 (dk_at dksX3_step_6 0 rfl rfl)
theorem dX3_step_144 : decode cX3_step 144 = .ok (.iconst 1, 1) := dk_4 (dk_at dksX3_step_6 3 rfl rfl)
theorem dX3_step_145 : decode cX3_step 145 = .ok (.iadd, 1) := dk_96 (dk_at dksX3_step_6 4 rfl rfl)
theorem dX3_step_146 : decode cX3_step 146 = .ok (.putfield 105, 3) := dk_181 0 105 (dk_at dksX3_step_6 5 rfl rfl)
theorem dX3_step_149 : decode cX3_step 149 = .ok (.aload_n 0, 1) := dk_42 (dk_at dksX3_step_6 8 rfl rfl)
theorem dX3_step_150 : decode cX3_step 150 = .ok (.getfield 7, 3) := dk_180 0 7 (dk_at dksX3_step_6 9 rfl rfl)
theorem dX3_step_153 : decode cX3_step 153 = .ok (.bipush 9, 2) := dk_16 9 (dk_at dksX3_step_6 12 rfl rfl)
theorem dX3_step_155 : decode cX3_step 155 = .ok (.dup2, 1) := dk_92 (dk_at dksX3_step_6 14 rfl rfl)
theorem dX3_step_156 : decode cX3_step 156 = .ok (.iaload, 1) := dk_46 (dk_at dksX3_step_6 15 rfl rfl)
theorem dX3_step_157 : decode cX3_step 157 = .ok (.iconst 1, 1) := dk_4 (dk_at dksX3_step_6 16 rfl rfl)
theorem dX3_step_158 : decode cX3_step 158 = .ok (.iadd, 1) := dk_96 (dk_at dksX3_step_6 17 rfl rfl)
theorem dX3_step_159 : decode cX3_step 159 = .ok (.iastore, 1) := dk_79 (dk_at dksX3_step_6 18 rfl rfl)
theorem dX3_step_160 : decode cX3_step 160 = .ok (.aload_n 0, 1) := dk_42 (dk_at dksX3_step_6 19 rfl rfl)
theorem dX3_step_161 : decode cX3_step 161 = .ok (.aload_n 0, 1) := dk_42 (dk_at dksX3_step_6 20 rfl rfl)
theorem dX3_step_162 : decode cX3_step 162 = .ok (.getfield 7, 3) := dk_180 0 7 (dk_at dksX3_step_6 21 rfl rfl)
theorem dX3_step_165 : decode cX3_step 165 = .ok (.bipush 32, 2) := dk_16 32 (dk_at dksX3_step_7 0 rfl rfl)
theorem dX3_step_167 : decode cX3_step 167 = .ok (.iload 4, 2) := dk_21 4 (dk_at dksX3_step_7 2 rfl rfl)
theorem dX3_step_169 : decode cX3_step 169 = .ok (.iadd, 1) := dk_96 (dk_at dksX3_step_7 4 rfl rfl)
theorem dX3_step_170 : decode cX3_step 170 = .ok (.iaload, 1) := dk_46 (dk_at dksX3_step_7 5 rfl rfl)
theorem dX3_step_171 : decode cX3_step 171 = .ok (.iconst 1, 1) := dk_4 (dk_at dksX3_step_7 6 rfl rfl)
theorem dX3_step_172 : decode cX3_step 172 = .ok (.if_icmp .ne 8, 3) := dk_160 0 8 (dk_at dksX3_step_7 7 rfl rfl)
theorem dX3_step_175 : decode cX3_step 175 = .ok (.iload 4, 2) := dk_21 4 (dk_at dksX3_step_7 10 rfl rfl)
theorem dX3_step_177 : decode cX3_step 177 = .ok (.goto 6, 3) := dk_167 0 6 (dk_at dksX3_step_7 12 rfl rfl)
theorem dX3_step_180 : decode cX3_step 180 = .ok (.iload 4, 2) := dk_21 4 (dk_at dksX3_step_7 15 rfl rfl)
theorem dX3_step_182 : decode cX3_step 182 = .ok (.ineg, 1) := dk_116 (dk_at dksX3_step_7 17 rfl rfl)
theorem dX3_step_183 : decode cX3_step 183 = .ok (.iconst (-1), 1) := dk_2 (dk_at dksX3_step_7 18 rfl rfl)
theorem dX3_step_184 : decode cX3_step 184 = .ok (.invokevirtual 135, 3) := dk_182 0 135 (dk_at dksX3_step_7 19 rfl rfl)
theorem dX3_step_187 : decode cX3_step 187 = .ok (.iconst (-1), 1) := dk_2 (dk_at dksX3_step_7 22 rfl rfl)
theorem dX3_step_188 : decode cX3_step 188 = .ok (.ireturn, 1) := dk_172 (dk_at dksX3_step_7 23 rfl rfl)
abbrev cX3_firstOf : ByteArray := prog_13_method_29_code
def yX3_firstOf : MethodName := ⟨RX3, "firstOf", "(I)I"⟩
def dkwX3_firstOf_1 : List UInt8 := [182, 0, 114, 27, 160, 0, 5, 28, 172, 132, 2, 1, 167, 255, 224, 2, 172]
abbrev dktX3_firstOf_1 : List UInt8 := dkwX3_firstOf_1 ++ []
def dkwX3_firstOf_0 : List UInt8 := [3, 61, 28, 42, 180, 0, 7, 4, 46, 162, 0, 28, 42, 28, 182, 0, 96, 154, 0, 14, 42, 28]
abbrev dktX3_firstOf_0 : List UInt8 := dkwX3_firstOf_0 ++ dktX3_firstOf_1
theorem dksX3_firstOf_0 : cX3_firstOf.data.toList.drop 0 = dktX3_firstOf_0 := by decide +kernel
theorem dksX3_firstOf_1 : cX3_firstOf.data.toList.drop 22 = dktX3_firstOf_1 := dk_seg dksX3_firstOf_0 22 rfl rfl
theorem dX3_firstOf_0 : decode cX3_firstOf 0 = .ok (.iconst 0, 1) := dk_3 (dk_at dksX3_firstOf_0 0 rfl rfl)
theorem dX3_firstOf_1 : decode cX3_firstOf 1 = .ok (.istore_n 2, 1) := dk_61 (dk_at dksX3_firstOf_0 1 rfl rfl)
theorem dX3_firstOf_2 : decode cX3_firstOf 2 = .ok (.iload_n 2, 1) := dk_28 (dk_at dksX3_firstOf_0 2 rfl rfl)
theorem dX3_firstOf_3 : decode cX3_firstOf 3 = .ok (.aload_n 0, 1) := dk_42 (dk_at dksX3_firstOf_0 3 rfl rfl)
theorem dX3_firstOf_4 : decode cX3_firstOf 4 = .ok (.getfield 7, 3) := dk_180 0 7 (dk_at dksX3_firstOf_0 4 rfl rfl)
theorem dX3_firstOf_7 : decode cX3_firstOf 7 = .ok (.iconst 1, 1) := dk_4 (dk_at dksX3_firstOf_0 7 rfl rfl)
theorem dX3_firstOf_8 : decode cX3_firstOf 8 = .ok (.iaload, 1) := dk_46 (dk_at dksX3_firstOf_0 8 rfl rfl)
theorem dX3_firstOf_9 : decode cX3_firstOf 9 = .ok (.if_icmp .ge 28, 3) := dk_162 0 28 (dk_at dksX3_firstOf_0 9 rfl rfl)
theorem dX3_firstOf_12 : decode cX3_firstOf 12 = .ok (.aload_n 0, 1) := dk_42 (dk_at dksX3_firstOf_0 12 rfl rfl)
theorem dX3_firstOf_13 : decode cX3_firstOf 13 = .ok (.iload_n 2, 1) := dk_28 (dk_at dksX3_firstOf_0 13 rfl rfl)
theorem dX3_firstOf_14 : decode cX3_firstOf 14 = .ok (.invokevirtual 96, 3) := dk_182 0 96 (dk_at dksX3_firstOf_0 14 rfl rfl)
theorem dX3_firstOf_17 : decode cX3_firstOf 17 = .ok (.ifCond .ne 14, 3) := dk_154 0 14 (dk_at dksX3_firstOf_0 17 rfl rfl)
theorem dX3_firstOf_20 : decode cX3_firstOf 20 = .ok (.aload_n 0, 1) := dk_42 (dk_at dksX3_firstOf_0 20 rfl rfl)
theorem dX3_firstOf_21 : decode cX3_firstOf 21 = .ok (.iload_n 2, 1) := dk_28 (dk_at dksX3_firstOf_0 21 rfl rfl)
theorem dX3_firstOf_22 : decode cX3_firstOf 22 = .ok (.invokevirtual 114, 3) := dk_182 0 114 (dk_at dksX3_firstOf_1 0 rfl rfl)
theorem dX3_firstOf_25 : decode cX3_firstOf 25 = .ok (.iload_n 1, 1) := dk_27 (dk_at dksX3_firstOf_1 3 rfl rfl)
theorem dX3_firstOf_26 : decode cX3_firstOf 26 = .ok (.if_icmp .ne 5, 3) := dk_160 0 5 (dk_at dksX3_firstOf_1 4 rfl rfl)
theorem dX3_firstOf_29 : decode cX3_firstOf 29 = .ok (.iload_n 2, 1) := dk_28 (dk_at dksX3_firstOf_1 7 rfl rfl)
theorem dX3_firstOf_30 : decode cX3_firstOf 30 = .ok (.ireturn, 1) := dk_172 (dk_at dksX3_firstOf_1 8 rfl rfl)
theorem dX3_firstOf_31 : decode cX3_firstOf 31 = .ok (.iinc 2 1, 3) := dk_132 2 1 (dk_at dksX3_firstOf_1 9 rfl rfl)
theorem dX3_firstOf_34 : decode cX3_firstOf 34 = .ok (.goto (-32), 3) := dk_167 255 224 (dk_at dksX3_firstOf_1 12 rfl rfl)
theorem dX3_firstOf_37 : decode cX3_firstOf 37 = .ok (.iconst (-1), 1) := dk_2 (dk_at dksX3_firstOf_1 15 rfl rfl)
theorem dX3_firstOf_38 : decode cX3_firstOf 38 = .ok (.ireturn, 1) := dk_172 (dk_at dksX3_firstOf_1 16 rfl rfl)
abbrev cX3_open : ByteArray := prog_13_method_28_code
def yX3_open : MethodName := ⟨RX3, "open", "(I)I"⟩
def dkwX3_open_2 : List UInt8 := [132, 3, 1, 167, 255, 211, 28, 172]
abbrev dktX3_open_2 : List UInt8 := dkwX3_open_2 ++ []
def dkwX3_open_1 : List UInt8 := [54, 4, 21, 4, 158, 0, 6, 16, 31, 172, 28, 21, 4, 154, 0, 7, 4, 167, 0, 4, 3, 96, 61]
abbrev dktX3_open_1 : List UInt8 := dkwX3_open_1 ++ dktX3_open_2
def dkwX3_open_0 : List UInt8 := [3, 61, 3, 62, 29, 42, 27, 182, 0, 99, 162, 0, 42, 42, 42, 27, 29, 182, 0, 108, 182, 0, 111]
abbrev dktX3_open_0 : List UInt8 := dkwX3_open_0 ++ dktX3_open_1
theorem dksX3_open_0 : cX3_open.data.toList.drop 0 = dktX3_open_0 := by decide +kernel
theorem dksX3_open_1 : cX3_open.data.toList.drop 23 = dktX3_open_1 := dk_seg dksX3_open_0 23 rfl rfl
theorem dksX3_open_2 : cX3_open.data.toList.drop 46 = dktX3_open_2 := dk_seg dksX3_open_1 23 rfl rfl
theorem dX3_open_0 : decode cX3_open 0 = .ok (.iconst 0, 1) := dk_3 (dk_at dksX3_open_0 0 rfl rfl)
theorem dX3_open_1 : decode cX3_open 1 = .ok (.istore_n 2, 1) := dk_61 (dk_at dksX3_open_0 1 rfl rfl)
theorem dX3_open_2 : decode cX3_open 2 = .ok (.iconst 0, 1) := dk_3 (dk_at dksX3_open_0 2 rfl rfl)
theorem dX3_open_3 : decode cX3_open 3 = .ok (.istore_n 3, 1) := dk_62 (dk_at dksX3_open_0 3 rfl rfl)
theorem dX3_open_4 : decode cX3_open 4 = .ok (.iload_n 3, 1) := dk_29 (dk_at dksX3_open_0 4 rfl rfl)
theorem dX3_open_5 : decode cX3_open 5 = .ok (.aload_n 0, 1) := dk_42 (dk_at dksX3_open_0 5 rfl rfl)
theorem dX3_open_6 : decode cX3_open 6 = .ok (.iload_n 1, 1) := dk_27 (dk_at dksX3_open_0 6 rfl rfl)
theorem dX3_open_7 : decode cX3_open 7 = .ok (.invokevirtual 99, 3) := dk_182 0 99 (dk_at dksX3_open_0 7 rfl rfl)
theorem dX3_open_10 : decode cX3_open 10 = .ok (.if_icmp .ge 42, 3) := dk_162 0 42 (dk_at dksX3_open_0 10 rfl rfl)
theorem dX3_open_13 : decode cX3_open 13 = .ok (.aload_n 0, 1) := dk_42 (dk_at dksX3_open_0 13 rfl rfl)
theorem dX3_open_14 : decode cX3_open 14 = .ok (.aload_n 0, 1) := dk_42 (dk_at dksX3_open_0 14 rfl rfl)
theorem dX3_open_15 : decode cX3_open 15 = .ok (.iload_n 1, 1) := dk_27 (dk_at dksX3_open_0 15 rfl rfl)
theorem dX3_open_16 : decode cX3_open 16 = .ok (.iload_n 3, 1) := dk_29 (dk_at dksX3_open_0 16 rfl rfl)
theorem dX3_open_17 : decode cX3_open 17 = .ok (.invokevirtual 108, 3) := dk_182 0 108 (dk_at dksX3_open_0 17 rfl rfl)
theorem dX3_open_20 : decode cX3_open 20 = .ok (.invokevirtual 111, 3) := dk_182 0 111 (dk_at dksX3_open_0 20 rfl rfl)
theorem dX3_open_23 : decode cX3_open 23 = .ok (.istore 4, 2) := dk_54 4 (dk_at dksX3_open_1 0 rfl rfl)
theorem dX3_open_25 : decode cX3_open 25 = .ok (.iload 4, 2) := dk_21 4 (dk_at dksX3_open_1 2 rfl rfl)
theorem dX3_open_27 : decode cX3_open 27 = .ok (.ifCond .le 6, 3) := dk_158 0 6 (dk_at dksX3_open_1 4 rfl rfl)
theorem dX3_open_30 : decode cX3_open 30 = .ok (.bipush 31, 2) := dk_16 31 (dk_at dksX3_open_1 7 rfl rfl)
theorem dX3_open_32 : decode cX3_open 32 = .ok (.ireturn, 1) := dk_172 (dk_at dksX3_open_1 9 rfl rfl)
theorem dX3_open_33 : decode cX3_open 33 = .ok (.iload_n 2, 1) := dk_28 (dk_at dksX3_open_1 10 rfl rfl)
theorem dX3_open_34 : decode cX3_open 34 = .ok (.iload 4, 2) := dk_21 4 (dk_at dksX3_open_1 11 rfl rfl)
theorem dX3_open_36 : decode cX3_open 36 = .ok (.ifCond .ne 7, 3) := dk_154 0 7 (dk_at dksX3_open_1 13 rfl rfl)
theorem dX3_open_39 : decode cX3_open 39 = .ok (.iconst 1, 1) := dk_4 (dk_at dksX3_open_1 16 rfl rfl)
theorem dX3_open_40 : decode cX3_open 40 = .ok (.goto 4, 3) := dk_167 0 4 (dk_at dksX3_open_1 17 rfl rfl)
theorem dX3_open_43 : decode cX3_open 43 = .ok (.iconst 0, 1) := dk_3 (dk_at dksX3_open_1 20 rfl rfl)
theorem dX3_open_44 : decode cX3_open 44 = .ok (.iadd, 1) := dk_96 (dk_at dksX3_open_1 21 rfl rfl)
theorem dX3_open_45 : decode cX3_open 45 = .ok (.istore_n 2, 1) := dk_61 (dk_at dksX3_open_1 22 rfl rfl)
theorem dX3_open_46 : decode cX3_open 46 = .ok (.iinc 3 1, 3) := dk_132 3 1 (dk_at dksX3_open_2 0 rfl rfl)
theorem dX3_open_49 : decode cX3_open 49 = .ok (.goto (-45), 3) := dk_167 255 211 (dk_at dksX3_open_2 3 rfl rfl)
theorem dX3_open_52 : decode cX3_open 52 = .ok (.iload_n 2, 1) := dk_28 (dk_at dksX3_open_2 6 rfl rfl)
theorem dX3_open_53 : decode cX3_open 53 = .ok (.ireturn, 1) := dk_172 (dk_at dksX3_open_2 7 rfl rfl)
abbrev cX3_literal : ByteArray := prog_13_method_7_code
def yX3_literal : MethodName := ⟨RX3, "literal", "(II)I"⟩
def dkwX3_literal_0 : List UInt8 := [42, 180, 0, 7, 17, 5, 46, 16, 30, 27, 104, 96, 28, 96, 46, 172]
abbrev dktX3_literal_0 : List UInt8 := dkwX3_literal_0 ++ []
theorem dksX3_literal_0 : cX3_literal.data.toList.drop 0 = dktX3_literal_0 := by decide +kernel
theorem dX3_literal_0 : decode cX3_literal 0 = .ok (.aload_n 0, 1) := dk_42 (dk_at dksX3_literal_0 0 rfl rfl)
theorem dX3_literal_1 : decode cX3_literal 1 = .ok (.getfield 7, 3) := dk_180 0 7 (dk_at dksX3_literal_0 1 rfl rfl)
theorem dX3_literal_4 : decode cX3_literal 4 = .ok (.sipush 1326, 3) := dk_17 5 46 (dk_at dksX3_literal_0 4 rfl rfl)
theorem dX3_literal_7 : decode cX3_literal 7 = .ok (.bipush 30, 2) := dk_16 30 (dk_at dksX3_literal_0 7 rfl rfl)
theorem dX3_literal_9 : decode cX3_literal 9 = .ok (.iload_n 1, 1) := dk_27 (dk_at dksX3_literal_0 9 rfl rfl)
theorem dX3_literal_10 : decode cX3_literal 10 = .ok (.imul, 1) := dk_104 (dk_at dksX3_literal_0 10 rfl rfl)
theorem dX3_literal_11 : decode cX3_literal 11 = .ok (.iadd, 1) := dk_96 (dk_at dksX3_literal_0 11 rfl rfl)
theorem dX3_literal_12 : decode cX3_literal 12 = .ok (.iload_n 2, 1) := dk_28 (dk_at dksX3_literal_0 12 rfl rfl)
theorem dX3_literal_13 : decode cX3_literal 13 = .ok (.iadd, 1) := dk_96 (dk_at dksX3_literal_0 13 rfl rfl)
theorem dX3_literal_14 : decode cX3_literal 14 = .ok (.iaload, 1) := dk_46 (dk_at dksX3_literal_0 14 rfl rfl)
theorem dX3_literal_15 : decode cX3_literal 15 = .ok (.ireturn, 1) := dk_172 (dk_at dksX3_literal_0 15 rfl rfl)
abbrev cX3_truth : ByteArray := prog_13_method_25_code
def yX3_truth : MethodName := ⟨RX3, "truth", "(I)I"⟩
def dkwX3_truth_0 : List UInt8 := [27, 158, 0, 12, 42, 180, 0, 23, 27, 46, 167, 0, 11, 42, 180, 0, 23, 27, 116, 46, 116, 172]
abbrev dktX3_truth_0 : List UInt8 := dkwX3_truth_0 ++ []
theorem dksX3_truth_0 : cX3_truth.data.toList.drop 0 = dktX3_truth_0 := by decide +kernel
theorem dX3_truth_0 : decode cX3_truth 0 = .ok (.iload_n 1, 1) := dk_27 (dk_at dksX3_truth_0 0 rfl rfl)
theorem dX3_truth_1 : decode cX3_truth 1 = .ok (.ifCond .le 12, 3) := dk_158 0 12 (dk_at dksX3_truth_0 1 rfl rfl)
theorem dX3_truth_4 : decode cX3_truth 4 = .ok (.aload_n 0, 1) := dk_42 (dk_at dksX3_truth_0 4 rfl rfl)
theorem dX3_truth_5 : decode cX3_truth 5 = .ok (.getfield 23, 3) := dk_180 0 23 (dk_at dksX3_truth_0 5 rfl rfl)
theorem dX3_truth_8 : decode cX3_truth 8 = .ok (.iload_n 1, 1) := dk_27 (dk_at dksX3_truth_0 8 rfl rfl)
theorem dX3_truth_9 : decode cX3_truth 9 = .ok (.iaload, 1) := dk_46 (dk_at dksX3_truth_0 9 rfl rfl)
theorem dX3_truth_10 : decode cX3_truth 10 = .ok (.goto 11, 3) := dk_167 0 11 (dk_at dksX3_truth_0 10 rfl rfl)
theorem dX3_truth_13 : decode cX3_truth 13 = .ok (.aload_n 0, 1) := dk_42 (dk_at dksX3_truth_0 13 rfl rfl)
theorem dX3_truth_14 : decode cX3_truth 14 = .ok (.getfield 23, 3) := dk_180 0 23 (dk_at dksX3_truth_0 14 rfl rfl)
theorem dX3_truth_17 : decode cX3_truth 17 = .ok (.iload_n 1, 1) := dk_27 (dk_at dksX3_truth_0 17 rfl rfl)
theorem dX3_truth_18 : decode cX3_truth 18 = .ok (.ineg, 1) := dk_116 (dk_at dksX3_truth_0 18 rfl rfl)
theorem dX3_truth_19 : decode cX3_truth 19 = .ok (.iaload, 1) := dk_46 (dk_at dksX3_truth_0 19 rfl rfl)
theorem dX3_truth_20 : decode cX3_truth 20 = .ok (.ineg, 1) := dk_116 (dk_at dksX3_truth_0 20 rfl rfl)
theorem dX3_truth_21 : decode cX3_truth 21 = .ok (.ireturn, 1) := dk_172 (dk_at dksX3_truth_0 21 rfl rfl)
abbrev cX3_conflictAt : ByteArray := prog_13_method_44_code
def yX3_conflictAt : MethodName := ⟨RX3, "conflictAt", "(II)I"⟩
def dkwX3_conflictAt_2 : List UInt8 := [182, 0, 162, 42, 180, 0, 159, 28, 160, 0, 11, 42, 5, 182, 0, 147, 167, 0, 4, 2, 172]
abbrev dktX3_conflictAt_2 : List UInt8 := dkwX3_conflictAt_2 ++ []
def dkwX3_conflictAt_1 : List UInt8 := [42, 6, 182, 0, 147, 172, 42, 27, 182, 0, 156, 42, 89, 180, 0, 159, 4, 96, 181, 0, 159, 42]
abbrev dktX3_conflictAt_1 : List UInt8 := dkwX3_conflictAt_1 ++ dktX3_conflictAt_2
def dkwX3_conflictAt_0 : List UInt8 := [42, 180, 0, 105, 154, 0, 8, 42, 182, 0, 153, 172, 42, 180, 0, 7, 4, 46, 17, 1, 144, 160, 0, 9]
abbrev dktX3_conflictAt_0 : List UInt8 := dkwX3_conflictAt_0 ++ dktX3_conflictAt_1
theorem dksX3_conflictAt_0 : cX3_conflictAt.data.toList.drop 0 = dktX3_conflictAt_0 := by decide +kernel
theorem dksX3_conflictAt_1 : cX3_conflictAt.data.toList.drop 24 = dktX3_conflictAt_1 := dk_seg dksX3_conflictAt_0 24 rfl rfl
theorem dksX3_conflictAt_2 : cX3_conflictAt.data.toList.drop 46 = dktX3_conflictAt_2 := dk_seg dksX3_conflictAt_1 22 rfl rfl
theorem dX3_conflictAt_0 : decode cX3_conflictAt 0 = .ok (.aload_n 0, 1) := dk_42 (dk_at dksX3_conflictAt_0 0 rfl rfl)
theorem dX3_conflictAt_1 : decode cX3_conflictAt 1 = .ok (.getfield 105, 3) := dk_180 0 105 (dk_at dksX3_conflictAt_0 1 rfl rfl)
theorem dX3_conflictAt_4 : decode cX3_conflictAt 4 = .ok (.ifCond .ne 8, 3) := dk_154 0 8 (dk_at dksX3_conflictAt_0 4 rfl rfl)
theorem dX3_conflictAt_7 : decode cX3_conflictAt 7 = .ok (.aload_n 0, 1) := dk_42 (dk_at dksX3_conflictAt_0 7 rfl rfl)
theorem dX3_conflictAt_8 : decode cX3_conflictAt 8 = .ok (.invokevirtual 153, 3) := dk_182 0 153 (dk_at dksX3_conflictAt_0 8 rfl rfl)
theorem dX3_conflictAt_11 : decode cX3_conflictAt 11 = .ok (.ireturn, 1) := dk_172 (dk_at dksX3_conflictAt_0 11 rfl rfl)
theorem dX3_conflictAt_12 : decode cX3_conflictAt 12 = .ok (.aload_n 0, 1) := dk_42 (dk_at dksX3_conflictAt_0 12 rfl rfl)
theorem dX3_conflictAt_13 : decode cX3_conflictAt 13 = .ok (.getfield 7, 3) := dk_180 0 7 (dk_at dksX3_conflictAt_0 13 rfl rfl)
theorem dX3_conflictAt_16 : decode cX3_conflictAt 16 = .ok (.iconst 1, 1) := dk_4 (dk_at dksX3_conflictAt_0 16 rfl rfl)
theorem dX3_conflictAt_17 : decode cX3_conflictAt 17 = .ok (.iaload, 1) := dk_46 (dk_at dksX3_conflictAt_0 17 rfl rfl)
theorem dX3_conflictAt_18 : decode cX3_conflictAt 18 = .ok (.sipush 400, 3) := dk_17 1 144 (dk_at dksX3_conflictAt_0 18 rfl rfl)
theorem dX3_conflictAt_21 : decode cX3_conflictAt 21 = .ok (.if_icmp .ne 9, 3) := dk_160 0 9 (dk_at dksX3_conflictAt_0 21 rfl rfl)
theorem dX3_conflictAt_24 : decode cX3_conflictAt 24 = .ok (.aload_n 0, 1) := dk_42 (dk_at dksX3_conflictAt_1 0 rfl rfl)
theorem dX3_conflictAt_25 : decode cX3_conflictAt 25 = .ok (.iconst 3, 1) := dk_6 (dk_at dksX3_conflictAt_1 1 rfl rfl)
theorem dX3_conflictAt_26 : decode cX3_conflictAt 26 = .ok (.invokevirtual 147, 3) := dk_182 0 147 (dk_at dksX3_conflictAt_1 2 rfl rfl)
theorem dX3_conflictAt_29 : decode cX3_conflictAt 29 = .ok (.ireturn, 1) := dk_172 (dk_at dksX3_conflictAt_1 5 rfl rfl)
theorem dX3_conflictAt_30 : decode cX3_conflictAt 30 = .ok (.aload_n 0, 1) := dk_42 (dk_at dksX3_conflictAt_1 6 rfl rfl)
theorem dX3_conflictAt_31 : decode cX3_conflictAt 31 = .ok (.iload_n 1, 1) := dk_27 (dk_at dksX3_conflictAt_1 7 rfl rfl)
theorem dX3_conflictAt_32 : decode cX3_conflictAt 32 = .ok (.invokevirtual 156, 3) := dk_182 0 156 (dk_at dksX3_conflictAt_1 8 rfl rfl)
theorem dX3_conflictAt_35 : decode cX3_conflictAt 35 = .ok (.aload_n 0, 1) := dk_42 (dk_at dksX3_conflictAt_1 11 rfl rfl)
theorem dX3_conflictAt_36 : decode cX3_conflictAt 36 = .ok (.dup, 1) := dk_89 (dk_at dksX3_conflictAt_1 12 rfl rfl)
theorem dX3_conflictAt_37 : decode cX3_conflictAt 37 = .ok (.getfield 159, 3) := dk_180 0 159 (dk_at dksX3_conflictAt_1 13 rfl rfl)
theorem dX3_conflictAt_40 : decode cX3_conflictAt 40 = .ok (.iconst 1, 1) := dk_4 (dk_at dksX3_conflictAt_1 16 rfl rfl)
theorem dX3_conflictAt_41 : decode cX3_conflictAt 41 = .ok (.iadd, 1) := dk_96 (dk_at dksX3_conflictAt_1 17 rfl rfl)
theorem dX3_conflictAt_42 : decode cX3_conflictAt 42 = .ok (.putfield 159, 3) := dk_181 0 159 (dk_at dksX3_conflictAt_1 18 rfl rfl)
theorem dX3_conflictAt_45 : decode cX3_conflictAt 45 = .ok (.aload_n 0, 1) := dk_42 (dk_at dksX3_conflictAt_1 21 rfl rfl)
theorem dX3_conflictAt_46 : decode cX3_conflictAt 46 = .ok (.invokevirtual 162, 3) := dk_182 0 162 (dk_at dksX3_conflictAt_2 0 rfl rfl)
theorem dX3_conflictAt_49 : decode cX3_conflictAt 49 = .ok (.aload_n 0, 1) := dk_42 (dk_at dksX3_conflictAt_2 3 rfl rfl)
theorem dX3_conflictAt_50 : decode cX3_conflictAt 50 = .ok (.getfield 159, 3) := dk_180 0 159 (dk_at dksX3_conflictAt_2 4 rfl rfl)
theorem dX3_conflictAt_53 : decode cX3_conflictAt 53 = .ok (.iload_n 2, 1) := dk_28 (dk_at dksX3_conflictAt_2 7 rfl rfl)
theorem dX3_conflictAt_54 : decode cX3_conflictAt 54 = .ok (.if_icmp .ne 11, 3) := dk_160 0 11 (dk_at dksX3_conflictAt_2 8 rfl rfl)
theorem dX3_conflictAt_57 : decode cX3_conflictAt 57 = .ok (.aload_n 0, 1) := dk_42 (dk_at dksX3_conflictAt_2 11 rfl rfl)
theorem dX3_conflictAt_58 : decode cX3_conflictAt 58 = .ok (.iconst 2, 1) := dk_5 (dk_at dksX3_conflictAt_2 12 rfl rfl)
theorem dX3_conflictAt_59 : decode cX3_conflictAt 59 = .ok (.invokevirtual 147, 3) := dk_182 0 147 (dk_at dksX3_conflictAt_2 13 rfl rfl)
theorem dX3_conflictAt_62 : decode cX3_conflictAt 62 = .ok (.goto 4, 3) := dk_167 0 4 (dk_at dksX3_conflictAt_2 16 rfl rfl)
theorem dX3_conflictAt_65 : decode cX3_conflictAt 65 = .ok (.iconst (-1), 1) := dk_2 (dk_at dksX3_conflictAt_2 19 rfl rfl)
theorem dX3_conflictAt_66 : decode cX3_conflictAt 66 = .ok (.ireturn, 1) := dk_172 (dk_at dksX3_conflictAt_2 20 rfl rfl)
abbrev cX3_learns : ByteArray := prog_13_method_35_code
def yX3_learns : MethodName := ⟨RX3, "learns", "(I)V"⟩
def dkwX3_learns_18 : List UInt8 := [167, 0, 4, 3, 182, 0, 131, 42, 42, 29, 3, 182, 0, 108, 29, 182, 0, 135, 177]
abbrev dktX3_learns_18 : List UInt8 := dkwX3_learns_18 ++ []
def dkwX3_learns_17 : List UInt8 := [167, 255, 187, 42, 28, 4, 164, 0, 20, 42, 180, 0, 26, 42, 29, 4, 182, 0, 108, 184, 0, 71, 46]
abbrev dktX3_learns_17 : List UInt8 := dkwX3_learns_17 ++ dktX3_learns_18
def dkwX3_learns_16 : List UInt8 := [21, 5, 96, 92, 46, 42, 180, 0, 7, 16, 63, 21, 5, 96, 46, 16, 8, 108, 100, 79, 132, 5, 1]
abbrev dktX3_learns_16 : List UInt8 := dkwX3_learns_16 ++ dktX3_learns_17
def dkwX3_learns_15 : List UInt8 := [180, 0, 41, 21, 5, 51, 153, 0, 8, 16, 16, 167, 0, 4, 3, 96, 79, 42, 180, 0, 7, 16, 63]
abbrev dktX3_learns_15 : List UInt8 := dkwX3_learns_15 ++ dktX3_learns_16
def dkwX3_learns_14 : List UInt8 := [21, 5, 42, 180, 0, 7, 3, 46, 163, 0, 64, 42, 180, 0, 7, 16, 63, 21, 5, 96, 92, 46, 42]
abbrev dktX3_learns_14 : List UInt8 := dkwX3_learns_14 ++ dktX3_learns_15
def dkwX3_learns_13 : List UInt8 := [180, 0, 7, 16, 6, 92, 46, 4, 96, 79, 42, 180, 0, 7, 16, 8, 92, 46, 4, 96, 79, 4, 54, 5]
abbrev dktX3_learns_13 : List UInt8 := dkwX3_learns_13 ++ dktX3_learns_14
def dkwX3_learns_12 : List UInt8 := [132, 5, 255, 167, 255, 166, 42, 180, 0, 7, 17, 3, 157, 42, 180, 0, 7, 16, 6, 46, 96, 29, 79, 42]
abbrev dktX3_learns_12 : List UInt8 := dkwX3_learns_12 ++ dktX3_learns_13
def dkwX3_learns_11 : List UInt8 := [46, 158, 0, 9, 21, 6, 116, 167, 0, 5, 21, 6, 79, 132, 4, 1, 132, 6, 1, 167, 255, 180]
abbrev dktX3_learns_11 : List UInt8 := dkwX3_learns_11 ++ dktX3_learns_12
def dkwX3_learns_10 : List UInt8 := [167, 0, 40, 42, 180, 0, 7, 17, 5, 46, 16, 30, 29, 104, 96, 21, 4, 96, 42, 180, 0, 23, 21, 6]
abbrev dktX3_learns_10 : List UInt8 := dkwX3_learns_10 ++ dktX3_learns_11
def dkwX3_learns_9 : List UInt8 := [42, 180, 0, 38, 21, 6, 51, 153, 0, 55, 42, 180, 0, 26, 21, 6, 46, 21, 5, 159, 0, 6]
abbrev dktX3_learns_9 : List UInt8 := dkwX3_learns_9 ++ dktX3_learns_10
def dkwX3_learns_8 : List UInt8 := [180, 0, 105, 54, 5, 21, 5, 158, 0, 91, 4, 54, 6, 21, 6, 42, 180, 0, 7, 3, 46, 163, 0, 71]
abbrev dktX3_learns_8 : List UInt8 := dkwX3_learns_8 ++ dktX3_learns_9
def dkwX3_learns_7 : List UInt8 := [167, 0, 4, 3, 96, 61, 132, 3, 1, 167, 255, 226, 42, 4, 28, 182, 0, 89, 62, 3, 54, 4, 42]
abbrev dktX3_learns_7 : List UInt8 := dkwX3_learns_7 ++ dktX3_learns_8
def dkwX3_learns_6 : List UInt8 := [61, 4, 62, 29, 42, 180, 0, 7, 3, 46, 163, 0, 26, 28, 42, 180, 0, 38, 29, 51, 153, 0, 7, 4]
abbrev dktX3_learns_6 : List UInt8 := dkwX3_learns_6 ++ dktX3_learns_7
def dkwX3_learns_5 : List UInt8 := [153, 0, 15, 42, 28, 182, 0, 128, 154, 0, 7, 4, 167, 0, 4, 3, 84, 132, 2, 1, 167, 255, 215, 3]
abbrev dktX3_learns_5 : List UInt8 := dkwX3_learns_5 ++ dktX3_learns_6
def dkwX3_learns_4 : List UInt8 := [4, 61, 28, 42, 180, 0, 7, 3, 46, 163, 0, 37, 42, 180, 0, 38, 28, 42, 180, 0, 38, 28, 51]
abbrev dktX3_learns_4 : List UInt8 := dkwX3_learns_4 ++ dktX3_learns_5
def dkwX3_learns_3 : List UInt8 := [28, 16, 30, 163, 0, 21, 42, 180, 0, 44, 28, 42, 180, 0, 38, 28, 51, 84, 132, 2, 1, 167, 255, 235]
abbrev dktX3_learns_3 : List UInt8 := dkwX3_learns_3 ++ dktX3_learns_4
def dkwX3_learns_2 : List UInt8 := [61, 42, 180, 0, 38, 28, 3, 84, 42, 42, 180, 0, 29, 28, 46, 28, 182, 0, 117, 167, 255, 225, 3, 61]
abbrev dktX3_learns_2 : List UInt8 := dkwX3_learns_2 ++ dktX3_learns_3
def dkwX3_learns_1 : List UInt8 := [132, 2, 1, 167, 255, 233, 42, 27, 3, 182, 0, 117, 42, 182, 0, 121, 4, 164, 0, 29, 42, 182, 0, 125]
abbrev dktX3_learns_1 : List UInt8 := dkwX3_learns_1 ++ dktX3_learns_2
def dkwX3_learns_0 : List UInt8 := [3, 61, 28, 16, 30, 163, 0, 23, 42, 180, 0, 38, 28, 3, 84, 42, 180, 0, 41, 28, 3, 84]
abbrev dktX3_learns_0 : List UInt8 := dkwX3_learns_0 ++ dktX3_learns_1
theorem dksX3_learns_0 : cX3_learns.data.toList.drop 0 = dktX3_learns_0 := by decide +kernel
theorem dksX3_learns_1 : cX3_learns.data.toList.drop 22 = dktX3_learns_1 := dk_seg dksX3_learns_0 22 rfl rfl
theorem dksX3_learns_2 : cX3_learns.data.toList.drop 46 = dktX3_learns_2 := dk_seg dksX3_learns_1 24 rfl rfl
theorem dksX3_learns_3 : cX3_learns.data.toList.drop 70 = dktX3_learns_3 := dk_seg dksX3_learns_2 24 rfl rfl
theorem dksX3_learns_4 : cX3_learns.data.toList.drop 94 = dktX3_learns_4 := dk_seg dksX3_learns_3 24 rfl rfl
theorem dksX3_learns_5 : cX3_learns.data.toList.drop 117 = dktX3_learns_5 := dk_seg dksX3_learns_4 23 rfl rfl
theorem dksX3_learns_6 : cX3_learns.data.toList.drop 141 = dktX3_learns_6 := dk_seg dksX3_learns_5 24 rfl rfl
theorem dksX3_learns_7 : cX3_learns.data.toList.drop 165 = dktX3_learns_7 := dk_seg dksX3_learns_6 24 rfl rfl
theorem dksX3_learns_8 : cX3_learns.data.toList.drop 188 = dktX3_learns_8 := dk_seg dksX3_learns_7 23 rfl rfl
theorem dksX3_learns_9 : cX3_learns.data.toList.drop 212 = dktX3_learns_9 := dk_seg dksX3_learns_8 24 rfl rfl
theorem dksX3_learns_10 : cX3_learns.data.toList.drop 234 = dktX3_learns_10 := dk_seg dksX3_learns_9 22 rfl rfl
theorem dksX3_learns_11 : cX3_learns.data.toList.drop 258 = dktX3_learns_11 := dk_seg dksX3_learns_10 24 rfl rfl
theorem dksX3_learns_12 : cX3_learns.data.toList.drop 280 = dktX3_learns_12 := dk_seg dksX3_learns_11 22 rfl rfl
theorem dksX3_learns_13 : cX3_learns.data.toList.drop 304 = dktX3_learns_13 := dk_seg dksX3_learns_12 24 rfl rfl
theorem dksX3_learns_14 : cX3_learns.data.toList.drop 328 = dktX3_learns_14 := dk_seg dksX3_learns_13 24 rfl rfl
theorem dksX3_learns_15 : cX3_learns.data.toList.drop 351 = dktX3_learns_15 := dk_seg dksX3_learns_14 23 rfl rfl
theorem dksX3_learns_16 : cX3_learns.data.toList.drop 374 = dktX3_learns_16 := dk_seg dksX3_learns_15 23 rfl rfl
theorem dksX3_learns_17 : cX3_learns.data.toList.drop 397 = dktX3_learns_17 := dk_seg dksX3_learns_16 23 rfl rfl
theorem dksX3_learns_18 : cX3_learns.data.toList.drop 420 = dktX3_learns_18 := dk_seg dksX3_learns_17 23 rfl rfl
theorem dX3_learns_0 : decode cX3_learns 0 = .ok (.iconst 0, 1) := dk_3 (dk_at dksX3_learns_0 0 rfl rfl)
theorem dX3_learns_1 : decode cX3_learns 1 = .ok (.istore_n 2, 1) := dk_61 (dk_at dksX3_learns_0 1 rfl rfl)
theorem dX3_learns_2 : decode cX3_learns 2 = .ok (.iload_n 2, 1) := dk_28 (dk_at dksX3_learns_0 2 rfl rfl)
theorem dX3_learns_3 : decode cX3_learns 3 = .ok (.bipush 30, 2) := dk_16 30 (dk_at dksX3_learns_0 3 rfl rfl)
theorem dX3_learns_5 : decode cX3_learns 5 = .ok (.if_icmp .gt 23, 3) := dk_163 0 23 (dk_at dksX3_learns_0 5 rfl rfl)
theorem dX3_learns_8 : decode cX3_learns 8 = .ok (.aload_n 0, 1) := dk_42 (dk_at dksX3_learns_0 8 rfl rfl)
theorem dX3_learns_9 : decode cX3_learns 9 = .ok (.getfield 38, 3) := dk_180 0 38 (dk_at dksX3_learns_0 9 rfl rfl)
theorem dX3_learns_12 : decode cX3_learns 12 = .ok (.iload_n 2, 1) := dk_28 (dk_at dksX3_learns_0 12 rfl rfl)
theorem dX3_learns_13 : decode cX3_learns 13 = .ok (.iconst 0, 1) := dk_3 (dk_at dksX3_learns_0 13 rfl rfl)
theorem dX3_learns_14 : decode cX3_learns 14 = .ok (.bastore, 1) := dk_84 (dk_at dksX3_learns_0 14 rfl rfl)
theorem dX3_learns_15 : decode cX3_learns 15 = .ok (.aload_n 0, 1) := dk_42 (dk_at dksX3_learns_0 15 rfl rfl)
theorem dX3_learns_16 : decode cX3_learns 16 = .ok (.getfield 41, 3) := dk_180 0 41 (dk_at dksX3_learns_0 16 rfl rfl)
theorem dX3_learns_19 : decode cX3_learns 19 = .ok (.iload_n 2, 1) := dk_28 (dk_at dksX3_learns_0 19 rfl rfl)
theorem dX3_learns_20 : decode cX3_learns 20 = .ok (.iconst 0, 1) := dk_3 (dk_at dksX3_learns_0 20 rfl rfl)
theorem dX3_learns_21 : decode cX3_learns 21 = .ok (.bastore, 1) := dk_84 (dk_at dksX3_learns_0 21 rfl rfl)
theorem dX3_learns_22 : decode cX3_learns 22 = .ok (.iinc 2 1, 3) := dk_132 2 1 (dk_at dksX3_learns_1 0 rfl rfl)
theorem dX3_learns_25 : decode cX3_learns 25 = .ok (.goto (-23), 3) := dk_167 255 233 (dk_at dksX3_learns_1 3 rfl rfl)
theorem dX3_learns_28 : decode cX3_learns 28 = .ok (.aload_n 0, 1) := dk_42 (dk_at dksX3_learns_1 6 rfl rfl)
theorem dX3_learns_29 : decode cX3_learns 29 = .ok (.iload_n 1, 1) := dk_27 (dk_at dksX3_learns_1 7 rfl rfl)
theorem dX3_learns_30 : decode cX3_learns 30 = .ok (.iconst 0, 1) := dk_3 (dk_at dksX3_learns_1 8 rfl rfl)
theorem dX3_learns_31 : decode cX3_learns 31 = .ok (.invokevirtual 117, 3) := dk_182 0 117 (dk_at dksX3_learns_1 9 rfl rfl)
theorem dX3_learns_34 : decode cX3_learns 34 = .ok (.aload_n 0, 1) := dk_42 (dk_at dksX3_learns_1 12 rfl rfl)
theorem dX3_learns_35 : decode cX3_learns 35 = .ok (.invokevirtual 121, 3) := dk_182 0 121 (dk_at dksX3_learns_1 13 rfl rfl)
theorem dX3_learns_38 : decode cX3_learns 38 = .ok (.iconst 1, 1) := dk_4 (dk_at dksX3_learns_1 16 rfl rfl)
theorem dX3_learns_39 : decode cX3_learns 39 = .ok (.if_icmp .le 29, 3) := dk_164 0 29 (dk_at dksX3_learns_1 17 rfl rfl)
theorem dX3_learns_42 : decode cX3_learns 42 = .ok (.aload_n 0, 1) := dk_42 (dk_at dksX3_learns_1 20 rfl rfl)
theorem dX3_learns_43 : decode cX3_learns 43 = .ok (.invokevirtual 125, 3) := dk_182 0 125 (dk_at dksX3_learns_1 21 rfl rfl)
theorem dX3_learns_46 : decode cX3_learns 46 = .ok (.istore_n 2, 1) := dk_61 (dk_at dksX3_learns_2 0 rfl rfl)
theorem dX3_learns_47 : decode cX3_learns 47 = .ok (.aload_n 0, 1) := dk_42 (dk_at dksX3_learns_2 1 rfl rfl)
theorem dX3_learns_48 : decode cX3_learns 48 = .ok (.getfield 38, 3) := dk_180 0 38 (dk_at dksX3_learns_2 2 rfl rfl)
theorem dX3_learns_51 : decode cX3_learns 51 = .ok (.iload_n 2, 1) := dk_28 (dk_at dksX3_learns_2 5 rfl rfl)
theorem dX3_learns_52 : decode cX3_learns 52 = .ok (.iconst 0, 1) := dk_3 (dk_at dksX3_learns_2 6 rfl rfl)
theorem dX3_learns_53 : decode cX3_learns 53 = .ok (.bastore, 1) := dk_84 (dk_at dksX3_learns_2 7 rfl rfl)
theorem dX3_learns_54 : decode cX3_learns 54 = .ok (.aload_n 0, 1) := dk_42 (dk_at dksX3_learns_2 8 rfl rfl)
theorem dX3_learns_55 : decode cX3_learns 55 = .ok (.aload_n 0, 1) := dk_42 (dk_at dksX3_learns_2 9 rfl rfl)
theorem dX3_learns_56 : decode cX3_learns 56 = .ok (.getfield 29, 3) := dk_180 0 29 (dk_at dksX3_learns_2 10 rfl rfl)
theorem dX3_learns_59 : decode cX3_learns 59 = .ok (.iload_n 2, 1) := dk_28 (dk_at dksX3_learns_2 13 rfl rfl)
theorem dX3_learns_60 : decode cX3_learns 60 = .ok (.iaload, 1) := dk_46 (dk_at dksX3_learns_2 14 rfl rfl)
theorem dX3_learns_61 : decode cX3_learns 61 = .ok (.iload_n 2, 1) := dk_28 (dk_at dksX3_learns_2 15 rfl rfl)
theorem dX3_learns_62 : decode cX3_learns 62 = .ok (.invokevirtual 117, 3) := dk_182 0 117 (dk_at dksX3_learns_2 16 rfl rfl)
theorem dX3_learns_65 : decode cX3_learns 65 = .ok (.goto (-31), 3) := dk_167 255 225 (dk_at dksX3_learns_2 19 rfl rfl)
theorem dX3_learns_68 : decode cX3_learns 68 = .ok (.iconst 0, 1) := dk_3 (dk_at dksX3_learns_2 22 rfl rfl)
theorem dX3_learns_69 : decode cX3_learns 69 = .ok (.istore_n 2, 1) := dk_61 (dk_at dksX3_learns_2 23 rfl rfl)
theorem dX3_learns_70 : decode cX3_learns 70 = .ok (.iload_n 2, 1) := dk_28 (dk_at dksX3_learns_3 0 rfl rfl)
theorem dX3_learns_71 : decode cX3_learns 71 = .ok (.bipush 30, 2) := dk_16 30 (dk_at dksX3_learns_3 1 rfl rfl)
theorem dX3_learns_73 : decode cX3_learns 73 = .ok (.if_icmp .gt 21, 3) := dk_163 0 21 (dk_at dksX3_learns_3 3 rfl rfl)
theorem dX3_learns_76 : decode cX3_learns 76 = .ok (.aload_n 0, 1) := dk_42 (dk_at dksX3_learns_3 6 rfl rfl)
theorem dX3_learns_77 : decode cX3_learns 77 = .ok (.getfield 44, 3) := dk_180 0 44 (dk_at dksX3_learns_3 7 rfl rfl)
theorem dX3_learns_80 : decode cX3_learns 80 = .ok (.iload_n 2, 1) := dk_28 (dk_at dksX3_learns_3 10 rfl rfl)
theorem dX3_learns_81 : decode cX3_learns 81 = .ok (.aload_n 0, 1) := dk_42 (dk_at dksX3_learns_3 11 rfl rfl)
theorem dX3_learns_82 : decode cX3_learns 82 = .ok (.getfield 38, 3) := dk_180 0 38 (dk_at dksX3_learns_3 12 rfl rfl)
theorem dX3_learns_85 : decode cX3_learns 85 = .ok (.iload_n 2, 1) := dk_28 (dk_at dksX3_learns_3 15 rfl rfl)
theorem dX3_learns_86 : decode cX3_learns 86 = .ok (.baload, 1) := dk_51 (dk_at dksX3_learns_3 16 rfl rfl)
theorem dX3_learns_87 : decode cX3_learns 87 = .ok (.bastore, 1) := dk_84 (dk_at dksX3_learns_3 17 rfl rfl)
theorem dX3_learns_88 : decode cX3_learns 88 = .ok (.iinc 2 1, 3) := dk_132 2 1 (dk_at dksX3_learns_3 18 rfl rfl)
theorem dX3_learns_91 : decode cX3_learns 91 = .ok (.goto (-21), 3) := dk_167 255 235 (dk_at dksX3_learns_3 21 rfl rfl)
theorem dX3_learns_94 : decode cX3_learns 94 = .ok (.iconst 1, 1) := dk_4 (dk_at dksX3_learns_4 0 rfl rfl)
theorem dX3_learns_95 : decode cX3_learns 95 = .ok (.istore_n 2, 1) := dk_61 (dk_at dksX3_learns_4 1 rfl rfl)
theorem dX3_learns_96 : decode cX3_learns 96 = .ok (.iload_n 2, 1) := dk_28 (dk_at dksX3_learns_4 2 rfl rfl)
theorem dX3_learns_97 : decode cX3_learns 97 = .ok (.aload_n 0, 1) := dk_42 (dk_at dksX3_learns_4 3 rfl rfl)
theorem dX3_learns_98 : decode cX3_learns 98 = .ok (.getfield 7, 3) := dk_180 0 7 (dk_at dksX3_learns_4 4 rfl rfl)
theorem dX3_learns_101 : decode cX3_learns 101 = .ok (.iconst 0, 1) := dk_3 (dk_at dksX3_learns_4 7 rfl rfl)
theorem dX3_learns_102 : decode cX3_learns 102 = .ok (.iaload, 1) := dk_46 (dk_at dksX3_learns_4 8 rfl rfl)
theorem dX3_learns_103 : decode cX3_learns 103 = .ok (.if_icmp .gt 37, 3) := dk_163 0 37 (dk_at dksX3_learns_4 9 rfl rfl)
theorem dX3_learns_106 : decode cX3_learns 106 = .ok (.aload_n 0, 1) := dk_42 (dk_at dksX3_learns_4 12 rfl rfl)
theorem dX3_learns_107 : decode cX3_learns 107 = .ok (.getfield 38, 3) := dk_180 0 38 (dk_at dksX3_learns_4 13 rfl rfl)
theorem dX3_learns_110 : decode cX3_learns 110 = .ok (.iload_n 2, 1) := dk_28 (dk_at dksX3_learns_4 16 rfl rfl)
theorem dX3_learns_111 : decode cX3_learns 111 = .ok (.aload_n 0, 1) := dk_42 (dk_at dksX3_learns_4 17 rfl rfl)
theorem dX3_learns_112 : decode cX3_learns 112 = .ok (.getfield 38, 3) := dk_180 0 38 (dk_at dksX3_learns_4 18 rfl rfl)
theorem dX3_learns_115 : decode cX3_learns 115 = .ok (.iload_n 2, 1) := dk_28 (dk_at dksX3_learns_4 21 rfl rfl)
theorem dX3_learns_116 : decode cX3_learns 116 = .ok (.baload, 1) := dk_51 (dk_at dksX3_learns_4 22 rfl rfl)
theorem dX3_learns_117 : decode cX3_learns 117 = .ok (.ifCond .eq 15, 3) := dk_153 0 15 (dk_at dksX3_learns_5 0 rfl rfl)
theorem dX3_learns_120 : decode cX3_learns 120 = .ok (.aload_n 0, 1) := dk_42 (dk_at dksX3_learns_5 3 rfl rfl)
theorem dX3_learns_121 : decode cX3_learns 121 = .ok (.iload_n 2, 1) := dk_28 (dk_at dksX3_learns_5 4 rfl rfl)
theorem dX3_learns_122 : decode cX3_learns 122 = .ok (.invokevirtual 128, 3) := dk_182 0 128 (dk_at dksX3_learns_5 5 rfl rfl)
theorem dX3_learns_125 : decode cX3_learns 125 = .ok (.ifCond .ne 7, 3) := dk_154 0 7 (dk_at dksX3_learns_5 8 rfl rfl)
theorem dX3_learns_128 : decode cX3_learns 128 = .ok (.iconst 1, 1) := dk_4 (dk_at dksX3_learns_5 11 rfl rfl)
theorem dX3_learns_129 : decode cX3_learns 129 = .ok (.goto 4, 3) := dk_167 0 4 (dk_at dksX3_learns_5 12 rfl rfl)
theorem dX3_learns_132 : decode cX3_learns 132 = .ok (.iconst 0, 1) := dk_3 (dk_at dksX3_learns_5 15 rfl rfl)
theorem dX3_learns_133 : decode cX3_learns 133 = .ok (.bastore, 1) := dk_84 (dk_at dksX3_learns_5 16 rfl rfl)
theorem dX3_learns_134 : decode cX3_learns 134 = .ok (.iinc 2 1, 3) := dk_132 2 1 (dk_at dksX3_learns_5 17 rfl rfl)
theorem dX3_learns_137 : decode cX3_learns 137 = .ok (.goto (-41), 3) := dk_167 255 215 (dk_at dksX3_learns_5 20 rfl rfl)
theorem dX3_learns_140 : decode cX3_learns 140 = .ok (.iconst 0, 1) := dk_3 (dk_at dksX3_learns_5 23 rfl rfl)
theorem dX3_learns_141 : decode cX3_learns 141 = .ok (.istore_n 2, 1) := dk_61 (dk_at dksX3_learns_6 0 rfl rfl)
theorem dX3_learns_142 : decode cX3_learns 142 = .ok (.iconst 1, 1) := dk_4 (dk_at dksX3_learns_6 1 rfl rfl)
theorem dX3_learns_143 : decode cX3_learns 143 = .ok (.istore_n 3, 1) := dk_62 (dk_at dksX3_learns_6 2 rfl rfl)
theorem dX3_learns_144 : decode cX3_learns 144 = .ok (.iload_n 3, 1) := dk_29 (dk_at dksX3_learns_6 3 rfl rfl)
theorem dX3_learns_145 : decode cX3_learns 145 = .ok (.aload_n 0, 1) := dk_42 (dk_at dksX3_learns_6 4 rfl rfl)
theorem dX3_learns_146 : decode cX3_learns 146 = .ok (.getfield 7, 3) := dk_180 0 7 (dk_at dksX3_learns_6 5 rfl rfl)
theorem dX3_learns_149 : decode cX3_learns 149 = .ok (.iconst 0, 1) := dk_3 (dk_at dksX3_learns_6 8 rfl rfl)
theorem dX3_learns_150 : decode cX3_learns 150 = .ok (.iaload, 1) := dk_46 (dk_at dksX3_learns_6 9 rfl rfl)
theorem dX3_learns_151 : decode cX3_learns 151 = .ok (.if_icmp .gt 26, 3) := dk_163 0 26 (dk_at dksX3_learns_6 10 rfl rfl)
theorem dX3_learns_154 : decode cX3_learns 154 = .ok (.iload_n 2, 1) := dk_28 (dk_at dksX3_learns_6 13 rfl rfl)
theorem dX3_learns_155 : decode cX3_learns 155 = .ok (.aload_n 0, 1) := dk_42 (dk_at dksX3_learns_6 14 rfl rfl)
theorem dX3_learns_156 : decode cX3_learns 156 = .ok (.getfield 38, 3) := dk_180 0 38 (dk_at dksX3_learns_6 15 rfl rfl)
theorem dX3_learns_159 : decode cX3_learns 159 = .ok (.iload_n 3, 1) := dk_29 (dk_at dksX3_learns_6 18 rfl rfl)
theorem dX3_learns_160 : decode cX3_learns 160 = .ok (.baload, 1) := dk_51 (dk_at dksX3_learns_6 19 rfl rfl)
theorem dX3_learns_161 : decode cX3_learns 161 = .ok (.ifCond .eq 7, 3) := dk_153 0 7 (dk_at dksX3_learns_6 20 rfl rfl)
theorem dX3_learns_164 : decode cX3_learns 164 = .ok (.iconst 1, 1) := dk_4 (dk_at dksX3_learns_6 23 rfl rfl)
theorem dX3_learns_165 : decode cX3_learns 165 = .ok (.goto 4, 3) := dk_167 0 4 (dk_at dksX3_learns_7 0 rfl rfl)
theorem dX3_learns_168 : decode cX3_learns 168 = .ok (.iconst 0, 1) := dk_3 (dk_at dksX3_learns_7 3 rfl rfl)
theorem dX3_learns_169 : decode cX3_learns 169 = .ok (.iadd, 1) := dk_96 (dk_at dksX3_learns_7 4 rfl rfl)
theorem dX3_learns_170 : decode cX3_learns 170 = .ok (.istore_n 2, 1) := dk_61 (dk_at dksX3_learns_7 5 rfl rfl)
theorem dX3_learns_171 : decode cX3_learns 171 = .ok (.iinc 3 1, 3) := dk_132 3 1 (dk_at dksX3_learns_7 6 rfl rfl)
theorem dX3_learns_174 : decode cX3_learns 174 = .ok (.goto (-30), 3) := dk_167 255 226 (dk_at dksX3_learns_7 9 rfl rfl)
theorem dX3_learns_177 : decode cX3_learns 177 = .ok (.aload_n 0, 1) := dk_42 (dk_at dksX3_learns_7 12 rfl rfl)
theorem dX3_learns_178 : decode cX3_learns 178 = .ok (.iconst 1, 1) := dk_4 (dk_at dksX3_learns_7 13 rfl rfl)
theorem dX3_learns_179 : decode cX3_learns 179 = .ok (.iload_n 2, 1) := dk_28 (dk_at dksX3_learns_7 14 rfl rfl)
theorem dX3_learns_180 : decode cX3_learns 180 = .ok (.invokevirtual 89, 3) := dk_182 0 89 (dk_at dksX3_learns_7 15 rfl rfl)
theorem dX3_learns_183 : decode cX3_learns 183 = .ok (.istore_n 3, 1) := dk_62 (dk_at dksX3_learns_7 18 rfl rfl)
theorem dX3_learns_184 : decode cX3_learns 184 = .ok (.iconst 0, 1) := dk_3 (dk_at dksX3_learns_7 19 rfl rfl)
theorem dX3_learns_185 : decode cX3_learns 185 = .ok (.istore 4, 2) := dk_54 4 (dk_at dksX3_learns_7 20 rfl rfl)
theorem dX3_learns_187 : decode cX3_learns 187 = .ok (.aload_n 0, 1) := dk_42 (dk_at dksX3_learns_7 22 rfl rfl)
theorem dX3_learns_188 : decode cX3_learns 188 = .ok (.getfield 105, 3) := dk_180 0 105 (dk_at dksX3_learns_8 0 rfl rfl)
theorem dX3_learns_191 : decode cX3_learns 191 = .ok (.istore 5, 2) := dk_54 5 (dk_at dksX3_learns_8 3 rfl rfl)
theorem dX3_learns_193 : decode cX3_learns 193 = .ok (.iload 5, 2) := dk_21 5 (dk_at dksX3_learns_8 5 rfl rfl)
theorem dX3_learns_195 : decode cX3_learns 195 = .ok (.ifCond .le 91, 3) := dk_158 0 91 (dk_at dksX3_learns_8 7 rfl rfl)
theorem dX3_learns_198 : decode cX3_learns 198 = .ok (.iconst 1, 1) := dk_4 (dk_at dksX3_learns_8 10 rfl rfl)
theorem dX3_learns_199 : decode cX3_learns 199 = .ok (.istore 6, 2) := dk_54 6 (dk_at dksX3_learns_8 11 rfl rfl)
theorem dX3_learns_201 : decode cX3_learns 201 = .ok (.iload 6, 2) := dk_21 6 (dk_at dksX3_learns_8 13 rfl rfl)
theorem dX3_learns_203 : decode cX3_learns 203 = .ok (.aload_n 0, 1) := dk_42 (dk_at dksX3_learns_8 15 rfl rfl)
theorem dX3_learns_204 : decode cX3_learns 204 = .ok (.getfield 7, 3) := dk_180 0 7 (dk_at dksX3_learns_8 16 rfl rfl)
theorem dX3_learns_207 : decode cX3_learns 207 = .ok (.iconst 0, 1) := dk_3 (dk_at dksX3_learns_8 19 rfl rfl)
theorem dX3_learns_208 : decode cX3_learns 208 = .ok (.iaload, 1) := dk_46 (dk_at dksX3_learns_8 20 rfl rfl)
theorem dX3_learns_209 : decode cX3_learns 209 = .ok (.if_icmp .gt 71, 3) := dk_163 0 71 (dk_at dksX3_learns_8 21 rfl rfl)
theorem dX3_learns_212 : decode cX3_learns 212 = .ok (.aload_n 0, 1) := dk_42 (dk_at dksX3_learns_9 0 rfl rfl)
theorem dX3_learns_213 : decode cX3_learns 213 = .ok (.getfield 38, 3) := dk_180 0 38 (dk_at dksX3_learns_9 1 rfl rfl)
theorem dX3_learns_216 : decode cX3_learns 216 = .ok (.iload 6, 2) := dk_21 6 (dk_at dksX3_learns_9 4 rfl rfl)
theorem dX3_learns_218 : decode cX3_learns 218 = .ok (.baload, 1) := dk_51 (dk_at dksX3_learns_9 6 rfl rfl)
theorem dX3_learns_219 : decode cX3_learns 219 = .ok (.ifCond .eq 55, 3) := dk_153 0 55 (dk_at dksX3_learns_9 7 rfl rfl)
theorem dX3_learns_222 : decode cX3_learns 222 = .ok (.aload_n 0, 1) := dk_42 (dk_at dksX3_learns_9 10 rfl rfl)
theorem dX3_learns_223 : decode cX3_learns 223 = .ok (.getfield 26, 3) := dk_180 0 26 (dk_at dksX3_learns_9 11 rfl rfl)
theorem dX3_learns_226 : decode cX3_learns 226 = .ok (.iload 6, 2) := dk_21 6 (dk_at dksX3_learns_9 14 rfl rfl)
theorem dX3_learns_228 : decode cX3_learns 228 = .ok (.iaload, 1) := dk_46 (dk_at dksX3_learns_9 16 rfl rfl)
theorem dX3_learns_229 : decode cX3_learns 229 = .ok (.iload 5, 2) := dk_21 5 (dk_at dksX3_learns_9 17 rfl rfl)
theorem dX3_learns_231 : decode cX3_learns 231 = .ok (.if_icmp .eq 6, 3) := dk_159 0 6 (dk_at dksX3_learns_9 19 rfl rfl)
theorem dX3_learns_234 : decode cX3_learns 234 = .ok (.goto 40, 3) := dk_167 0 40 (dk_at dksX3_learns_10 0 rfl rfl)
theorem dX3_learns_237 : decode cX3_learns 237 = .ok (.aload_n 0, 1) := dk_42 (dk_at dksX3_learns_10 3 rfl rfl)
theorem dX3_learns_238 : decode cX3_learns 238 = .ok (.getfield 7, 3) := dk_180 0 7 (dk_at dksX3_learns_10 4 rfl rfl)
theorem dX3_learns_241 : decode cX3_learns 241 = .ok (.sipush 1326, 3) := dk_17 5 46 (dk_at dksX3_learns_10 7 rfl rfl)
theorem dX3_learns_244 : decode cX3_learns 244 = .ok (.bipush 30, 2) := dk_16 30 (dk_at dksX3_learns_10 10 rfl rfl)
theorem dX3_learns_246 : decode cX3_learns 246 = .ok (.iload_n 3, 1) := dk_29 (dk_at dksX3_learns_10 12 rfl rfl)
theorem dX3_learns_247 : decode cX3_learns 247 = .ok (.imul, 1) := dk_104 (dk_at dksX3_learns_10 13 rfl rfl)
theorem dX3_learns_248 : decode cX3_learns 248 = .ok (.iadd, 1) := dk_96 (dk_at dksX3_learns_10 14 rfl rfl)
theorem dX3_learns_249 : decode cX3_learns 249 = .ok (.iload 4, 2) := dk_21 4 (dk_at dksX3_learns_10 15 rfl rfl)
theorem dX3_learns_251 : decode cX3_learns 251 = .ok (.iadd, 1) := dk_96 (dk_at dksX3_learns_10 17 rfl rfl)
theorem dX3_learns_252 : decode cX3_learns 252 = .ok (.aload_n 0, 1) := dk_42 (dk_at dksX3_learns_10 18 rfl rfl)
theorem dX3_learns_253 : decode cX3_learns 253 = .ok (.getfield 23, 3) := dk_180 0 23 (dk_at dksX3_learns_10 19 rfl rfl)
theorem dX3_learns_256 : decode cX3_learns 256 = .ok (.iload 6, 2) := dk_21 6 (dk_at dksX3_learns_10 22 rfl rfl)
theorem dX3_learns_258 : decode cX3_learns 258 = .ok (.iaload, 1) := dk_46 (dk_at dksX3_learns_11 0 rfl rfl)
theorem dX3_learns_259 : decode cX3_learns 259 = .ok (.ifCond .le 9, 3) := dk_158 0 9 (dk_at dksX3_learns_11 1 rfl rfl)
theorem dX3_learns_262 : decode cX3_learns 262 = .ok (.iload 6, 2) := dk_21 6 (dk_at dksX3_learns_11 4 rfl rfl)
theorem dX3_learns_264 : decode cX3_learns 264 = .ok (.ineg, 1) := dk_116 (dk_at dksX3_learns_11 6 rfl rfl)
theorem dX3_learns_265 : decode cX3_learns 265 = .ok (.goto 5, 3) := dk_167 0 5 (dk_at dksX3_learns_11 7 rfl rfl)
theorem dX3_learns_268 : decode cX3_learns 268 = .ok (.iload 6, 2) := dk_21 6 (dk_at dksX3_learns_11 10 rfl rfl)
theorem dX3_learns_270 : decode cX3_learns 270 = .ok (.iastore, 1) := dk_79 (dk_at dksX3_learns_11 12 rfl rfl)
theorem dX3_learns_271 : decode cX3_learns 271 = .ok (.iinc 4 1, 3) := dk_132 4 1 (dk_at dksX3_learns_11 13 rfl rfl)
theorem dX3_learns_274 : decode cX3_learns 274 = .ok (.iinc 6 1, 3) := dk_132 6 1 (dk_at dksX3_learns_11 16 rfl rfl)
theorem dX3_learns_277 : decode cX3_learns 277 = .ok (.goto (-76), 3) := dk_167 255 180 (dk_at dksX3_learns_11 19 rfl rfl)
theorem dX3_learns_280 : decode cX3_learns 280 = .ok (.iinc 5 (-1), 3) := dk_132 5 255 (dk_at dksX3_learns_12 0 rfl rfl)
theorem dX3_learns_283 : decode cX3_learns 283 = .ok (.goto (-90), 3) := dk_167 255 166 (dk_at dksX3_learns_12 3 rfl rfl)
theorem dX3_learns_286 : decode cX3_learns 286 = .ok (.aload_n 0, 1) := dk_42 (dk_at dksX3_learns_12 6 rfl rfl)
theorem dX3_learns_287 : decode cX3_learns 287 = .ok (.getfield 7, 3) := dk_180 0 7 (dk_at dksX3_learns_12 7 rfl rfl)
theorem dX3_learns_290 : decode cX3_learns 290 = .ok (.sipush 925, 3) := dk_17 3 157 (dk_at dksX3_learns_12 10 rfl rfl)
theorem dX3_learns_293 : decode cX3_learns 293 = .ok (.aload_n 0, 1) := dk_42 (dk_at dksX3_learns_12 13 rfl rfl)
theorem dX3_learns_294 : decode cX3_learns 294 = .ok (.getfield 7, 3) := dk_180 0 7 (dk_at dksX3_learns_12 14 rfl rfl)
theorem dX3_learns_297 : decode cX3_learns 297 = .ok (.bipush 6, 2) := dk_16 6 (dk_at dksX3_learns_12 17 rfl rfl)
theorem dX3_learns_299 : decode cX3_learns 299 = .ok (.iaload, 1) := dk_46 (dk_at dksX3_learns_12 19 rfl rfl)
theorem dX3_learns_300 : decode cX3_learns 300 = .ok (.iadd, 1) := dk_96 (dk_at dksX3_learns_12 20 rfl rfl)
theorem dX3_learns_301 : decode cX3_learns 301 = .ok (.iload_n 3, 1) := dk_29 (dk_at dksX3_learns_12 21 rfl rfl)
theorem dX3_learns_302 : decode cX3_learns 302 = .ok (.iastore, 1) := dk_79 (dk_at dksX3_learns_12 22 rfl rfl)
theorem dX3_learns_303 : decode cX3_learns 303 = .ok (.aload_n 0, 1) := dk_42 (dk_at dksX3_learns_12 23 rfl rfl)
theorem dX3_learns_304 : decode cX3_learns 304 = .ok (.getfield 7, 3) := dk_180 0 7 (dk_at dksX3_learns_13 0 rfl rfl)
theorem dX3_learns_307 : decode cX3_learns 307 = .ok (.bipush 6, 2) := dk_16 6 (dk_at dksX3_learns_13 3 rfl rfl)
theorem dX3_learns_309 : decode cX3_learns 309 = .ok (.dup2, 1) := dk_92 (dk_at dksX3_learns_13 5 rfl rfl)
theorem dX3_learns_310 : decode cX3_learns 310 = .ok (.iaload, 1) := dk_46 (dk_at dksX3_learns_13 6 rfl rfl)
theorem dX3_learns_311 : decode cX3_learns 311 = .ok (.iconst 1, 1) := dk_4 (dk_at dksX3_learns_13 7 rfl rfl)
theorem dX3_learns_312 : decode cX3_learns 312 = .ok (.iadd, 1) := dk_96 (dk_at dksX3_learns_13 8 rfl rfl)
theorem dX3_learns_313 : decode cX3_learns 313 = .ok (.iastore, 1) := dk_79 (dk_at dksX3_learns_13 9 rfl rfl)
theorem dX3_learns_314 : decode cX3_learns 314 = .ok (.aload_n 0, 1) := dk_42 (dk_at dksX3_learns_13 10 rfl rfl)
theorem dX3_learns_315 : decode cX3_learns 315 = .ok (.getfield 7, 3) := dk_180 0 7 (dk_at dksX3_learns_13 11 rfl rfl)
theorem dX3_learns_318 : decode cX3_learns 318 = .ok (.bipush 8, 2) := dk_16 8 (dk_at dksX3_learns_13 14 rfl rfl)
theorem dX3_learns_320 : decode cX3_learns 320 = .ok (.dup2, 1) := dk_92 (dk_at dksX3_learns_13 16 rfl rfl)
theorem dX3_learns_321 : decode cX3_learns 321 = .ok (.iaload, 1) := dk_46 (dk_at dksX3_learns_13 17 rfl rfl)
theorem dX3_learns_322 : decode cX3_learns 322 = .ok (.iconst 1, 1) := dk_4 (dk_at dksX3_learns_13 18 rfl rfl)
theorem dX3_learns_323 : decode cX3_learns 323 = .ok (.iadd, 1) := dk_96 (dk_at dksX3_learns_13 19 rfl rfl)
theorem dX3_learns_324 : decode cX3_learns 324 = .ok (.iastore, 1) := dk_79 (dk_at dksX3_learns_13 20 rfl rfl)
theorem dX3_learns_325 : decode cX3_learns 325 = .ok (.iconst 1, 1) := dk_4 (dk_at dksX3_learns_13 21 rfl rfl)
theorem dX3_learns_326 : decode cX3_learns 326 = .ok (.istore 5, 2) := dk_54 5 (dk_at dksX3_learns_13 22 rfl rfl)
theorem dX3_learns_328 : decode cX3_learns 328 = .ok (.iload 5, 2) := dk_21 5 (dk_at dksX3_learns_14 0 rfl rfl)
theorem dX3_learns_330 : decode cX3_learns 330 = .ok (.aload_n 0, 1) := dk_42 (dk_at dksX3_learns_14 2 rfl rfl)
theorem dX3_learns_331 : decode cX3_learns 331 = .ok (.getfield 7, 3) := dk_180 0 7 (dk_at dksX3_learns_14 3 rfl rfl)
theorem dX3_learns_334 : decode cX3_learns 334 = .ok (.iconst 0, 1) := dk_3 (dk_at dksX3_learns_14 6 rfl rfl)
theorem dX3_learns_335 : decode cX3_learns 335 = .ok (.iaload, 1) := dk_46 (dk_at dksX3_learns_14 7 rfl rfl)
theorem dX3_learns_336 : decode cX3_learns 336 = .ok (.if_icmp .gt 64, 3) := dk_163 0 64 (dk_at dksX3_learns_14 8 rfl rfl)
theorem dX3_learns_339 : decode cX3_learns 339 = .ok (.aload_n 0, 1) := dk_42 (dk_at dksX3_learns_14 11 rfl rfl)
theorem dX3_learns_340 : decode cX3_learns 340 = .ok (.getfield 7, 3) := dk_180 0 7 (dk_at dksX3_learns_14 12 rfl rfl)
theorem dX3_learns_343 : decode cX3_learns 343 = .ok (.bipush 63, 2) := dk_16 63 (dk_at dksX3_learns_14 15 rfl rfl)
theorem dX3_learns_345 : decode cX3_learns 345 = .ok (.iload 5, 2) := dk_21 5 (dk_at dksX3_learns_14 17 rfl rfl)
theorem dX3_learns_347 : decode cX3_learns 347 = .ok (.iadd, 1) := dk_96 (dk_at dksX3_learns_14 19 rfl rfl)
theorem dX3_learns_348 : decode cX3_learns 348 = .ok (.dup2, 1) := dk_92 (dk_at dksX3_learns_14 20 rfl rfl)
theorem dX3_learns_349 : decode cX3_learns 349 = .ok (.iaload, 1) := dk_46 (dk_at dksX3_learns_14 21 rfl rfl)
theorem dX3_learns_350 : decode cX3_learns 350 = .ok (.aload_n 0, 1) := dk_42 (dk_at dksX3_learns_14 22 rfl rfl)
theorem dX3_learns_351 : decode cX3_learns 351 = .ok (.getfield 41, 3) := dk_180 0 41 (dk_at dksX3_learns_15 0 rfl rfl)
theorem dX3_learns_354 : decode cX3_learns 354 = .ok (.iload 5, 2) := dk_21 5 (dk_at dksX3_learns_15 3 rfl rfl)
theorem dX3_learns_356 : decode cX3_learns 356 = .ok (.baload, 1) := dk_51 (dk_at dksX3_learns_15 5 rfl rfl)
theorem dX3_learns_357 : decode cX3_learns 357 = .ok (.ifCond .eq 8, 3) := dk_153 0 8 (dk_at dksX3_learns_15 6 rfl rfl)
theorem dX3_learns_360 : decode cX3_learns 360 = .ok (.bipush 16, 2) := dk_16 16 (dk_at dksX3_learns_15 9 rfl rfl)
theorem dX3_learns_362 : decode cX3_learns 362 = .ok (.goto 4, 3) := dk_167 0 4 (dk_at dksX3_learns_15 11 rfl rfl)
theorem dX3_learns_365 : decode cX3_learns 365 = .ok (.iconst 0, 1) := dk_3 (dk_at dksX3_learns_15 14 rfl rfl)
theorem dX3_learns_366 : decode cX3_learns 366 = .ok (.iadd, 1) := dk_96 (dk_at dksX3_learns_15 15 rfl rfl)
theorem dX3_learns_367 : decode cX3_learns 367 = .ok (.iastore, 1) := dk_79 (dk_at dksX3_learns_15 16 rfl rfl)
theorem dX3_learns_368 : decode cX3_learns 368 = .ok (.aload_n 0, 1) := dk_42 (dk_at dksX3_learns_15 17 rfl rfl)
theorem dX3_learns_369 : decode cX3_learns 369 = .ok (.getfield 7, 3) := dk_180 0 7 (dk_at dksX3_learns_15 18 rfl rfl)
theorem dX3_learns_372 : decode cX3_learns 372 = .ok (.bipush 63, 2) := dk_16 63 (dk_at dksX3_learns_15 21 rfl rfl)
theorem dX3_learns_374 : decode cX3_learns 374 = .ok (.iload 5, 2) := dk_21 5 (dk_at dksX3_learns_16 0 rfl rfl)
theorem dX3_learns_376 : decode cX3_learns 376 = .ok (.iadd, 1) := dk_96 (dk_at dksX3_learns_16 2 rfl rfl)
theorem dX3_learns_377 : decode cX3_learns 377 = .ok (.dup2, 1) := dk_92 (dk_at dksX3_learns_16 3 rfl rfl)
theorem dX3_learns_378 : decode cX3_learns 378 = .ok (.iaload, 1) := dk_46 (dk_at dksX3_learns_16 4 rfl rfl)
theorem dX3_learns_379 : decode cX3_learns 379 = .ok (.aload_n 0, 1) := dk_42 (dk_at dksX3_learns_16 5 rfl rfl)
theorem dX3_learns_380 : decode cX3_learns 380 = .ok (.getfield 7, 3) := dk_180 0 7 (dk_at dksX3_learns_16 6 rfl rfl)
theorem dX3_learns_383 : decode cX3_learns 383 = .ok (.bipush 63, 2) := dk_16 63 (dk_at dksX3_learns_16 9 rfl rfl)
theorem dX3_learns_385 : decode cX3_learns 385 = .ok (.iload 5, 2) := dk_21 5 (dk_at dksX3_learns_16 11 rfl rfl)
theorem dX3_learns_387 : decode cX3_learns 387 = .ok (.iadd, 1) := dk_96 (dk_at dksX3_learns_16 13 rfl rfl)
theorem dX3_learns_388 : decode cX3_learns 388 = .ok (.iaload, 1) := dk_46 (dk_at dksX3_learns_16 14 rfl rfl)
theorem dX3_learns_389 : decode cX3_learns 389 = .ok (.bipush 8, 2) := dk_16 8 (dk_at dksX3_learns_16 15 rfl rfl)
theorem dX3_learns_391 : decode cX3_learns 391 = .ok (.idiv, 1) := dk_108 (dk_at dksX3_learns_16 17 rfl rfl)
theorem dX3_learns_392 : decode cX3_learns 392 = .ok (.isub, 1) := dk_100 (dk_at dksX3_learns_16 18 rfl rfl)
theorem dX3_learns_393 : decode cX3_learns 393 = .ok (.iastore, 1) := dk_79 (dk_at dksX3_learns_16 19 rfl rfl)
theorem dX3_learns_394 : decode cX3_learns 394 = .ok (.iinc 5 1, 3) := dk_132 5 1 (dk_at dksX3_learns_16 20 rfl rfl)
theorem dX3_learns_397 : decode cX3_learns 397 = .ok (.goto (-69), 3) := dk_167 255 187 (dk_at dksX3_learns_17 0 rfl rfl)
theorem dX3_learns_400 : decode cX3_learns 400 = .ok (.aload_n 0, 1) := dk_42 (dk_at dksX3_learns_17 3 rfl rfl)
theorem dX3_learns_401 : decode cX3_learns 401 = .ok (.iload_n 2, 1) := dk_28 (dk_at dksX3_learns_17 4 rfl rfl)
theorem dX3_learns_402 : decode cX3_learns 402 = .ok (.iconst 1, 1) := dk_4 (dk_at dksX3_learns_17 5 rfl rfl)
theorem dX3_learns_403 : decode cX3_learns 403 = .ok (.if_icmp .le 20, 3) := dk_164 0 20 (dk_at dksX3_learns_17 6 rfl rfl)
theorem dX3_learns_406 : decode cX3_learns 406 = .ok (.aload_n 0, 1) := dk_42 (dk_at dksX3_learns_17 9 rfl rfl)
theorem dX3_learns_407 : decode cX3_learns 407 = .ok (.getfield 26, 3) := dk_180 0 26 (dk_at dksX3_learns_17 10 rfl rfl)
theorem dX3_learns_410 : decode cX3_learns 410 = .ok (.aload_n 0, 1) := dk_42 (dk_at dksX3_learns_17 13 rfl rfl)
theorem dX3_learns_411 : decode cX3_learns 411 = .ok (.iload_n 3, 1) := dk_29 (dk_at dksX3_learns_17 14 rfl rfl)
theorem dX3_learns_412 : decode cX3_learns 412 = .ok (.iconst 1, 1) := dk_4 (dk_at dksX3_learns_17 15 rfl rfl)
theorem dX3_learns_413 : decode cX3_learns 413 = .ok (.invokevirtual 108, 3) := dk_182 0 108 (dk_at dksX3_learns_17 16 rfl rfl)
theorem dX3_learns_416 : decode cX3_learns 416 = .ok (.invokestatic 71, 3) := dk_184 0 71 (dk_at dksX3_learns_17 19 rfl rfl)
theorem dX3_learns_419 : decode cX3_learns 419 = .ok (.iaload, 1) := dk_46 (dk_at dksX3_learns_17 22 rfl rfl)
theorem dX3_learns_420 : decode cX3_learns 420 = .ok (.goto 4, 3) := dk_167 0 4 (dk_at dksX3_learns_18 0 rfl rfl)
theorem dX3_learns_423 : decode cX3_learns 423 = .ok (.iconst 0, 1) := dk_3 (dk_at dksX3_learns_18 3 rfl rfl)
theorem dX3_learns_424 : decode cX3_learns 424 = .ok (.invokevirtual 131, 3) := dk_182 0 131 (dk_at dksX3_learns_18 4 rfl rfl)
theorem dX3_learns_427 : decode cX3_learns 427 = .ok (.aload_n 0, 1) := dk_42 (dk_at dksX3_learns_18 7 rfl rfl)
theorem dX3_learns_428 : decode cX3_learns 428 = .ok (.aload_n 0, 1) := dk_42 (dk_at dksX3_learns_18 8 rfl rfl)
theorem dX3_learns_429 : decode cX3_learns 429 = .ok (.iload_n 3, 1) := dk_29 (dk_at dksX3_learns_18 9 rfl rfl)
theorem dX3_learns_430 : decode cX3_learns 430 = .ok (.iconst 0, 1) := dk_3 (dk_at dksX3_learns_18 10 rfl rfl)
theorem dX3_learns_431 : decode cX3_learns 431 = .ok (.invokevirtual 108, 3) := dk_182 0 108 (dk_at dksX3_learns_18 11 rfl rfl)
theorem dX3_learns_434 : decode cX3_learns 434 = .ok (.iload_n 3, 1) := dk_29 (dk_at dksX3_learns_18 14 rfl rfl)
theorem dX3_learns_435 : decode cX3_learns 435 = .ok (.invokevirtual 135, 3) := dk_182 0 135 (dk_at dksX3_learns_18 15 rfl rfl)
theorem dX3_learns_438 : decode cX3_learns 438 = .ok (.return_, 1) := dk_177 (dk_at dksX3_learns_18 18 rfl rfl)
abbrev cX3_brings : ByteArray := prog_13_method_33_code
def yX3_brings : MethodName := ⟨RX3, "brings", "(II)V"⟩
def dkwX3_brings_2 : List UInt8 := [84, 42, 180, 0, 41, 21, 4, 4, 84, 132, 3, 1, 167, 255, 198, 177]
abbrev dktX3_brings_2 : List UInt8 := dkwX3_brings_2 ++ []
def dkwX3_brings_1 : List UInt8 := [28, 159, 0, 32, 42, 180, 0, 26, 21, 4, 46, 154, 0, 6, 167, 0, 19, 42, 180, 0, 38, 21, 4, 4]
abbrev dktX3_brings_1 : List UInt8 := dkwX3_brings_1 ++ dktX3_brings_2
def dkwX3_brings_0 : List UInt8 := [3, 62, 29, 42, 27, 182, 0, 99, 162, 0, 55, 42, 27, 29, 182, 0, 108, 184, 0, 71, 54, 4, 21, 4]
abbrev dktX3_brings_0 : List UInt8 := dkwX3_brings_0 ++ dktX3_brings_1
theorem dksX3_brings_0 : cX3_brings.data.toList.drop 0 = dktX3_brings_0 := by decide +kernel
theorem dksX3_brings_1 : cX3_brings.data.toList.drop 24 = dktX3_brings_1 := dk_seg dksX3_brings_0 24 rfl rfl
theorem dksX3_brings_2 : cX3_brings.data.toList.drop 48 = dktX3_brings_2 := dk_seg dksX3_brings_1 24 rfl rfl
theorem dX3_brings_0 : decode cX3_brings 0 = .ok (.iconst 0, 1) := dk_3 (dk_at dksX3_brings_0 0 rfl rfl)
theorem dX3_brings_1 : decode cX3_brings 1 = .ok (.istore_n 3, 1) := dk_62 (dk_at dksX3_brings_0 1 rfl rfl)
theorem dX3_brings_2 : decode cX3_brings 2 = .ok (.iload_n 3, 1) := dk_29 (dk_at dksX3_brings_0 2 rfl rfl)
theorem dX3_brings_3 : decode cX3_brings 3 = .ok (.aload_n 0, 1) := dk_42 (dk_at dksX3_brings_0 3 rfl rfl)
theorem dX3_brings_4 : decode cX3_brings 4 = .ok (.iload_n 1, 1) := dk_27 (dk_at dksX3_brings_0 4 rfl rfl)
theorem dX3_brings_5 : decode cX3_brings 5 = .ok (.invokevirtual 99, 3) := dk_182 0 99 (dk_at dksX3_brings_0 5 rfl rfl)
theorem dX3_brings_8 : decode cX3_brings 8 = .ok (.if_icmp .ge 55, 3) := dk_162 0 55 (dk_at dksX3_brings_0 8 rfl rfl)
theorem dX3_brings_11 : decode cX3_brings 11 = .ok (.aload_n 0, 1) := dk_42 (dk_at dksX3_brings_0 11 rfl rfl)
theorem dX3_brings_12 : decode cX3_brings 12 = .ok (.iload_n 1, 1) := dk_27 (dk_at dksX3_brings_0 12 rfl rfl)
theorem dX3_brings_13 : decode cX3_brings 13 = .ok (.iload_n 3, 1) := dk_29 (dk_at dksX3_brings_0 13 rfl rfl)
theorem dX3_brings_14 : decode cX3_brings 14 = .ok (.invokevirtual 108, 3) := dk_182 0 108 (dk_at dksX3_brings_0 14 rfl rfl)
theorem dX3_brings_17 : decode cX3_brings 17 = .ok (.invokestatic 71, 3) := dk_184 0 71 (dk_at dksX3_brings_0 17 rfl rfl)
theorem dX3_brings_20 : decode cX3_brings 20 = .ok (.istore 4, 2) := dk_54 4 (dk_at dksX3_brings_0 20 rfl rfl)
theorem dX3_brings_22 : decode cX3_brings 22 = .ok (.iload 4, 2) := dk_21 4 (dk_at dksX3_brings_0 22 rfl rfl)
theorem dX3_brings_24 : decode cX3_brings 24 = .ok (.iload_n 2, 1) := dk_28 (dk_at dksX3_brings_1 0 rfl rfl)
theorem dX3_brings_25 : decode cX3_brings 25 = .ok (.if_icmp .eq 32, 3) := dk_159 0 32 (dk_at dksX3_brings_1 1 rfl rfl)
theorem dX3_brings_28 : decode cX3_brings 28 = .ok (.aload_n 0, 1) := dk_42 (dk_at dksX3_brings_1 4 rfl rfl)
theorem dX3_brings_29 : decode cX3_brings 29 = .ok (.getfield 26, 3) := dk_180 0 26 (dk_at dksX3_brings_1 5 rfl rfl)
theorem dX3_brings_32 : decode cX3_brings 32 = .ok (.iload 4, 2) := dk_21 4 (dk_at dksX3_brings_1 8 rfl rfl)
theorem dX3_brings_34 : decode cX3_brings 34 = .ok (.iaload, 1) := dk_46 (dk_at dksX3_brings_1 10 rfl rfl)
theorem dX3_brings_35 : decode cX3_brings 35 = .ok (.ifCond .ne 6, 3) := dk_154 0 6 (dk_at dksX3_brings_1 11 rfl rfl)
theorem dX3_brings_38 : decode cX3_brings 38 = .ok (.goto 19, 3) := dk_167 0 19 (dk_at dksX3_brings_1 14 rfl rfl)
theorem dX3_brings_41 : decode cX3_brings 41 = .ok (.aload_n 0, 1) := dk_42 (dk_at dksX3_brings_1 17 rfl rfl)
theorem dX3_brings_42 : decode cX3_brings 42 = .ok (.getfield 38, 3) := dk_180 0 38 (dk_at dksX3_brings_1 18 rfl rfl)
theorem dX3_brings_45 : decode cX3_brings 45 = .ok (.iload 4, 2) := dk_21 4 (dk_at dksX3_brings_1 21 rfl rfl)
theorem dX3_brings_47 : decode cX3_brings 47 = .ok (.iconst 1, 1) := dk_4 (dk_at dksX3_brings_1 23 rfl rfl)
theorem dX3_brings_48 : decode cX3_brings 48 = .ok (.bastore, 1) := dk_84 (dk_at dksX3_brings_2 0 rfl rfl)
theorem dX3_brings_49 : decode cX3_brings 49 = .ok (.aload_n 0, 1) := dk_42 (dk_at dksX3_brings_2 1 rfl rfl)
theorem dX3_brings_50 : decode cX3_brings 50 = .ok (.getfield 41, 3) := dk_180 0 41 (dk_at dksX3_brings_2 2 rfl rfl)
theorem dX3_brings_53 : decode cX3_brings 53 = .ok (.iload 4, 2) := dk_21 4 (dk_at dksX3_brings_2 5 rfl rfl)
theorem dX3_brings_55 : decode cX3_brings 55 = .ok (.iconst 1, 1) := dk_4 (dk_at dksX3_brings_2 7 rfl rfl)
theorem dX3_brings_56 : decode cX3_brings 56 = .ok (.bastore, 1) := dk_84 (dk_at dksX3_brings_2 8 rfl rfl)
theorem dX3_brings_57 : decode cX3_brings 57 = .ok (.iinc 3 1, 3) := dk_132 3 1 (dk_at dksX3_brings_2 9 rfl rfl)
theorem dX3_brings_60 : decode cX3_brings 60 = .ok (.goto (-58), 3) := dk_167 255 198 (dk_at dksX3_brings_2 12 rfl rfl)
theorem dX3_brings_63 : decode cX3_brings 63 = .ok (.return_, 1) := dk_177 (dk_at dksX3_brings_2 15 rfl rfl)
abbrev cX3_levelNow : ByteArray := prog_13_method_31_code
def yX3_levelNow : MethodName := ⟨RX3, "levelNow", "()I"⟩
def dkwX3_levelNow_2 : List UInt8 := [167, 255, 213, 27, 172]
abbrev dktX3_levelNow_2 : List UInt8 := dkwX3_levelNow_2 ++ []
def dkwX3_levelNow_1 : List UInt8 := [42, 180, 0, 26, 28, 46, 42, 180, 0, 105, 160, 0, 7, 4, 167, 0, 4, 3, 96, 60, 132, 2, 1]
abbrev dktX3_levelNow_1 : List UInt8 := dkwX3_levelNow_1 ++ dktX3_levelNow_2
def dkwX3_levelNow_0 : List UInt8 := [3, 60, 4, 61, 28, 42, 180, 0, 7, 3, 46, 163, 0, 39, 27, 42, 180, 0, 38, 28, 51, 153, 0, 20]
abbrev dktX3_levelNow_0 : List UInt8 := dkwX3_levelNow_0 ++ dktX3_levelNow_1
theorem dksX3_levelNow_0 : cX3_levelNow.data.toList.drop 0 = dktX3_levelNow_0 := by decide +kernel
theorem dksX3_levelNow_1 : cX3_levelNow.data.toList.drop 24 = dktX3_levelNow_1 := dk_seg dksX3_levelNow_0 24 rfl rfl
theorem dksX3_levelNow_2 : cX3_levelNow.data.toList.drop 47 = dktX3_levelNow_2 := dk_seg dksX3_levelNow_1 23 rfl rfl
theorem dX3_levelNow_0 : decode cX3_levelNow 0 = .ok (.iconst 0, 1) := dk_3 (dk_at dksX3_levelNow_0 0 rfl rfl)
theorem dX3_levelNow_1 : decode cX3_levelNow 1 = .ok (.istore_n 1, 1) := dk_60 (dk_at dksX3_levelNow_0 1 rfl rfl)
theorem dX3_levelNow_2 : decode cX3_levelNow 2 = .ok (.iconst 1, 1) := dk_4 (dk_at dksX3_levelNow_0 2 rfl rfl)
theorem dX3_levelNow_3 : decode cX3_levelNow 3 = .ok (.istore_n 2, 1) := dk_61 (dk_at dksX3_levelNow_0 3 rfl rfl)
theorem dX3_levelNow_4 : decode cX3_levelNow 4 = .ok (.iload_n 2, 1) := dk_28 (dk_at dksX3_levelNow_0 4 rfl rfl)
theorem dX3_levelNow_5 : decode cX3_levelNow 5 = .ok (.aload_n 0, 1) := dk_42 (dk_at dksX3_levelNow_0 5 rfl rfl)
theorem dX3_levelNow_6 : decode cX3_levelNow 6 = .ok (.getfield 7, 3) := dk_180 0 7 (dk_at dksX3_levelNow_0 6 rfl rfl)
theorem dX3_levelNow_9 : decode cX3_levelNow 9 = .ok (.iconst 0, 1) := dk_3 (dk_at dksX3_levelNow_0 9 rfl rfl)
theorem dX3_levelNow_10 : decode cX3_levelNow 10 = .ok (.iaload, 1) := dk_46 (dk_at dksX3_levelNow_0 10 rfl rfl)
theorem dX3_levelNow_11 : decode cX3_levelNow 11 = .ok (.if_icmp .gt 39, 3) := dk_163 0 39 (dk_at dksX3_levelNow_0 11 rfl rfl)
theorem dX3_levelNow_14 : decode cX3_levelNow 14 = .ok (.iload_n 1, 1) := dk_27 (dk_at dksX3_levelNow_0 14 rfl rfl)
theorem dX3_levelNow_15 : decode cX3_levelNow 15 = .ok (.aload_n 0, 1) := dk_42 (dk_at dksX3_levelNow_0 15 rfl rfl)
theorem dX3_levelNow_16 : decode cX3_levelNow 16 = .ok (.getfield 38, 3) := dk_180 0 38 (dk_at dksX3_levelNow_0 16 rfl rfl)
theorem dX3_levelNow_19 : decode cX3_levelNow 19 = .ok (.iload_n 2, 1) := dk_28 (dk_at dksX3_levelNow_0 19 rfl rfl)
theorem dX3_levelNow_20 : decode cX3_levelNow 20 = .ok (.baload, 1) := dk_51 (dk_at dksX3_levelNow_0 20 rfl rfl)
theorem dX3_levelNow_21 : decode cX3_levelNow 21 = .ok (.ifCond .eq 20, 3) := dk_153 0 20 (dk_at dksX3_levelNow_0 21 rfl rfl)
theorem dX3_levelNow_24 : decode cX3_levelNow 24 = .ok (.aload_n 0, 1) := dk_42 (dk_at dksX3_levelNow_1 0 rfl rfl)
theorem dX3_levelNow_25 : decode cX3_levelNow 25 = .ok (.getfield 26, 3) := dk_180 0 26 (dk_at dksX3_levelNow_1 1 rfl rfl)
theorem dX3_levelNow_28 : decode cX3_levelNow 28 = .ok (.iload_n 2, 1) := dk_28 (dk_at dksX3_levelNow_1 4 rfl rfl)
theorem dX3_levelNow_29 : decode cX3_levelNow 29 = .ok (.iaload, 1) := dk_46 (dk_at dksX3_levelNow_1 5 rfl rfl)
theorem dX3_levelNow_30 : decode cX3_levelNow 30 = .ok (.aload_n 0, 1) := dk_42 (dk_at dksX3_levelNow_1 6 rfl rfl)
theorem dX3_levelNow_31 : decode cX3_levelNow 31 = .ok (.getfield 105, 3) := dk_180 0 105 (dk_at dksX3_levelNow_1 7 rfl rfl)
theorem dX3_levelNow_34 : decode cX3_levelNow 34 = .ok (.if_icmp .ne 7, 3) := dk_160 0 7 (dk_at dksX3_levelNow_1 10 rfl rfl)
theorem dX3_levelNow_37 : decode cX3_levelNow 37 = .ok (.iconst 1, 1) := dk_4 (dk_at dksX3_levelNow_1 13 rfl rfl)
theorem dX3_levelNow_38 : decode cX3_levelNow 38 = .ok (.goto 4, 3) := dk_167 0 4 (dk_at dksX3_levelNow_1 14 rfl rfl)
theorem dX3_levelNow_41 : decode cX3_levelNow 41 = .ok (.iconst 0, 1) := dk_3 (dk_at dksX3_levelNow_1 17 rfl rfl)
theorem dX3_levelNow_42 : decode cX3_levelNow 42 = .ok (.iadd, 1) := dk_96 (dk_at dksX3_levelNow_1 18 rfl rfl)
theorem dX3_levelNow_43 : decode cX3_levelNow 43 = .ok (.istore_n 1, 1) := dk_60 (dk_at dksX3_levelNow_1 19 rfl rfl)
theorem dX3_levelNow_44 : decode cX3_levelNow 44 = .ok (.iinc 2 1, 3) := dk_132 2 1 (dk_at dksX3_levelNow_1 20 rfl rfl)
theorem dX3_levelNow_47 : decode cX3_levelNow 47 = .ok (.goto (-43), 3) := dk_167 255 213 (dk_at dksX3_levelNow_2 0 rfl rfl)
theorem dX3_levelNow_50 : decode cX3_levelNow 50 = .ok (.iload_n 1, 1) := dk_27 (dk_at dksX3_levelNow_2 3 rfl rfl)
theorem dX3_levelNow_51 : decode cX3_levelNow 51 = .ok (.ireturn, 1) := dk_172 (dk_at dksX3_levelNow_2 4 rfl rfl)
abbrev cX3_latest : ByteArray := prog_13_method_32_code
def yX3_latest : MethodName := ⟨RX3, "latest", "()I"⟩
def dkwX3_latest_2 : List UInt8 := [180, 0, 32, 27, 46, 164, 0, 5, 28, 60, 132, 2, 1, 167, 255, 200, 27, 172]
abbrev dktX3_latest_2 : List UInt8 := dkwX3_latest_2 ++ []
def dkwX3_latest_1 : List UInt8 := [180, 0, 26, 28, 46, 42, 180, 0, 105, 160, 0, 24, 27, 153, 0, 18, 42, 180, 0, 32, 28, 46, 42]
abbrev dktX3_latest_1 : List UInt8 := dkwX3_latest_1 ++ dktX3_latest_2
def dkwX3_latest_0 : List UInt8 := [3, 60, 4, 61, 28, 42, 180, 0, 7, 3, 46, 163, 0, 52, 42, 180, 0, 38, 28, 51, 153, 0, 37, 42]
abbrev dktX3_latest_0 : List UInt8 := dkwX3_latest_0 ++ dktX3_latest_1
theorem dksX3_latest_0 : cX3_latest.data.toList.drop 0 = dktX3_latest_0 := by decide +kernel
theorem dksX3_latest_1 : cX3_latest.data.toList.drop 24 = dktX3_latest_1 := dk_seg dksX3_latest_0 24 rfl rfl
theorem dksX3_latest_2 : cX3_latest.data.toList.drop 47 = dktX3_latest_2 := dk_seg dksX3_latest_1 23 rfl rfl
theorem dX3_latest_0 : decode cX3_latest 0 = .ok (.iconst 0, 1) := dk_3 (dk_at dksX3_latest_0 0 rfl rfl)
theorem dX3_latest_1 : decode cX3_latest 1 = .ok (.istore_n 1, 1) := dk_60 (dk_at dksX3_latest_0 1 rfl rfl)
theorem dX3_latest_2 : decode cX3_latest 2 = .ok (.iconst 1, 1) := dk_4 (dk_at dksX3_latest_0 2 rfl rfl)
theorem dX3_latest_3 : decode cX3_latest 3 = .ok (.istore_n 2, 1) := dk_61 (dk_at dksX3_latest_0 3 rfl rfl)
theorem dX3_latest_4 : decode cX3_latest 4 = .ok (.iload_n 2, 1) := dk_28 (dk_at dksX3_latest_0 4 rfl rfl)
theorem dX3_latest_5 : decode cX3_latest 5 = .ok (.aload_n 0, 1) := dk_42 (dk_at dksX3_latest_0 5 rfl rfl)
theorem dX3_latest_6 : decode cX3_latest 6 = .ok (.getfield 7, 3) := dk_180 0 7 (dk_at dksX3_latest_0 6 rfl rfl)
theorem dX3_latest_9 : decode cX3_latest 9 = .ok (.iconst 0, 1) := dk_3 (dk_at dksX3_latest_0 9 rfl rfl)
theorem dX3_latest_10 : decode cX3_latest 10 = .ok (.iaload, 1) := dk_46 (dk_at dksX3_latest_0 10 rfl rfl)
theorem dX3_latest_11 : decode cX3_latest 11 = .ok (.if_icmp .gt 52, 3) := dk_163 0 52 (dk_at dksX3_latest_0 11 rfl rfl)
theorem dX3_latest_14 : decode cX3_latest 14 = .ok (.aload_n 0, 1) := dk_42 (dk_at dksX3_latest_0 14 rfl rfl)
theorem dX3_latest_15 : decode cX3_latest 15 = .ok (.getfield 38, 3) := dk_180 0 38 (dk_at dksX3_latest_0 15 rfl rfl)
theorem dX3_latest_18 : decode cX3_latest 18 = .ok (.iload_n 2, 1) := dk_28 (dk_at dksX3_latest_0 18 rfl rfl)
theorem dX3_latest_19 : decode cX3_latest 19 = .ok (.baload, 1) := dk_51 (dk_at dksX3_latest_0 19 rfl rfl)
theorem dX3_latest_20 : decode cX3_latest 20 = .ok (.ifCond .eq 37, 3) := dk_153 0 37 (dk_at dksX3_latest_0 20 rfl rfl)
theorem dX3_latest_23 : decode cX3_latest 23 = .ok (.aload_n 0, 1) := dk_42 (dk_at dksX3_latest_0 23 rfl rfl)
theorem dX3_latest_24 : decode cX3_latest 24 = .ok (.getfield 26, 3) := dk_180 0 26 (dk_at dksX3_latest_1 0 rfl rfl)
theorem dX3_latest_27 : decode cX3_latest 27 = .ok (.iload_n 2, 1) := dk_28 (dk_at dksX3_latest_1 3 rfl rfl)
theorem dX3_latest_28 : decode cX3_latest 28 = .ok (.iaload, 1) := dk_46 (dk_at dksX3_latest_1 4 rfl rfl)
theorem dX3_latest_29 : decode cX3_latest 29 = .ok (.aload_n 0, 1) := dk_42 (dk_at dksX3_latest_1 5 rfl rfl)
theorem dX3_latest_30 : decode cX3_latest 30 = .ok (.getfield 105, 3) := dk_180 0 105 (dk_at dksX3_latest_1 6 rfl rfl)
theorem dX3_latest_33 : decode cX3_latest 33 = .ok (.if_icmp .ne 24, 3) := dk_160 0 24 (dk_at dksX3_latest_1 9 rfl rfl)
theorem dX3_latest_36 : decode cX3_latest 36 = .ok (.iload_n 1, 1) := dk_27 (dk_at dksX3_latest_1 12 rfl rfl)
theorem dX3_latest_37 : decode cX3_latest 37 = .ok (.ifCond .eq 18, 3) := dk_153 0 18 (dk_at dksX3_latest_1 13 rfl rfl)
theorem dX3_latest_40 : decode cX3_latest 40 = .ok (.aload_n 0, 1) := dk_42 (dk_at dksX3_latest_1 16 rfl rfl)
theorem dX3_latest_41 : decode cX3_latest 41 = .ok (.getfield 32, 3) := dk_180 0 32 (dk_at dksX3_latest_1 17 rfl rfl)
theorem dX3_latest_44 : decode cX3_latest 44 = .ok (.iload_n 2, 1) := dk_28 (dk_at dksX3_latest_1 20 rfl rfl)
theorem dX3_latest_45 : decode cX3_latest 45 = .ok (.iaload, 1) := dk_46 (dk_at dksX3_latest_1 21 rfl rfl)
theorem dX3_latest_46 : decode cX3_latest 46 = .ok (.aload_n 0, 1) := dk_42 (dk_at dksX3_latest_1 22 rfl rfl)
theorem dX3_latest_47 : decode cX3_latest 47 = .ok (.getfield 32, 3) := dk_180 0 32 (dk_at dksX3_latest_2 0 rfl rfl)
theorem dX3_latest_50 : decode cX3_latest 50 = .ok (.iload_n 1, 1) := dk_27 (dk_at dksX3_latest_2 3 rfl rfl)
theorem dX3_latest_51 : decode cX3_latest 51 = .ok (.iaload, 1) := dk_46 (dk_at dksX3_latest_2 4 rfl rfl)
theorem dX3_latest_52 : decode cX3_latest 52 = .ok (.if_icmp .le 5, 3) := dk_164 0 5 (dk_at dksX3_latest_2 5 rfl rfl)
theorem dX3_latest_55 : decode cX3_latest 55 = .ok (.iload_n 2, 1) := dk_28 (dk_at dksX3_latest_2 8 rfl rfl)
theorem dX3_latest_56 : decode cX3_latest 56 = .ok (.istore_n 1, 1) := dk_60 (dk_at dksX3_latest_2 9 rfl rfl)
theorem dX3_latest_57 : decode cX3_latest 57 = .ok (.iinc 2 1, 3) := dk_132 2 1 (dk_at dksX3_latest_2 10 rfl rfl)
theorem dX3_latest_60 : decode cX3_latest 60 = .ok (.goto (-56), 3) := dk_167 255 200 (dk_at dksX3_latest_2 13 rfl rfl)
theorem dX3_latest_63 : decode cX3_latest 63 = .ok (.iload_n 1, 1) := dk_27 (dk_at dksX3_latest_2 16 rfl rfl)
theorem dX3_latest_64 : decode cX3_latest 64 = .ok (.ireturn, 1) := dk_172 (dk_at dksX3_latest_2 17 rfl rfl)
abbrev cX3_isDropped : ByteArray := prog_13_method_34_code
def yX3_isDropped : MethodName := ⟨RX3, "isDropped", "(I)Z"⟩
def dkwX3_isDropped_3 : List UInt8 := [180, 0, 44, 29, 51, 154, 0, 5, 3, 172, 132, 2, 1, 167, 255, 199, 4, 172]
abbrev dktX3_isDropped_3 : List UInt8 := dkwX3_isDropped_3 ++ []
def dkwX3_isDropped_2 : List UInt8 := [28, 182, 0, 108, 184, 0, 71, 62, 29, 27, 159, 0, 23, 42, 180, 0, 26, 29, 46, 158, 0, 14, 42]
abbrev dktX3_isDropped_2 : List UInt8 := dkwX3_isDropped_2 ++ dktX3_isDropped_3
def dkwX3_isDropped_1 : List UInt8 := [172, 3, 61, 28, 42, 42, 180, 0, 29, 27, 46, 182, 0, 99, 162, 0, 49, 42, 42, 180, 0, 29, 27, 46]
abbrev dktX3_isDropped_1 : List UInt8 := dkwX3_isDropped_1 ++ dktX3_isDropped_2
def dkwX3_isDropped_0 : List UInt8 := [42, 180, 0, 26, 27, 46, 42, 180, 0, 105, 159, 0, 13, 42, 180, 0, 29, 27, 46, 2, 160, 0, 5, 3]
abbrev dktX3_isDropped_0 : List UInt8 := dkwX3_isDropped_0 ++ dktX3_isDropped_1
theorem dksX3_isDropped_0 : cX3_isDropped.data.toList.drop 0 = dktX3_isDropped_0 := by decide +kernel
theorem dksX3_isDropped_1 : cX3_isDropped.data.toList.drop 24 = dktX3_isDropped_1 := dk_seg dksX3_isDropped_0 24 rfl rfl
theorem dksX3_isDropped_2 : cX3_isDropped.data.toList.drop 48 = dktX3_isDropped_2 := dk_seg dksX3_isDropped_1 24 rfl rfl
theorem dksX3_isDropped_3 : cX3_isDropped.data.toList.drop 71 = dktX3_isDropped_3 := dk_seg dksX3_isDropped_2 23 rfl rfl
theorem dX3_isDropped_0 : decode cX3_isDropped 0 = .ok (.aload_n 0, 1) := dk_42 (dk_at dksX3_isDropped_0 0 rfl rfl)
theorem dX3_isDropped_1 : decode cX3_isDropped 1 = .ok (.getfield 26, 3) := dk_180 0 26 (dk_at dksX3_isDropped_0 1 rfl rfl)
theorem dX3_isDropped_4 : decode cX3_isDropped 4 = .ok (.iload_n 1, 1) := dk_27 (dk_at dksX3_isDropped_0 4 rfl rfl)
theorem dX3_isDropped_5 : decode cX3_isDropped 5 = .ok (.iaload, 1) := dk_46 (dk_at dksX3_isDropped_0 5 rfl rfl)
theorem dX3_isDropped_6 : decode cX3_isDropped 6 = .ok (.aload_n 0, 1) := dk_42 (dk_at dksX3_isDropped_0 6 rfl rfl)
theorem dX3_isDropped_7 : decode cX3_isDropped 7 = .ok (.getfield 105, 3) := dk_180 0 105 (dk_at dksX3_isDropped_0 7 rfl rfl)
theorem dX3_isDropped_10 : decode cX3_isDropped 10 = .ok (.if_icmp .eq 13, 3) := dk_159 0 13 (dk_at dksX3_isDropped_0 10 rfl rfl)
theorem dX3_isDropped_13 : decode cX3_isDropped 13 = .ok (.aload_n 0, 1) := dk_42 (dk_at dksX3_isDropped_0 13 rfl rfl)
theorem dX3_isDropped_14 : decode cX3_isDropped 14 = .ok (.getfield 29, 3) := dk_180 0 29 (dk_at dksX3_isDropped_0 14 rfl rfl)
theorem dX3_isDropped_17 : decode cX3_isDropped 17 = .ok (.iload_n 1, 1) := dk_27 (dk_at dksX3_isDropped_0 17 rfl rfl)
theorem dX3_isDropped_18 : decode cX3_isDropped 18 = .ok (.iaload, 1) := dk_46 (dk_at dksX3_isDropped_0 18 rfl rfl)
theorem dX3_isDropped_19 : decode cX3_isDropped 19 = .ok (.iconst (-1), 1) := dk_2 (dk_at dksX3_isDropped_0 19 rfl rfl)
theorem dX3_isDropped_20 : decode cX3_isDropped 20 = .ok (.if_icmp .ne 5, 3) := dk_160 0 5 (dk_at dksX3_isDropped_0 20 rfl rfl)
theorem dX3_isDropped_23 : decode cX3_isDropped 23 = .ok (.iconst 0, 1) := dk_3 (dk_at dksX3_isDropped_0 23 rfl rfl)
theorem dX3_isDropped_24 : decode cX3_isDropped 24 = .ok (.ireturn, 1) := dk_172 (dk_at dksX3_isDropped_1 0 rfl rfl)
theorem dX3_isDropped_25 : decode cX3_isDropped 25 = .ok (.iconst 0, 1) := dk_3 (dk_at dksX3_isDropped_1 1 rfl rfl)
theorem dX3_isDropped_26 : decode cX3_isDropped 26 = .ok (.istore_n 2, 1) := dk_61 (dk_at dksX3_isDropped_1 2 rfl rfl)
theorem dX3_isDropped_27 : decode cX3_isDropped 27 = .ok (.iload_n 2, 1) := dk_28 (dk_at dksX3_isDropped_1 3 rfl rfl)
theorem dX3_isDropped_28 : decode cX3_isDropped 28 = .ok (.aload_n 0, 1) := dk_42 (dk_at dksX3_isDropped_1 4 rfl rfl)
theorem dX3_isDropped_29 : decode cX3_isDropped 29 = .ok (.aload_n 0, 1) := dk_42 (dk_at dksX3_isDropped_1 5 rfl rfl)
theorem dX3_isDropped_30 : decode cX3_isDropped 30 = .ok (.getfield 29, 3) := dk_180 0 29 (dk_at dksX3_isDropped_1 6 rfl rfl)
theorem dX3_isDropped_33 : decode cX3_isDropped 33 = .ok (.iload_n 1, 1) := dk_27 (dk_at dksX3_isDropped_1 9 rfl rfl)
theorem dX3_isDropped_34 : decode cX3_isDropped 34 = .ok (.iaload, 1) := dk_46 (dk_at dksX3_isDropped_1 10 rfl rfl)
theorem dX3_isDropped_35 : decode cX3_isDropped 35 = .ok (.invokevirtual 99, 3) := dk_182 0 99 (dk_at dksX3_isDropped_1 11 rfl rfl)
theorem dX3_isDropped_38 : decode cX3_isDropped 38 = .ok (.if_icmp .ge 49, 3) := dk_162 0 49 (dk_at dksX3_isDropped_1 14 rfl rfl)
theorem dX3_isDropped_41 : decode cX3_isDropped 41 = .ok (.aload_n 0, 1) := dk_42 (dk_at dksX3_isDropped_1 17 rfl rfl)
theorem dX3_isDropped_42 : decode cX3_isDropped 42 = .ok (.aload_n 0, 1) := dk_42 (dk_at dksX3_isDropped_1 18 rfl rfl)
theorem dX3_isDropped_43 : decode cX3_isDropped 43 = .ok (.getfield 29, 3) := dk_180 0 29 (dk_at dksX3_isDropped_1 19 rfl rfl)
theorem dX3_isDropped_46 : decode cX3_isDropped 46 = .ok (.iload_n 1, 1) := dk_27 (dk_at dksX3_isDropped_1 22 rfl rfl)
theorem dX3_isDropped_47 : decode cX3_isDropped 47 = .ok (.iaload, 1) := dk_46 (dk_at dksX3_isDropped_1 23 rfl rfl)
theorem dX3_isDropped_48 : decode cX3_isDropped 48 = .ok (.iload_n 2, 1) := dk_28 (dk_at dksX3_isDropped_2 0 rfl rfl)
theorem dX3_isDropped_49 : decode cX3_isDropped 49 = .ok (.invokevirtual 108, 3) := dk_182 0 108 (dk_at dksX3_isDropped_2 1 rfl rfl)
theorem dX3_isDropped_52 : decode cX3_isDropped 52 = .ok (.invokestatic 71, 3) := dk_184 0 71 (dk_at dksX3_isDropped_2 4 rfl rfl)
theorem dX3_isDropped_55 : decode cX3_isDropped 55 = .ok (.istore_n 3, 1) := dk_62 (dk_at dksX3_isDropped_2 7 rfl rfl)
theorem dX3_isDropped_56 : decode cX3_isDropped 56 = .ok (.iload_n 3, 1) := dk_29 (dk_at dksX3_isDropped_2 8 rfl rfl)
theorem dX3_isDropped_57 : decode cX3_isDropped 57 = .ok (.iload_n 1, 1) := dk_27 (dk_at dksX3_isDropped_2 9 rfl rfl)
theorem dX3_isDropped_58 : decode cX3_isDropped 58 = .ok (.if_icmp .eq 23, 3) := dk_159 0 23 (dk_at dksX3_isDropped_2 10 rfl rfl)
theorem dX3_isDropped_61 : decode cX3_isDropped 61 = .ok (.aload_n 0, 1) := dk_42 (dk_at dksX3_isDropped_2 13 rfl rfl)
theorem dX3_isDropped_62 : decode cX3_isDropped 62 = .ok (.getfield 26, 3) := dk_180 0 26 (dk_at dksX3_isDropped_2 14 rfl rfl)
theorem dX3_isDropped_65 : decode cX3_isDropped 65 = .ok (.iload_n 3, 1) := dk_29 (dk_at dksX3_isDropped_2 17 rfl rfl)
theorem dX3_isDropped_66 : decode cX3_isDropped 66 = .ok (.iaload, 1) := dk_46 (dk_at dksX3_isDropped_2 18 rfl rfl)
theorem dX3_isDropped_67 : decode cX3_isDropped 67 = .ok (.ifCond .le 14, 3) := dk_158 0 14 (dk_at dksX3_isDropped_2 19 rfl rfl)
theorem dX3_isDropped_70 : decode cX3_isDropped 70 = .ok (.aload_n 0, 1) := dk_42 (dk_at dksX3_isDropped_2 22 rfl rfl)
theorem dX3_isDropped_71 : decode cX3_isDropped 71 = .ok (.getfield 44, 3) := dk_180 0 44 (dk_at dksX3_isDropped_3 0 rfl rfl)
theorem dX3_isDropped_74 : decode cX3_isDropped 74 = .ok (.iload_n 3, 1) := dk_29 (dk_at dksX3_isDropped_3 3 rfl rfl)
theorem dX3_isDropped_75 : decode cX3_isDropped 75 = .ok (.baload, 1) := dk_51 (dk_at dksX3_isDropped_3 4 rfl rfl)
theorem dX3_isDropped_76 : decode cX3_isDropped 76 = .ok (.ifCond .ne 5, 3) := dk_154 0 5 (dk_at dksX3_isDropped_3 5 rfl rfl)
theorem dX3_isDropped_79 : decode cX3_isDropped 79 = .ok (.iconst 0, 1) := dk_3 (dk_at dksX3_isDropped_3 8 rfl rfl)
theorem dX3_isDropped_80 : decode cX3_isDropped 80 = .ok (.ireturn, 1) := dk_172 (dk_at dksX3_isDropped_3 9 rfl rfl)
theorem dX3_isDropped_81 : decode cX3_isDropped 81 = .ok (.iinc 2 1, 3) := dk_132 2 1 (dk_at dksX3_isDropped_3 10 rfl rfl)
theorem dX3_isDropped_84 : decode cX3_isDropped 84 = .ok (.goto (-57), 3) := dk_167 255 199 (dk_at dksX3_isDropped_3 13 rfl rfl)
theorem dX3_isDropped_87 : decode cX3_isDropped 87 = .ok (.iconst 1, 1) := dk_4 (dk_at dksX3_isDropped_3 16 rfl rfl)
theorem dX3_isDropped_88 : decode cX3_isDropped 88 = .ok (.ireturn, 1) := dk_172 (dk_at dksX3_isDropped_3 17 rfl rfl)
abbrev cX3_comes : ByteArray := prog_13_method_26_code
def yX3_comes : MethodName := ⟨RX3, "comes", "(II)V"⟩
def dkwX3_comes_3 : List UInt8 := [96, 181, 0, 102, 177]
abbrev dktX3_comes_3 : List UInt8 := dkwX3_comes_3 ++ []
def dkwX3_comes_2 : List UInt8 := [184, 0, 71, 42, 180, 0, 102, 79, 42, 180, 0, 35, 42, 180, 0, 102, 27, 79, 42, 89, 180, 0, 102, 4]
abbrev dktX3_comes_2 : List UInt8 := dkwX3_comes_2 ++ dktX3_comes_3
def dkwX3_comes_1 : List UInt8 := [184, 0, 71, 42, 180, 0, 105, 79, 42, 180, 0, 29, 27, 184, 0, 71, 28, 79, 42, 180, 0, 32, 27]
abbrev dktX3_comes_1 : List UInt8 := dkwX3_comes_1 ++ dktX3_comes_2
def dkwX3_comes_0 : List UInt8 := [42, 180, 0, 23, 27, 184, 0, 71, 27, 158, 0, 7, 4, 167, 0, 4, 2, 79, 42, 180, 0, 26, 27]
abbrev dktX3_comes_0 : List UInt8 := dkwX3_comes_0 ++ dktX3_comes_1
theorem dksX3_comes_0 : cX3_comes.data.toList.drop 0 = dktX3_comes_0 := by decide +kernel
theorem dksX3_comes_1 : cX3_comes.data.toList.drop 23 = dktX3_comes_1 := dk_seg dksX3_comes_0 23 rfl rfl
theorem dksX3_comes_2 : cX3_comes.data.toList.drop 46 = dktX3_comes_2 := dk_seg dksX3_comes_1 23 rfl rfl
theorem dksX3_comes_3 : cX3_comes.data.toList.drop 70 = dktX3_comes_3 := dk_seg dksX3_comes_2 24 rfl rfl
theorem dX3_comes_0 : decode cX3_comes 0 = .ok (.aload_n 0, 1) := dk_42 (dk_at dksX3_comes_0 0 rfl rfl)
theorem dX3_comes_1 : decode cX3_comes 1 = .ok (.getfield 23, 3) := dk_180 0 23 (dk_at dksX3_comes_0 1 rfl rfl)
theorem dX3_comes_4 : decode cX3_comes 4 = .ok (.iload_n 1, 1) := dk_27 (dk_at dksX3_comes_0 4 rfl rfl)
theorem dX3_comes_5 : decode cX3_comes 5 = .ok (.invokestatic 71, 3) := dk_184 0 71 (dk_at dksX3_comes_0 5 rfl rfl)
theorem dX3_comes_8 : decode cX3_comes 8 = .ok (.iload_n 1, 1) := dk_27 (dk_at dksX3_comes_0 8 rfl rfl)
theorem dX3_comes_9 : decode cX3_comes 9 = .ok (.ifCond .le 7, 3) := dk_158 0 7 (dk_at dksX3_comes_0 9 rfl rfl)
theorem dX3_comes_12 : decode cX3_comes 12 = .ok (.iconst 1, 1) := dk_4 (dk_at dksX3_comes_0 12 rfl rfl)
theorem dX3_comes_13 : decode cX3_comes 13 = .ok (.goto 4, 3) := dk_167 0 4 (dk_at dksX3_comes_0 13 rfl rfl)
theorem dX3_comes_16 : decode cX3_comes 16 = .ok (.iconst (-1), 1) := dk_2 (dk_at dksX3_comes_0 16 rfl rfl)
theorem dX3_comes_17 : decode cX3_comes 17 = .ok (.iastore, 1) := dk_79 (dk_at dksX3_comes_0 17 rfl rfl)
theorem dX3_comes_18 : decode cX3_comes 18 = .ok (.aload_n 0, 1) := dk_42 (dk_at dksX3_comes_0 18 rfl rfl)
theorem dX3_comes_19 : decode cX3_comes 19 = .ok (.getfield 26, 3) := dk_180 0 26 (dk_at dksX3_comes_0 19 rfl rfl)
theorem dX3_comes_22 : decode cX3_comes 22 = .ok (.iload_n 1, 1) := dk_27 (dk_at dksX3_comes_0 22 rfl rfl)
theorem dX3_comes_23 : decode cX3_comes 23 = .ok (.invokestatic 71, 3) := dk_184 0 71 (dk_at dksX3_comes_1 0 rfl rfl)
theorem dX3_comes_26 : decode cX3_comes 26 = .ok (.aload_n 0, 1) := dk_42 (dk_at dksX3_comes_1 3 rfl rfl)
theorem dX3_comes_27 : decode cX3_comes 27 = .ok (.getfield 105, 3) := dk_180 0 105 (dk_at dksX3_comes_1 4 rfl rfl)
theorem dX3_comes_30 : decode cX3_comes 30 = .ok (.iastore, 1) := dk_79 (dk_at dksX3_comes_1 7 rfl rfl)
theorem dX3_comes_31 : decode cX3_comes 31 = .ok (.aload_n 0, 1) := dk_42 (dk_at dksX3_comes_1 8 rfl rfl)
theorem dX3_comes_32 : decode cX3_comes 32 = .ok (.getfield 29, 3) := dk_180 0 29 (dk_at dksX3_comes_1 9 rfl rfl)
theorem dX3_comes_35 : decode cX3_comes 35 = .ok (.iload_n 1, 1) := dk_27 (dk_at dksX3_comes_1 12 rfl rfl)
theorem dX3_comes_36 : decode cX3_comes 36 = .ok (.invokestatic 71, 3) := dk_184 0 71 (dk_at dksX3_comes_1 13 rfl rfl)
theorem dX3_comes_39 : decode cX3_comes 39 = .ok (.iload_n 2, 1) := dk_28 (dk_at dksX3_comes_1 16 rfl rfl)
theorem dX3_comes_40 : decode cX3_comes 40 = .ok (.iastore, 1) := dk_79 (dk_at dksX3_comes_1 17 rfl rfl)
theorem dX3_comes_41 : decode cX3_comes 41 = .ok (.aload_n 0, 1) := dk_42 (dk_at dksX3_comes_1 18 rfl rfl)
theorem dX3_comes_42 : decode cX3_comes 42 = .ok (.getfield 32, 3) := dk_180 0 32 (dk_at dksX3_comes_1 19 rfl rfl)
theorem dX3_comes_45 : decode cX3_comes 45 = .ok (.iload_n 1, 1) := dk_27 (dk_at dksX3_comes_1 22 rfl rfl)
theorem dX3_comes_46 : decode cX3_comes 46 = .ok (.invokestatic 71, 3) := dk_184 0 71 (dk_at dksX3_comes_2 0 rfl rfl)
theorem dX3_comes_49 : decode cX3_comes 49 = .ok (.aload_n 0, 1) := dk_42 (dk_at dksX3_comes_2 3 rfl rfl)
theorem dX3_comes_50 : decode cX3_comes 50 = .ok (.getfield 102, 3) := dk_180 0 102 (dk_at dksX3_comes_2 4 rfl rfl)
theorem dX3_comes_53 : decode cX3_comes 53 = .ok (.iastore, 1) := dk_79 (dk_at dksX3_comes_2 7 rfl rfl)
theorem dX3_comes_54 : decode cX3_comes 54 = .ok (.aload_n 0, 1) := dk_42 (dk_at dksX3_comes_2 8 rfl rfl)
theorem dX3_comes_55 : decode cX3_comes 55 = .ok (.getfield 35, 3) := dk_180 0 35 (dk_at dksX3_comes_2 9 rfl rfl)
theorem dX3_comes_58 : decode cX3_comes 58 = .ok (.aload_n 0, 1) := dk_42 (dk_at dksX3_comes_2 12 rfl rfl)
theorem dX3_comes_59 : decode cX3_comes 59 = .ok (.getfield 102, 3) := dk_180 0 102 (dk_at dksX3_comes_2 13 rfl rfl)
theorem dX3_comes_62 : decode cX3_comes 62 = .ok (.iload_n 1, 1) := dk_27 (dk_at dksX3_comes_2 16 rfl rfl)
theorem dX3_comes_63 : decode cX3_comes 63 = .ok (.iastore, 1) := dk_79 (dk_at dksX3_comes_2 17 rfl rfl)
theorem dX3_comes_64 : decode cX3_comes 64 = .ok (.aload_n 0, 1) := dk_42 (dk_at dksX3_comes_2 18 rfl rfl)
theorem dX3_comes_65 : decode cX3_comes 65 = .ok (.dup, 1) := dk_89 (dk_at dksX3_comes_2 19 rfl rfl)
theorem dX3_comes_66 : decode cX3_comes 66 = .ok (.getfield 102, 3) := dk_180 0 102 (dk_at dksX3_comes_2 20 rfl rfl)
theorem dX3_comes_69 : decode cX3_comes 69 = .ok (.iconst 1, 1) := dk_4 (dk_at dksX3_comes_2 23 rfl rfl)
theorem dX3_comes_70 : decode cX3_comes 70 = .ok (.iadd, 1) := dk_96 (dk_at dksX3_comes_3 0 rfl rfl)
theorem dX3_comes_71 : decode cX3_comes 71 = .ok (.putfield 102, 3) := dk_181 0 102 (dk_at dksX3_comes_3 1 rfl rfl)
theorem dX3_comes_74 : decode cX3_comes 74 = .ok (.return_, 1) := dk_177 (dk_at dksX3_comes_3 4 rfl rfl)
abbrev cX3_startsAnew : ByteArray := prog_13_method_37_code
def yX3_startsAnew : MethodName := ⟨RX3, "startsAnew", "()V"⟩
def dkwX3_startsAnew_3 : List UInt8 := [182, 0, 131, 177]
abbrev dktX3_startsAnew_3 : List UInt8 := dkwX3_startsAnew_3 ++ []
def dkwX3_startsAnew_2 : List UInt8 := [4, 96, 181, 0, 144, 42, 3, 181, 0, 141, 42, 180, 0, 7, 16, 11, 92, 46, 4, 96, 79, 42, 3]
abbrev dktX3_startsAnew_2 : List UInt8 := dkwX3_startsAnew_2 ++ dktX3_startsAnew_3
def dkwX3_startsAnew_1 : List UInt8 := [180, 0, 7, 8, 46, 42, 180, 0, 144, 4, 96, 184, 0, 138, 104, 162, 0, 4, 177, 42, 89, 180, 0, 144]
abbrev dktX3_startsAnew_1 : List UInt8 := dkwX3_startsAnew_1 ++ dktX3_startsAnew_2
def dkwX3_startsAnew_0 : List UInt8 := [42, 89, 180, 0, 141, 4, 96, 181, 0, 141, 42, 180, 0, 7, 8, 46, 153, 0, 26, 42, 180, 0, 141, 42]
abbrev dktX3_startsAnew_0 : List UInt8 := dkwX3_startsAnew_0 ++ dktX3_startsAnew_1
theorem dksX3_startsAnew_0 : cX3_startsAnew.data.toList.drop 0 = dktX3_startsAnew_0 := by decide +kernel
theorem dksX3_startsAnew_1 : cX3_startsAnew.data.toList.drop 24 = dktX3_startsAnew_1 := dk_seg dksX3_startsAnew_0 24 rfl rfl
theorem dksX3_startsAnew_2 : cX3_startsAnew.data.toList.drop 48 = dktX3_startsAnew_2 := dk_seg dksX3_startsAnew_1 24 rfl rfl
theorem dksX3_startsAnew_3 : cX3_startsAnew.data.toList.drop 71 = dktX3_startsAnew_3 := dk_seg dksX3_startsAnew_2 23 rfl rfl
theorem dX3_startsAnew_0 : decode cX3_startsAnew 0 = .ok (.aload_n 0, 1) := dk_42 (dk_at dksX3_startsAnew_0 0 rfl rfl)
theorem dX3_startsAnew_1 : decode cX3_startsAnew 1 = .ok (.dup, 1) := dk_89 (dk_at dksX3_startsAnew_0 1 rfl rfl)
theorem dX3_startsAnew_2 : decode cX3_startsAnew 2 = .ok (.getfield 141, 3) := dk_180 0 141 (dk_at dksX3_startsAnew_0 2 rfl rfl)
theorem dX3_startsAnew_5 : decode cX3_startsAnew 5 = .ok (.iconst 1, 1) := dk_4 (dk_at dksX3_startsAnew_0 5 rfl rfl)
theorem dX3_startsAnew_6 : decode cX3_startsAnew 6 = .ok (.iadd, 1) := dk_96 (dk_at dksX3_startsAnew_0 6 rfl rfl)
theorem dX3_startsAnew_7 : decode cX3_startsAnew 7 = .ok (.putfield 141, 3) := dk_181 0 141 (dk_at dksX3_startsAnew_0 7 rfl rfl)
theorem dX3_startsAnew_10 : decode cX3_startsAnew 10 = .ok (.aload_n 0, 1) := dk_42 (dk_at dksX3_startsAnew_0 10 rfl rfl)
theorem dX3_startsAnew_11 : decode cX3_startsAnew 11 = .ok (.getfield 7, 3) := dk_180 0 7 (dk_at dksX3_startsAnew_0 11 rfl rfl)
theorem dX3_startsAnew_14 : decode cX3_startsAnew 14 = .ok (.iconst 5, 1) := dk_8 (dk_at dksX3_startsAnew_0 14 rfl rfl)
theorem dX3_startsAnew_15 : decode cX3_startsAnew 15 = .ok (.iaload, 1) := dk_46 (dk_at dksX3_startsAnew_0 15 rfl rfl)
theorem dX3_startsAnew_16 : decode cX3_startsAnew 16 = .ok (.ifCond .eq 26, 3) := dk_153 0 26 (dk_at dksX3_startsAnew_0 16 rfl rfl)
theorem dX3_startsAnew_19 : decode cX3_startsAnew 19 = .ok (.aload_n 0, 1) := dk_42 (dk_at dksX3_startsAnew_0 19 rfl rfl)
theorem dX3_startsAnew_20 : decode cX3_startsAnew 20 = .ok (.getfield 141, 3) := dk_180 0 141 (dk_at dksX3_startsAnew_0 20 rfl rfl)
theorem dX3_startsAnew_23 : decode cX3_startsAnew 23 = .ok (.aload_n 0, 1) := dk_42 (dk_at dksX3_startsAnew_0 23 rfl rfl)
theorem dX3_startsAnew_24 : decode cX3_startsAnew 24 = .ok (.getfield 7, 3) := dk_180 0 7 (dk_at dksX3_startsAnew_1 0 rfl rfl)
theorem dX3_startsAnew_27 : decode cX3_startsAnew 27 = .ok (.iconst 5, 1) := dk_8 (dk_at dksX3_startsAnew_1 3 rfl rfl)
theorem dX3_startsAnew_28 : decode cX3_startsAnew 28 = .ok (.iaload, 1) := dk_46 (dk_at dksX3_startsAnew_1 4 rfl rfl)
theorem dX3_startsAnew_29 : decode cX3_startsAnew 29 = .ok (.aload_n 0, 1) := dk_42 (dk_at dksX3_startsAnew_1 5 rfl rfl)
theorem dX3_startsAnew_30 : decode cX3_startsAnew 30 = .ok (.getfield 144, 3) := dk_180 0 144 (dk_at dksX3_startsAnew_1 6 rfl rfl)
theorem dX3_startsAnew_33 : decode cX3_startsAnew 33 = .ok (.iconst 1, 1) := dk_4 (dk_at dksX3_startsAnew_1 9 rfl rfl)
theorem dX3_startsAnew_34 : decode cX3_startsAnew 34 = .ok (.iadd, 1) := dk_96 (dk_at dksX3_startsAnew_1 10 rfl rfl)
theorem dX3_startsAnew_35 : decode cX3_startsAnew 35 = .ok (.invokestatic 138, 3) := dk_184 0 138 (dk_at dksX3_startsAnew_1 11 rfl rfl)
theorem dX3_startsAnew_38 : decode cX3_startsAnew 38 = .ok (.imul, 1) := dk_104 (dk_at dksX3_startsAnew_1 14 rfl rfl)
theorem dX3_startsAnew_39 : decode cX3_startsAnew 39 = .ok (.if_icmp .ge 4, 3) := dk_162 0 4 (dk_at dksX3_startsAnew_1 15 rfl rfl)
theorem dX3_startsAnew_42 : decode cX3_startsAnew 42 = .ok (.return_, 1) := dk_177 (dk_at dksX3_startsAnew_1 18 rfl rfl)
theorem dX3_startsAnew_43 : decode cX3_startsAnew 43 = .ok (.aload_n 0, 1) := dk_42 (dk_at dksX3_startsAnew_1 19 rfl rfl)
theorem dX3_startsAnew_44 : decode cX3_startsAnew 44 = .ok (.dup, 1) := dk_89 (dk_at dksX3_startsAnew_1 20 rfl rfl)
theorem dX3_startsAnew_45 : decode cX3_startsAnew 45 = .ok (.getfield 144, 3) := dk_180 0 144 (dk_at dksX3_startsAnew_1 21 rfl rfl)
theorem dX3_startsAnew_48 : decode cX3_startsAnew 48 = .ok (.iconst 1, 1) := dk_4 (dk_at dksX3_startsAnew_2 0 rfl rfl)
theorem dX3_startsAnew_49 : decode cX3_startsAnew 49 = .ok (.iadd, 1) := dk_96 (dk_at dksX3_startsAnew_2 1 rfl rfl)
theorem dX3_startsAnew_50 : decode cX3_startsAnew 50 = .ok (.putfield 144, 3) := dk_181 0 144 (dk_at dksX3_startsAnew_2 2 rfl rfl)
theorem dX3_startsAnew_53 : decode cX3_startsAnew 53 = .ok (.aload_n 0, 1) := dk_42 (dk_at dksX3_startsAnew_2 5 rfl rfl)
theorem dX3_startsAnew_54 : decode cX3_startsAnew 54 = .ok (.iconst 0, 1) := dk_3 (dk_at dksX3_startsAnew_2 6 rfl rfl)
theorem dX3_startsAnew_55 : decode cX3_startsAnew 55 = .ok (.putfield 141, 3) := dk_181 0 141 (dk_at dksX3_startsAnew_2 7 rfl rfl)
theorem dX3_startsAnew_58 : decode cX3_startsAnew 58 = .ok (.aload_n 0, 1) := dk_42 (dk_at dksX3_startsAnew_2 10 rfl rfl)
theorem dX3_startsAnew_59 : decode cX3_startsAnew 59 = .ok (.getfield 7, 3) := dk_180 0 7 (dk_at dksX3_startsAnew_2 11 rfl rfl)
theorem dX3_startsAnew_62 : decode cX3_startsAnew 62 = .ok (.bipush 11, 2) := dk_16 11 (dk_at dksX3_startsAnew_2 14 rfl rfl)
theorem dX3_startsAnew_64 : decode cX3_startsAnew 64 = .ok (.dup2, 1) := dk_92 (dk_at dksX3_startsAnew_2 16 rfl rfl)
theorem dX3_startsAnew_65 : decode cX3_startsAnew 65 = .ok (.iaload, 1) := dk_46 (dk_at dksX3_startsAnew_2 17 rfl rfl)
theorem dX3_startsAnew_66 : decode cX3_startsAnew 66 = .ok (.iconst 1, 1) := dk_4 (dk_at dksX3_startsAnew_2 18 rfl rfl)
theorem dX3_startsAnew_67 : decode cX3_startsAnew 67 = .ok (.iadd, 1) := dk_96 (dk_at dksX3_startsAnew_2 19 rfl rfl)
theorem dX3_startsAnew_68 : decode cX3_startsAnew 68 = .ok (.iastore, 1) := dk_79 (dk_at dksX3_startsAnew_2 20 rfl rfl)
theorem dX3_startsAnew_69 : decode cX3_startsAnew 69 = .ok (.aload_n 0, 1) := dk_42 (dk_at dksX3_startsAnew_2 21 rfl rfl)
theorem dX3_startsAnew_70 : decode cX3_startsAnew 70 = .ok (.iconst 0, 1) := dk_3 (dk_at dksX3_startsAnew_2 22 rfl rfl)
theorem dX3_startsAnew_71 : decode cX3_startsAnew 71 = .ok (.invokevirtual 131, 3) := dk_182 0 131 (dk_at dksX3_startsAnew_3 0 rfl rfl)
theorem dX3_startsAnew_74 : decode cX3_startsAnew 74 = .ok (.return_, 1) := dk_177 (dk_at dksX3_startsAnew_3 3 rfl rfl)
abbrev cX3_luby : ByteArray := prog_13_method_36_code
def yX3_luby : MethodName := ⟨RX3, "luby", "(I)I"⟩
def dkwX3_luby_1 : List UInt8 := [160, 0, 7, 27, 167, 0, 11, 26, 27, 100, 4, 96, 184, 0, 138, 172]
abbrev dktX3_luby_1 : List UInt8 := dkwX3_luby_1 ++ []
def dkwX3_luby_0 : List UInt8 := [4, 60, 5, 27, 104, 4, 100, 26, 162, 0, 10, 27, 5, 104, 60, 167, 255, 243, 5, 27, 104, 4, 100, 26]
abbrev dktX3_luby_0 : List UInt8 := dkwX3_luby_0 ++ dktX3_luby_1
theorem dksX3_luby_0 : cX3_luby.data.toList.drop 0 = dktX3_luby_0 := by decide +kernel
theorem dksX3_luby_1 : cX3_luby.data.toList.drop 24 = dktX3_luby_1 := dk_seg dksX3_luby_0 24 rfl rfl
theorem dX3_luby_0 : decode cX3_luby 0 = .ok (.iconst 1, 1) := dk_4 (dk_at dksX3_luby_0 0 rfl rfl)
theorem dX3_luby_1 : decode cX3_luby 1 = .ok (.istore_n 1, 1) := dk_60 (dk_at dksX3_luby_0 1 rfl rfl)
theorem dX3_luby_2 : decode cX3_luby 2 = .ok (.iconst 2, 1) := dk_5 (dk_at dksX3_luby_0 2 rfl rfl)
theorem dX3_luby_3 : decode cX3_luby 3 = .ok (.iload_n 1, 1) := dk_27 (dk_at dksX3_luby_0 3 rfl rfl)
theorem dX3_luby_4 : decode cX3_luby 4 = .ok (.imul, 1) := dk_104 (dk_at dksX3_luby_0 4 rfl rfl)
theorem dX3_luby_5 : decode cX3_luby 5 = .ok (.iconst 1, 1) := dk_4 (dk_at dksX3_luby_0 5 rfl rfl)
theorem dX3_luby_6 : decode cX3_luby 6 = .ok (.isub, 1) := dk_100 (dk_at dksX3_luby_0 6 rfl rfl)
theorem dX3_luby_7 : decode cX3_luby 7 = .ok (.iload_n 0, 1) := dk_26 (dk_at dksX3_luby_0 7 rfl rfl)
theorem dX3_luby_8 : decode cX3_luby 8 = .ok (.if_icmp .ge 10, 3) := dk_162 0 10 (dk_at dksX3_luby_0 8 rfl rfl)
theorem dX3_luby_11 : decode cX3_luby 11 = .ok (.iload_n 1, 1) := dk_27 (dk_at dksX3_luby_0 11 rfl rfl)
theorem dX3_luby_12 : decode cX3_luby 12 = .ok (.iconst 2, 1) := dk_5 (dk_at dksX3_luby_0 12 rfl rfl)
theorem dX3_luby_13 : decode cX3_luby 13 = .ok (.imul, 1) := dk_104 (dk_at dksX3_luby_0 13 rfl rfl)
theorem dX3_luby_14 : decode cX3_luby 14 = .ok (.istore_n 1, 1) := dk_60 (dk_at dksX3_luby_0 14 rfl rfl)
theorem dX3_luby_15 : decode cX3_luby 15 = .ok (.goto (-13), 3) := dk_167 255 243 (dk_at dksX3_luby_0 15 rfl rfl)
theorem dX3_luby_18 : decode cX3_luby 18 = .ok (.iconst 2, 1) := dk_5 (dk_at dksX3_luby_0 18 rfl rfl)
theorem dX3_luby_19 : decode cX3_luby 19 = .ok (.iload_n 1, 1) := dk_27 (dk_at dksX3_luby_0 19 rfl rfl)
theorem dX3_luby_20 : decode cX3_luby 20 = .ok (.imul, 1) := dk_104 (dk_at dksX3_luby_0 20 rfl rfl)
theorem dX3_luby_21 : decode cX3_luby 21 = .ok (.iconst 1, 1) := dk_4 (dk_at dksX3_luby_0 21 rfl rfl)
theorem dX3_luby_22 : decode cX3_luby 22 = .ok (.isub, 1) := dk_100 (dk_at dksX3_luby_0 22 rfl rfl)
theorem dX3_luby_23 : decode cX3_luby 23 = .ok (.iload_n 0, 1) := dk_26 (dk_at dksX3_luby_0 23 rfl rfl)
theorem dX3_luby_24 : decode cX3_luby 24 = .ok (.if_icmp .ne 7, 3) := dk_160 0 7 (dk_at dksX3_luby_1 0 rfl rfl)
theorem dX3_luby_27 : decode cX3_luby 27 = .ok (.iload_n 1, 1) := dk_27 (dk_at dksX3_luby_1 3 rfl rfl)
theorem dX3_luby_28 : decode cX3_luby 28 = .ok (.goto 11, 3) := dk_167 0 11 (dk_at dksX3_luby_1 4 rfl rfl)
theorem dX3_luby_31 : decode cX3_luby 31 = .ok (.iload_n 0, 1) := dk_26 (dk_at dksX3_luby_1 7 rfl rfl)
theorem dX3_luby_32 : decode cX3_luby 32 = .ok (.iload_n 1, 1) := dk_27 (dk_at dksX3_luby_1 8 rfl rfl)
theorem dX3_luby_33 : decode cX3_luby 33 = .ok (.isub, 1) := dk_100 (dk_at dksX3_luby_1 9 rfl rfl)
theorem dX3_luby_34 : decode cX3_luby 34 = .ok (.iconst 1, 1) := dk_4 (dk_at dksX3_luby_1 10 rfl rfl)
theorem dX3_luby_35 : decode cX3_luby 35 = .ok (.iadd, 1) := dk_96 (dk_at dksX3_luby_1 11 rfl rfl)
theorem dX3_luby_36 : decode cX3_luby 36 = .ok (.invokestatic 138, 3) := dk_184 0 138 (dk_at dksX3_luby_1 12 rfl rfl)
theorem dX3_luby_39 : decode cX3_luby 39 = .ok (.ireturn, 1) := dk_172 (dk_at dksX3_luby_1 15 rfl rfl)
abbrev cX3_openOne : ByteArray := prog_13_method_30_code
def yX3_openOne : MethodName := ⟨RX3, "openOne", "(I)I"⟩
def dkwX3_openOne_1 : List UInt8 := [42, 27, 28, 182, 0, 108, 172, 132, 2, 1, 167, 255, 224, 3, 172]
abbrev dktX3_openOne_1 : List UInt8 := dkwX3_openOne_1 ++ []
def dkwX3_openOne_0 : List UInt8 := [3, 61, 28, 42, 27, 182, 0, 99, 162, 0, 29, 42, 42, 27, 28, 182, 0, 108, 182, 0, 111, 154, 0, 10]
abbrev dktX3_openOne_0 : List UInt8 := dkwX3_openOne_0 ++ dktX3_openOne_1
theorem dksX3_openOne_0 : cX3_openOne.data.toList.drop 0 = dktX3_openOne_0 := by decide +kernel
theorem dksX3_openOne_1 : cX3_openOne.data.toList.drop 24 = dktX3_openOne_1 := dk_seg dksX3_openOne_0 24 rfl rfl
theorem dX3_openOne_0 : decode cX3_openOne 0 = .ok (.iconst 0, 1) := dk_3 (dk_at dksX3_openOne_0 0 rfl rfl)
theorem dX3_openOne_1 : decode cX3_openOne 1 = .ok (.istore_n 2, 1) := dk_61 (dk_at dksX3_openOne_0 1 rfl rfl)
theorem dX3_openOne_2 : decode cX3_openOne 2 = .ok (.iload_n 2, 1) := dk_28 (dk_at dksX3_openOne_0 2 rfl rfl)
theorem dX3_openOne_3 : decode cX3_openOne 3 = .ok (.aload_n 0, 1) := dk_42 (dk_at dksX3_openOne_0 3 rfl rfl)
theorem dX3_openOne_4 : decode cX3_openOne 4 = .ok (.iload_n 1, 1) := dk_27 (dk_at dksX3_openOne_0 4 rfl rfl)
theorem dX3_openOne_5 : decode cX3_openOne 5 = .ok (.invokevirtual 99, 3) := dk_182 0 99 (dk_at dksX3_openOne_0 5 rfl rfl)
theorem dX3_openOne_8 : decode cX3_openOne 8 = .ok (.if_icmp .ge 29, 3) := dk_162 0 29 (dk_at dksX3_openOne_0 8 rfl rfl)
theorem dX3_openOne_11 : decode cX3_openOne 11 = .ok (.aload_n 0, 1) := dk_42 (dk_at dksX3_openOne_0 11 rfl rfl)
theorem dX3_openOne_12 : decode cX3_openOne 12 = .ok (.aload_n 0, 1) := dk_42 (dk_at dksX3_openOne_0 12 rfl rfl)
theorem dX3_openOne_13 : decode cX3_openOne 13 = .ok (.iload_n 1, 1) := dk_27 (dk_at dksX3_openOne_0 13 rfl rfl)
theorem dX3_openOne_14 : decode cX3_openOne 14 = .ok (.iload_n 2, 1) := dk_28 (dk_at dksX3_openOne_0 14 rfl rfl)
theorem dX3_openOne_15 : decode cX3_openOne 15 = .ok (.invokevirtual 108, 3) := dk_182 0 108 (dk_at dksX3_openOne_0 15 rfl rfl)
theorem dX3_openOne_18 : decode cX3_openOne 18 = .ok (.invokevirtual 111, 3) := dk_182 0 111 (dk_at dksX3_openOne_0 18 rfl rfl)
theorem dX3_openOne_21 : decode cX3_openOne 21 = .ok (.ifCond .ne 10, 3) := dk_154 0 10 (dk_at dksX3_openOne_0 21 rfl rfl)
theorem dX3_openOne_24 : decode cX3_openOne 24 = .ok (.aload_n 0, 1) := dk_42 (dk_at dksX3_openOne_1 0 rfl rfl)
theorem dX3_openOne_25 : decode cX3_openOne 25 = .ok (.iload_n 1, 1) := dk_27 (dk_at dksX3_openOne_1 1 rfl rfl)
theorem dX3_openOne_26 : decode cX3_openOne 26 = .ok (.iload_n 2, 1) := dk_28 (dk_at dksX3_openOne_1 2 rfl rfl)
theorem dX3_openOne_27 : decode cX3_openOne 27 = .ok (.invokevirtual 108, 3) := dk_182 0 108 (dk_at dksX3_openOne_1 3 rfl rfl)
theorem dX3_openOne_30 : decode cX3_openOne 30 = .ok (.ireturn, 1) := dk_172 (dk_at dksX3_openOne_1 6 rfl rfl)
theorem dX3_openOne_31 : decode cX3_openOne 31 = .ok (.iinc 2 1, 3) := dk_132 2 1 (dk_at dksX3_openOne_1 7 rfl rfl)
theorem dX3_openOne_34 : decode cX3_openOne 34 = .ok (.goto (-32), 3) := dk_167 255 224 (dk_at dksX3_openOne_1 10 rfl rfl)
theorem dX3_openOne_37 : decode cX3_openOne 37 = .ok (.iconst 0, 1) := dk_3 (dk_at dksX3_openOne_1 13 rfl rfl)
theorem dX3_openOne_38 : decode cX3_openOne 38 = .ok (.ireturn, 1) := dk_172 (dk_at dksX3_openOne_1 14 rfl rfl)
abbrev cX3_assumptionOpen : ByteArray := prog_13_method_42_code
def yX3_assumptionOpen : MethodName := ⟨RX3, "assumptionOpen", "()I"⟩
def dkwX3_assumptionOpen_1 : List UInt8 := [182, 0, 111, 157, 0, 5, 27, 172, 132, 1, 1, 167, 255, 225, 2, 172]
abbrev dktX3_assumptionOpen_1 : List UInt8 := dkwX3_assumptionOpen_1 ++ []
def dkwX3_assumptionOpen_0 : List UInt8 := [3, 60, 27, 42, 180, 0, 7, 6, 46, 162, 0, 27, 42, 42, 180, 0, 7, 16, 16, 27, 96, 46]
abbrev dktX3_assumptionOpen_0 : List UInt8 := dkwX3_assumptionOpen_0 ++ dktX3_assumptionOpen_1
theorem dksX3_assumptionOpen_0 : cX3_assumptionOpen.data.toList.drop 0 = dktX3_assumptionOpen_0 := by decide +kernel
theorem dksX3_assumptionOpen_1 : cX3_assumptionOpen.data.toList.drop 22 = dktX3_assumptionOpen_1 := dk_seg dksX3_assumptionOpen_0 22 rfl rfl
theorem dX3_assumptionOpen_0 : decode cX3_assumptionOpen 0 = .ok (.iconst 0, 1) := dk_3 (dk_at dksX3_assumptionOpen_0 0 rfl rfl)
theorem dX3_assumptionOpen_1 : decode cX3_assumptionOpen 1 = .ok (.istore_n 1, 1) := dk_60 (dk_at dksX3_assumptionOpen_0 1 rfl rfl)
theorem dX3_assumptionOpen_2 : decode cX3_assumptionOpen 2 = .ok (.iload_n 1, 1) := dk_27 (dk_at dksX3_assumptionOpen_0 2 rfl rfl)
theorem dX3_assumptionOpen_3 : decode cX3_assumptionOpen 3 = .ok (.aload_n 0, 1) := dk_42 (dk_at dksX3_assumptionOpen_0 3 rfl rfl)
theorem dX3_assumptionOpen_4 : decode cX3_assumptionOpen 4 = .ok (.getfield 7, 3) := dk_180 0 7 (dk_at dksX3_assumptionOpen_0 4 rfl rfl)
theorem dX3_assumptionOpen_7 : decode cX3_assumptionOpen 7 = .ok (.iconst 3, 1) := dk_6 (dk_at dksX3_assumptionOpen_0 7 rfl rfl)
theorem dX3_assumptionOpen_8 : decode cX3_assumptionOpen 8 = .ok (.iaload, 1) := dk_46 (dk_at dksX3_assumptionOpen_0 8 rfl rfl)
theorem dX3_assumptionOpen_9 : decode cX3_assumptionOpen 9 = .ok (.if_icmp .ge 27, 3) := dk_162 0 27 (dk_at dksX3_assumptionOpen_0 9 rfl rfl)
theorem dX3_assumptionOpen_12 : decode cX3_assumptionOpen 12 = .ok (.aload_n 0, 1) := dk_42 (dk_at dksX3_assumptionOpen_0 12 rfl rfl)
theorem dX3_assumptionOpen_13 : decode cX3_assumptionOpen 13 = .ok (.aload_n 0, 1) := dk_42 (dk_at dksX3_assumptionOpen_0 13 rfl rfl)
theorem dX3_assumptionOpen_14 : decode cX3_assumptionOpen 14 = .ok (.getfield 7, 3) := dk_180 0 7 (dk_at dksX3_assumptionOpen_0 14 rfl rfl)
theorem dX3_assumptionOpen_17 : decode cX3_assumptionOpen 17 = .ok (.bipush 16, 2) := dk_16 16 (dk_at dksX3_assumptionOpen_0 17 rfl rfl)
theorem dX3_assumptionOpen_19 : decode cX3_assumptionOpen 19 = .ok (.iload_n 1, 1) := dk_27 (dk_at dksX3_assumptionOpen_0 19 rfl rfl)
theorem dX3_assumptionOpen_20 : decode cX3_assumptionOpen 20 = .ok (.iadd, 1) := dk_96 (dk_at dksX3_assumptionOpen_0 20 rfl rfl)
theorem dX3_assumptionOpen_21 : decode cX3_assumptionOpen 21 = .ok (.iaload, 1) := dk_46 (dk_at dksX3_assumptionOpen_0 21 rfl rfl)
theorem dX3_assumptionOpen_22 : decode cX3_assumptionOpen 22 = .ok (.invokevirtual 111, 3) := dk_182 0 111 (dk_at dksX3_assumptionOpen_1 0 rfl rfl)
theorem dX3_assumptionOpen_25 : decode cX3_assumptionOpen 25 = .ok (.ifCond .gt 5, 3) := dk_157 0 5 (dk_at dksX3_assumptionOpen_1 3 rfl rfl)
theorem dX3_assumptionOpen_28 : decode cX3_assumptionOpen 28 = .ok (.iload_n 1, 1) := dk_27 (dk_at dksX3_assumptionOpen_1 6 rfl rfl)
theorem dX3_assumptionOpen_29 : decode cX3_assumptionOpen 29 = .ok (.ireturn, 1) := dk_172 (dk_at dksX3_assumptionOpen_1 7 rfl rfl)
theorem dX3_assumptionOpen_30 : decode cX3_assumptionOpen 30 = .ok (.iinc 1 1, 3) := dk_132 1 1 (dk_at dksX3_assumptionOpen_1 8 rfl rfl)
theorem dX3_assumptionOpen_33 : decode cX3_assumptionOpen 33 = .ok (.goto (-31), 3) := dk_167 255 225 (dk_at dksX3_assumptionOpen_1 11 rfl rfl)
theorem dX3_assumptionOpen_36 : decode cX3_assumptionOpen 36 = .ok (.iconst (-1), 1) := dk_2 (dk_at dksX3_assumptionOpen_1 14 rfl rfl)
theorem dX3_assumptionOpen_37 : decode cX3_assumptionOpen 37 = .ok (.ireturn, 1) := dk_172 (dk_at dksX3_assumptionOpen_1 15 rfl rfl)
abbrev cX3_coreOf : ByteArray := prog_13_method_41_code
def yX3_coreOf : MethodName := ⟨RX3, "coreOf", "(I)I"⟩
def dkwX3_coreOf_7 : List UInt8 := [84, 132, 5, 1, 167, 255, 204, 132, 3, 255, 167, 255, 135, 28, 172]
abbrev dktX3_coreOf_7 : List UInt8 := dkwX3_coreOf_7 ++ []
def dkwX3_coreOf_6 : List UInt8 := [162, 0, 31, 42, 180, 0, 38, 42, 42, 180, 0, 29, 21, 4, 46, 21, 5, 182, 0, 108, 184, 0, 71, 4]
abbrev dktX3_coreOf_6 : List UInt8 := dkwX3_coreOf_6 ++ dktX3_coreOf_7
def dkwX3_coreOf_5 : List UInt8 := [180, 0, 29, 21, 4, 46, 2, 159, 0, 47, 21, 5, 42, 42, 180, 0, 29, 21, 4, 46, 182, 0, 99]
abbrev dktX3_coreOf_5 : List UInt8 := dkwX3_coreOf_5 ++ dktX3_coreOf_6
def dkwX3_coreOf_4 : List UInt8 := [180, 0, 26, 21, 4, 46, 158, 0, 14, 28, 4, 42, 21, 4, 182, 0, 150, 120, 128, 61, 3, 54, 5, 42]
abbrev dktX3_coreOf_4 : List UInt8 := dkwX3_coreOf_4 ++ dktX3_coreOf_5
def dkwX3_coreOf_3 : List UInt8 := [180, 0, 38, 21, 4, 51, 154, 0, 6, 167, 0, 93, 42, 180, 0, 29, 21, 4, 46, 2, 160, 0, 24, 42]
abbrev dktX3_coreOf_3 : List UInt8 := dkwX3_coreOf_3 ++ dktX3_coreOf_4
def dkwX3_coreOf_2 : List UInt8 := [180, 0, 102, 4, 100, 62, 29, 155, 0, 123, 42, 180, 0, 35, 29, 46, 184, 0, 71, 54, 4, 42]
abbrev dktX3_coreOf_2 : List UInt8 := dkwX3_coreOf_2 ++ dktX3_coreOf_3
def dkwX3_coreOf_1 : List UInt8 := [180, 0, 38, 42, 180, 0, 7, 16, 16, 27, 96, 46, 184, 0, 71, 4, 84, 4, 27, 120, 61, 42]
abbrev dktX3_coreOf_1 : List UInt8 := dkwX3_coreOf_1 ++ dktX3_coreOf_2
def dkwX3_coreOf_0 : List UInt8 := [3, 61, 28, 16, 30, 163, 0, 16, 42, 180, 0, 38, 28, 3, 84, 132, 2, 1, 167, 255, 240, 42]
abbrev dktX3_coreOf_0 : List UInt8 := dkwX3_coreOf_0 ++ dktX3_coreOf_1
theorem dksX3_coreOf_0 : cX3_coreOf.data.toList.drop 0 = dktX3_coreOf_0 := by decide +kernel
theorem dksX3_coreOf_1 : cX3_coreOf.data.toList.drop 22 = dktX3_coreOf_1 := dk_seg dksX3_coreOf_0 22 rfl rfl
theorem dksX3_coreOf_2 : cX3_coreOf.data.toList.drop 44 = dktX3_coreOf_2 := dk_seg dksX3_coreOf_1 22 rfl rfl
theorem dksX3_coreOf_3 : cX3_coreOf.data.toList.drop 66 = dktX3_coreOf_3 := dk_seg dksX3_coreOf_2 22 rfl rfl
theorem dksX3_coreOf_4 : cX3_coreOf.data.toList.drop 90 = dktX3_coreOf_4 := dk_seg dksX3_coreOf_3 24 rfl rfl
theorem dksX3_coreOf_5 : cX3_coreOf.data.toList.drop 114 = dktX3_coreOf_5 := dk_seg dksX3_coreOf_4 24 rfl rfl
theorem dksX3_coreOf_6 : cX3_coreOf.data.toList.drop 137 = dktX3_coreOf_6 := dk_seg dksX3_coreOf_5 23 rfl rfl
theorem dksX3_coreOf_7 : cX3_coreOf.data.toList.drop 161 = dktX3_coreOf_7 := dk_seg dksX3_coreOf_6 24 rfl rfl
theorem dX3_coreOf_0 : decode cX3_coreOf 0 = .ok (.iconst 0, 1) := dk_3 (dk_at dksX3_coreOf_0 0 rfl rfl)
theorem dX3_coreOf_1 : decode cX3_coreOf 1 = .ok (.istore_n 2, 1) := dk_61 (dk_at dksX3_coreOf_0 1 rfl rfl)
theorem dX3_coreOf_2 : decode cX3_coreOf 2 = .ok (.iload_n 2, 1) := dk_28 (dk_at dksX3_coreOf_0 2 rfl rfl)
theorem dX3_coreOf_3 : decode cX3_coreOf 3 = .ok (.bipush 30, 2) := dk_16 30 (dk_at dksX3_coreOf_0 3 rfl rfl)
theorem dX3_coreOf_5 : decode cX3_coreOf 5 = .ok (.if_icmp .gt 16, 3) := dk_163 0 16 (dk_at dksX3_coreOf_0 5 rfl rfl)
theorem dX3_coreOf_8 : decode cX3_coreOf 8 = .ok (.aload_n 0, 1) := dk_42 (dk_at dksX3_coreOf_0 8 rfl rfl)
theorem dX3_coreOf_9 : decode cX3_coreOf 9 = .ok (.getfield 38, 3) := dk_180 0 38 (dk_at dksX3_coreOf_0 9 rfl rfl)
theorem dX3_coreOf_12 : decode cX3_coreOf 12 = .ok (.iload_n 2, 1) := dk_28 (dk_at dksX3_coreOf_0 12 rfl rfl)
theorem dX3_coreOf_13 : decode cX3_coreOf 13 = .ok (.iconst 0, 1) := dk_3 (dk_at dksX3_coreOf_0 13 rfl rfl)
theorem dX3_coreOf_14 : decode cX3_coreOf 14 = .ok (.bastore, 1) := dk_84 (dk_at dksX3_coreOf_0 14 rfl rfl)
theorem dX3_coreOf_15 : decode cX3_coreOf 15 = .ok (.iinc 2 1, 3) := dk_132 2 1 (dk_at dksX3_coreOf_0 15 rfl rfl)
theorem dX3_coreOf_18 : decode cX3_coreOf 18 = .ok (.goto (-16), 3) := dk_167 255 240 (dk_at dksX3_coreOf_0 18 rfl rfl)
theorem dX3_coreOf_21 : decode cX3_coreOf 21 = .ok (.aload_n 0, 1) := dk_42 (dk_at dksX3_coreOf_0 21 rfl rfl)
theorem dX3_coreOf_22 : decode cX3_coreOf 22 = .ok (.getfield 38, 3) := dk_180 0 38 (dk_at dksX3_coreOf_1 0 rfl rfl)
theorem dX3_coreOf_25 : decode cX3_coreOf 25 = .ok (.aload_n 0, 1) := dk_42 (dk_at dksX3_coreOf_1 3 rfl rfl)
theorem dX3_coreOf_26 : decode cX3_coreOf 26 = .ok (.getfield 7, 3) := dk_180 0 7 (dk_at dksX3_coreOf_1 4 rfl rfl)
theorem dX3_coreOf_29 : decode cX3_coreOf 29 = .ok (.bipush 16, 2) := dk_16 16 (dk_at dksX3_coreOf_1 7 rfl rfl)
theorem dX3_coreOf_31 : decode cX3_coreOf 31 = .ok (.iload_n 1, 1) := dk_27 (dk_at dksX3_coreOf_1 9 rfl rfl)
theorem dX3_coreOf_32 : decode cX3_coreOf 32 = .ok (.iadd, 1) := dk_96 (dk_at dksX3_coreOf_1 10 rfl rfl)
theorem dX3_coreOf_33 : decode cX3_coreOf 33 = .ok (.iaload, 1) := dk_46 (dk_at dksX3_coreOf_1 11 rfl rfl)
theorem dX3_coreOf_34 : decode cX3_coreOf 34 = .ok (.invokestatic 71, 3) := dk_184 0 71 (dk_at dksX3_coreOf_1 12 rfl rfl)
theorem dX3_coreOf_37 : decode cX3_coreOf 37 = .ok (.iconst 1, 1) := dk_4 (dk_at dksX3_coreOf_1 15 rfl rfl)
theorem dX3_coreOf_38 : decode cX3_coreOf 38 = .ok (.bastore, 1) := dk_84 (dk_at dksX3_coreOf_1 16 rfl rfl)
theorem dX3_coreOf_39 : decode cX3_coreOf 39 = .ok (.iconst 1, 1) := dk_4 (dk_at dksX3_coreOf_1 17 rfl rfl)
theorem dX3_coreOf_40 : decode cX3_coreOf 40 = .ok (.iload_n 1, 1) := dk_27 (dk_at dksX3_coreOf_1 18 rfl rfl)
theorem dX3_coreOf_41 : decode cX3_coreOf 41 = .ok (.ishl, 1) := dk_120 (dk_at dksX3_coreOf_1 19 rfl rfl)
theorem dX3_coreOf_42 : decode cX3_coreOf 42 = .ok (.istore_n 2, 1) := dk_61 (dk_at dksX3_coreOf_1 20 rfl rfl)
theorem dX3_coreOf_43 : decode cX3_coreOf 43 = .ok (.aload_n 0, 1) := dk_42 (dk_at dksX3_coreOf_1 21 rfl rfl)
theorem dX3_coreOf_44 : decode cX3_coreOf 44 = .ok (.getfield 102, 3) := dk_180 0 102 (dk_at dksX3_coreOf_2 0 rfl rfl)
theorem dX3_coreOf_47 : decode cX3_coreOf 47 = .ok (.iconst 1, 1) := dk_4 (dk_at dksX3_coreOf_2 3 rfl rfl)
theorem dX3_coreOf_48 : decode cX3_coreOf 48 = .ok (.isub, 1) := dk_100 (dk_at dksX3_coreOf_2 4 rfl rfl)
theorem dX3_coreOf_49 : decode cX3_coreOf 49 = .ok (.istore_n 3, 1) := dk_62 (dk_at dksX3_coreOf_2 5 rfl rfl)
theorem dX3_coreOf_50 : decode cX3_coreOf 50 = .ok (.iload_n 3, 1) := dk_29 (dk_at dksX3_coreOf_2 6 rfl rfl)
theorem dX3_coreOf_51 : decode cX3_coreOf 51 = .ok (.ifCond .lt 123, 3) := dk_155 0 123 (dk_at dksX3_coreOf_2 7 rfl rfl)
theorem dX3_coreOf_54 : decode cX3_coreOf 54 = .ok (.aload_n 0, 1) := dk_42 (dk_at dksX3_coreOf_2 10 rfl rfl)
theorem dX3_coreOf_55 : decode cX3_coreOf 55 = .ok (.getfield 35, 3) := dk_180 0 35 (dk_at dksX3_coreOf_2 11 rfl rfl)
theorem dX3_coreOf_58 : decode cX3_coreOf 58 = .ok (.iload_n 3, 1) := dk_29 (dk_at dksX3_coreOf_2 14 rfl rfl)
theorem dX3_coreOf_59 : decode cX3_coreOf 59 = .ok (.iaload, 1) := dk_46 (dk_at dksX3_coreOf_2 15 rfl rfl)
theorem dX3_coreOf_60 : decode cX3_coreOf 60 = .ok (.invokestatic 71, 3) := dk_184 0 71 (dk_at dksX3_coreOf_2 16 rfl rfl)
theorem dX3_coreOf_63 : decode cX3_coreOf 63 = .ok (.istore 4, 2) := dk_54 4 (dk_at dksX3_coreOf_2 19 rfl rfl)
theorem dX3_coreOf_65 : decode cX3_coreOf 65 = .ok (.aload_n 0, 1) := dk_42 (dk_at dksX3_coreOf_2 21 rfl rfl)
theorem dX3_coreOf_66 : decode cX3_coreOf 66 = .ok (.getfield 38, 3) := dk_180 0 38 (dk_at dksX3_coreOf_3 0 rfl rfl)
theorem dX3_coreOf_69 : decode cX3_coreOf 69 = .ok (.iload 4, 2) := dk_21 4 (dk_at dksX3_coreOf_3 3 rfl rfl)
theorem dX3_coreOf_71 : decode cX3_coreOf 71 = .ok (.baload, 1) := dk_51 (dk_at dksX3_coreOf_3 5 rfl rfl)
theorem dX3_coreOf_72 : decode cX3_coreOf 72 = .ok (.ifCond .ne 6, 3) := dk_154 0 6 (dk_at dksX3_coreOf_3 6 rfl rfl)
theorem dX3_coreOf_75 : decode cX3_coreOf 75 = .ok (.goto 93, 3) := dk_167 0 93 (dk_at dksX3_coreOf_3 9 rfl rfl)
theorem dX3_coreOf_78 : decode cX3_coreOf 78 = .ok (.aload_n 0, 1) := dk_42 (dk_at dksX3_coreOf_3 12 rfl rfl)
theorem dX3_coreOf_79 : decode cX3_coreOf 79 = .ok (.getfield 29, 3) := dk_180 0 29 (dk_at dksX3_coreOf_3 13 rfl rfl)
theorem dX3_coreOf_82 : decode cX3_coreOf 82 = .ok (.iload 4, 2) := dk_21 4 (dk_at dksX3_coreOf_3 16 rfl rfl)
theorem dX3_coreOf_84 : decode cX3_coreOf 84 = .ok (.iaload, 1) := dk_46 (dk_at dksX3_coreOf_3 18 rfl rfl)
theorem dX3_coreOf_85 : decode cX3_coreOf 85 = .ok (.iconst (-1), 1) := dk_2 (dk_at dksX3_coreOf_3 19 rfl rfl)
theorem dX3_coreOf_86 : decode cX3_coreOf 86 = .ok (.if_icmp .ne 24, 3) := dk_160 0 24 (dk_at dksX3_coreOf_3 20 rfl rfl)
theorem dX3_coreOf_89 : decode cX3_coreOf 89 = .ok (.aload_n 0, 1) := dk_42 (dk_at dksX3_coreOf_3 23 rfl rfl)
theorem dX3_coreOf_90 : decode cX3_coreOf 90 = .ok (.getfield 26, 3) := dk_180 0 26 (dk_at dksX3_coreOf_4 0 rfl rfl)
theorem dX3_coreOf_93 : decode cX3_coreOf 93 = .ok (.iload 4, 2) := dk_21 4 (dk_at dksX3_coreOf_4 3 rfl rfl)
theorem dX3_coreOf_95 : decode cX3_coreOf 95 = .ok (.iaload, 1) := dk_46 (dk_at dksX3_coreOf_4 5 rfl rfl)
theorem dX3_coreOf_96 : decode cX3_coreOf 96 = .ok (.ifCond .le 14, 3) := dk_158 0 14 (dk_at dksX3_coreOf_4 6 rfl rfl)
theorem dX3_coreOf_99 : decode cX3_coreOf 99 = .ok (.iload_n 2, 1) := dk_28 (dk_at dksX3_coreOf_4 9 rfl rfl)
theorem dX3_coreOf_100 : decode cX3_coreOf 100 = .ok (.iconst 1, 1) := dk_4 (dk_at dksX3_coreOf_4 10 rfl rfl)
theorem dX3_coreOf_101 : decode cX3_coreOf 101 = .ok (.aload_n 0, 1) := dk_42 (dk_at dksX3_coreOf_4 11 rfl rfl)
theorem dX3_coreOf_102 : decode cX3_coreOf 102 = .ok (.iload 4, 2) := dk_21 4 (dk_at dksX3_coreOf_4 12 rfl rfl)
theorem dX3_coreOf_104 : decode cX3_coreOf 104 = .ok (.invokevirtual 150, 3) := dk_182 0 150 (dk_at dksX3_coreOf_4 14 rfl rfl)
theorem dX3_coreOf_107 : decode cX3_coreOf 107 = .ok (.ishl, 1) := dk_120 (dk_at dksX3_coreOf_4 17 rfl rfl)
theorem dX3_coreOf_108 : decode cX3_coreOf 108 = .ok (.ior, 1) := dk_128 (dk_at dksX3_coreOf_4 18 rfl rfl)
theorem dX3_coreOf_109 : decode cX3_coreOf 109 = .ok (.istore_n 2, 1) := dk_61 (dk_at dksX3_coreOf_4 19 rfl rfl)
theorem dX3_coreOf_110 : decode cX3_coreOf 110 = .ok (.iconst 0, 1) := dk_3 (dk_at dksX3_coreOf_4 20 rfl rfl)
theorem dX3_coreOf_111 : decode cX3_coreOf 111 = .ok (.istore 5, 2) := dk_54 5 (dk_at dksX3_coreOf_4 21 rfl rfl)
theorem dX3_coreOf_113 : decode cX3_coreOf 113 = .ok (.aload_n 0, 1) := dk_42 (dk_at dksX3_coreOf_4 23 rfl rfl)
theorem dX3_coreOf_114 : decode cX3_coreOf 114 = .ok (.getfield 29, 3) := dk_180 0 29 (dk_at dksX3_coreOf_5 0 rfl rfl)
theorem dX3_coreOf_117 : decode cX3_coreOf 117 = .ok (.iload 4, 2) := dk_21 4 (dk_at dksX3_coreOf_5 3 rfl rfl)
theorem dX3_coreOf_119 : decode cX3_coreOf 119 = .ok (.iaload, 1) := dk_46 (dk_at dksX3_coreOf_5 5 rfl rfl)
theorem dX3_coreOf_120 : decode cX3_coreOf 120 = .ok (.iconst (-1), 1) := dk_2 (dk_at dksX3_coreOf_5 6 rfl rfl)
theorem dX3_coreOf_121 : decode cX3_coreOf 121 = .ok (.if_icmp .eq 47, 3) := dk_159 0 47 (dk_at dksX3_coreOf_5 7 rfl rfl)
theorem dX3_coreOf_124 : decode cX3_coreOf 124 = .ok (.iload 5, 2) := dk_21 5 (dk_at dksX3_coreOf_5 10 rfl rfl)
theorem dX3_coreOf_126 : decode cX3_coreOf 126 = .ok (.aload_n 0, 1) := dk_42 (dk_at dksX3_coreOf_5 12 rfl rfl)
theorem dX3_coreOf_127 : decode cX3_coreOf 127 = .ok (.aload_n 0, 1) := dk_42 (dk_at dksX3_coreOf_5 13 rfl rfl)
theorem dX3_coreOf_128 : decode cX3_coreOf 128 = .ok (.getfield 29, 3) := dk_180 0 29 (dk_at dksX3_coreOf_5 14 rfl rfl)
theorem dX3_coreOf_131 : decode cX3_coreOf 131 = .ok (.iload 4, 2) := dk_21 4 (dk_at dksX3_coreOf_5 17 rfl rfl)
theorem dX3_coreOf_133 : decode cX3_coreOf 133 = .ok (.iaload, 1) := dk_46 (dk_at dksX3_coreOf_5 19 rfl rfl)
theorem dX3_coreOf_134 : decode cX3_coreOf 134 = .ok (.invokevirtual 99, 3) := dk_182 0 99 (dk_at dksX3_coreOf_5 20 rfl rfl)
theorem dX3_coreOf_137 : decode cX3_coreOf 137 = .ok (.if_icmp .ge 31, 3) := dk_162 0 31 (dk_at dksX3_coreOf_6 0 rfl rfl)
theorem dX3_coreOf_140 : decode cX3_coreOf 140 = .ok (.aload_n 0, 1) := dk_42 (dk_at dksX3_coreOf_6 3 rfl rfl)
theorem dX3_coreOf_141 : decode cX3_coreOf 141 = .ok (.getfield 38, 3) := dk_180 0 38 (dk_at dksX3_coreOf_6 4 rfl rfl)
theorem dX3_coreOf_144 : decode cX3_coreOf 144 = .ok (.aload_n 0, 1) := dk_42 (dk_at dksX3_coreOf_6 7 rfl rfl)
theorem dX3_coreOf_145 : decode cX3_coreOf 145 = .ok (.aload_n 0, 1) := dk_42 (dk_at dksX3_coreOf_6 8 rfl rfl)
theorem dX3_coreOf_146 : decode cX3_coreOf 146 = .ok (.getfield 29, 3) := dk_180 0 29 (dk_at dksX3_coreOf_6 9 rfl rfl)
theorem dX3_coreOf_149 : decode cX3_coreOf 149 = .ok (.iload 4, 2) := dk_21 4 (dk_at dksX3_coreOf_6 12 rfl rfl)
theorem dX3_coreOf_151 : decode cX3_coreOf 151 = .ok (.iaload, 1) := dk_46 (dk_at dksX3_coreOf_6 14 rfl rfl)
theorem dX3_coreOf_152 : decode cX3_coreOf 152 = .ok (.iload 5, 2) := dk_21 5 (dk_at dksX3_coreOf_6 15 rfl rfl)
theorem dX3_coreOf_154 : decode cX3_coreOf 154 = .ok (.invokevirtual 108, 3) := dk_182 0 108 (dk_at dksX3_coreOf_6 17 rfl rfl)
theorem dX3_coreOf_157 : decode cX3_coreOf 157 = .ok (.invokestatic 71, 3) := dk_184 0 71 (dk_at dksX3_coreOf_6 20 rfl rfl)
theorem dX3_coreOf_160 : decode cX3_coreOf 160 = .ok (.iconst 1, 1) := dk_4 (dk_at dksX3_coreOf_6 23 rfl rfl)
theorem dX3_coreOf_161 : decode cX3_coreOf 161 = .ok (.bastore, 1) := dk_84 (dk_at dksX3_coreOf_7 0 rfl rfl)
theorem dX3_coreOf_162 : decode cX3_coreOf 162 = .ok (.iinc 5 1, 3) := dk_132 5 1 (dk_at dksX3_coreOf_7 1 rfl rfl)
theorem dX3_coreOf_165 : decode cX3_coreOf 165 = .ok (.goto (-52), 3) := dk_167 255 204 (dk_at dksX3_coreOf_7 4 rfl rfl)
theorem dX3_coreOf_168 : decode cX3_coreOf 168 = .ok (.iinc 3 (-1), 3) := dk_132 3 255 (dk_at dksX3_coreOf_7 7 rfl rfl)
theorem dX3_coreOf_171 : decode cX3_coreOf 171 = .ok (.goto (-121), 3) := dk_167 255 135 (dk_at dksX3_coreOf_7 10 rfl rfl)
theorem dX3_coreOf_174 : decode cX3_coreOf 174 = .ok (.iload_n 2, 1) := dk_28 (dk_at dksX3_coreOf_7 13 rfl rfl)
theorem dX3_coreOf_175 : decode cX3_coreOf 175 = .ok (.ireturn, 1) := dk_172 (dk_at dksX3_coreOf_7 14 rfl rfl)
abbrev cX3_placeAssumed : ByteArray := prog_13_method_40_code
def yX3_placeAssumed : MethodName := ⟨RX3, "placeAssumed", "(I)I"⟩
def dkwX3_placeAssumed_1 : List UInt8 := [27, 160, 0, 5, 28, 172, 132, 2, 1, 167, 255, 225, 2, 172]
abbrev dktX3_placeAssumed_1 : List UInt8 := dkwX3_placeAssumed_1 ++ []
def dkwX3_placeAssumed_0 : List UInt8 := [3, 61, 28, 42, 180, 0, 7, 6, 46, 162, 0, 27, 42, 180, 0, 7, 16, 16, 28, 96, 46, 184, 0, 71]
abbrev dktX3_placeAssumed_0 : List UInt8 := dkwX3_placeAssumed_0 ++ dktX3_placeAssumed_1
theorem dksX3_placeAssumed_0 : cX3_placeAssumed.data.toList.drop 0 = dktX3_placeAssumed_0 := by decide +kernel
theorem dksX3_placeAssumed_1 : cX3_placeAssumed.data.toList.drop 24 = dktX3_placeAssumed_1 := dk_seg dksX3_placeAssumed_0 24 rfl rfl
theorem dX3_placeAssumed_0 : decode cX3_placeAssumed 0 = .ok (.iconst 0, 1) := dk_3 (dk_at dksX3_placeAssumed_0 0 rfl rfl)
theorem dX3_placeAssumed_1 : decode cX3_placeAssumed 1 = .ok (.istore_n 2, 1) := dk_61 (dk_at dksX3_placeAssumed_0 1 rfl rfl)
theorem dX3_placeAssumed_2 : decode cX3_placeAssumed 2 = .ok (.iload_n 2, 1) := dk_28 (dk_at dksX3_placeAssumed_0 2 rfl rfl)
theorem dX3_placeAssumed_3 : decode cX3_placeAssumed 3 = .ok (.aload_n 0, 1) := dk_42 (dk_at dksX3_placeAssumed_0 3 rfl rfl)
theorem dX3_placeAssumed_4 : decode cX3_placeAssumed 4 = .ok (.getfield 7, 3) := dk_180 0 7 (dk_at dksX3_placeAssumed_0 4 rfl rfl)
theorem dX3_placeAssumed_7 : decode cX3_placeAssumed 7 = .ok (.iconst 3, 1) := dk_6 (dk_at dksX3_placeAssumed_0 7 rfl rfl)
theorem dX3_placeAssumed_8 : decode cX3_placeAssumed 8 = .ok (.iaload, 1) := dk_46 (dk_at dksX3_placeAssumed_0 8 rfl rfl)
theorem dX3_placeAssumed_9 : decode cX3_placeAssumed 9 = .ok (.if_icmp .ge 27, 3) := dk_162 0 27 (dk_at dksX3_placeAssumed_0 9 rfl rfl)
theorem dX3_placeAssumed_12 : decode cX3_placeAssumed 12 = .ok (.aload_n 0, 1) := dk_42 (dk_at dksX3_placeAssumed_0 12 rfl rfl)
theorem dX3_placeAssumed_13 : decode cX3_placeAssumed 13 = .ok (.getfield 7, 3) := dk_180 0 7 (dk_at dksX3_placeAssumed_0 13 rfl rfl)
theorem dX3_placeAssumed_16 : decode cX3_placeAssumed 16 = .ok (.bipush 16, 2) := dk_16 16 (dk_at dksX3_placeAssumed_0 16 rfl rfl)
theorem dX3_placeAssumed_18 : decode cX3_placeAssumed 18 = .ok (.iload_n 2, 1) := dk_28 (dk_at dksX3_placeAssumed_0 18 rfl rfl)
theorem dX3_placeAssumed_19 : decode cX3_placeAssumed 19 = .ok (.iadd, 1) := dk_96 (dk_at dksX3_placeAssumed_0 19 rfl rfl)
theorem dX3_placeAssumed_20 : decode cX3_placeAssumed 20 = .ok (.iaload, 1) := dk_46 (dk_at dksX3_placeAssumed_0 20 rfl rfl)
theorem dX3_placeAssumed_21 : decode cX3_placeAssumed 21 = .ok (.invokestatic 71, 3) := dk_184 0 71 (dk_at dksX3_placeAssumed_0 21 rfl rfl)
theorem dX3_placeAssumed_24 : decode cX3_placeAssumed 24 = .ok (.iload_n 1, 1) := dk_27 (dk_at dksX3_placeAssumed_1 0 rfl rfl)
theorem dX3_placeAssumed_25 : decode cX3_placeAssumed 25 = .ok (.if_icmp .ne 5, 3) := dk_160 0 5 (dk_at dksX3_placeAssumed_1 1 rfl rfl)
theorem dX3_placeAssumed_28 : decode cX3_placeAssumed 28 = .ok (.iload_n 2, 1) := dk_28 (dk_at dksX3_placeAssumed_1 4 rfl rfl)
theorem dX3_placeAssumed_29 : decode cX3_placeAssumed 29 = .ok (.ireturn, 1) := dk_172 (dk_at dksX3_placeAssumed_1 5 rfl rfl)
theorem dX3_placeAssumed_30 : decode cX3_placeAssumed 30 = .ok (.iinc 2 1, 3) := dk_132 2 1 (dk_at dksX3_placeAssumed_1 6 rfl rfl)
theorem dX3_placeAssumed_33 : decode cX3_placeAssumed 33 = .ok (.goto (-31), 3) := dk_167 255 225 (dk_at dksX3_placeAssumed_1 9 rfl rfl)
theorem dX3_placeAssumed_36 : decode cX3_placeAssumed 36 = .ok (.iconst (-1), 1) := dk_2 (dk_at dksX3_placeAssumed_1 12 rfl rfl)
theorem dX3_placeAssumed_37 : decode cX3_placeAssumed 37 = .ok (.ireturn, 1) := dk_172 (dk_at dksX3_placeAssumed_1 13 rfl rfl)
abbrev cX3_choice : ByteArray := prog_13_method_43_code
def yX3_choice : MethodName := ⟨RX3, "choice", "()I"⟩
def dkwX3_choice_2 : List UInt8 := [28, 60, 132, 2, 1, 167, 255, 207, 27, 172]
abbrev dktX3_choice_2 : List UInt8 := dkwX3_choice_2 ++ []
def dkwX3_choice_1 : List UInt8 := [153, 0, 24, 42, 180, 0, 7, 16, 63, 28, 96, 46, 42, 180, 0, 7, 16, 63, 27, 96, 46, 164, 0, 5]
abbrev dktX3_choice_1 : List UInt8 := dkwX3_choice_1 ++ dktX3_choice_2
def dkwX3_choice_0 : List UInt8 := [3, 60, 4, 61, 28, 42, 180, 0, 7, 3, 46, 163, 0, 45, 42, 180, 0, 23, 28, 46, 154, 0, 30, 27]
abbrev dktX3_choice_0 : List UInt8 := dkwX3_choice_0 ++ dktX3_choice_1
theorem dksX3_choice_0 : cX3_choice.data.toList.drop 0 = dktX3_choice_0 := by decide +kernel
theorem dksX3_choice_1 : cX3_choice.data.toList.drop 24 = dktX3_choice_1 := dk_seg dksX3_choice_0 24 rfl rfl
theorem dksX3_choice_2 : cX3_choice.data.toList.drop 48 = dktX3_choice_2 := dk_seg dksX3_choice_1 24 rfl rfl
theorem dX3_choice_0 : decode cX3_choice 0 = .ok (.iconst 0, 1) := dk_3 (dk_at dksX3_choice_0 0 rfl rfl)
theorem dX3_choice_1 : decode cX3_choice 1 = .ok (.istore_n 1, 1) := dk_60 (dk_at dksX3_choice_0 1 rfl rfl)
theorem dX3_choice_2 : decode cX3_choice 2 = .ok (.iconst 1, 1) := dk_4 (dk_at dksX3_choice_0 2 rfl rfl)
theorem dX3_choice_3 : decode cX3_choice 3 = .ok (.istore_n 2, 1) := dk_61 (dk_at dksX3_choice_0 3 rfl rfl)
theorem dX3_choice_4 : decode cX3_choice 4 = .ok (.iload_n 2, 1) := dk_28 (dk_at dksX3_choice_0 4 rfl rfl)
theorem dX3_choice_5 : decode cX3_choice 5 = .ok (.aload_n 0, 1) := dk_42 (dk_at dksX3_choice_0 5 rfl rfl)
theorem dX3_choice_6 : decode cX3_choice 6 = .ok (.getfield 7, 3) := dk_180 0 7 (dk_at dksX3_choice_0 6 rfl rfl)
theorem dX3_choice_9 : decode cX3_choice 9 = .ok (.iconst 0, 1) := dk_3 (dk_at dksX3_choice_0 9 rfl rfl)
theorem dX3_choice_10 : decode cX3_choice 10 = .ok (.iaload, 1) := dk_46 (dk_at dksX3_choice_0 10 rfl rfl)
theorem dX3_choice_11 : decode cX3_choice 11 = .ok (.if_icmp .gt 45, 3) := dk_163 0 45 (dk_at dksX3_choice_0 11 rfl rfl)
theorem dX3_choice_14 : decode cX3_choice 14 = .ok (.aload_n 0, 1) := dk_42 (dk_at dksX3_choice_0 14 rfl rfl)
theorem dX3_choice_15 : decode cX3_choice 15 = .ok (.getfield 23, 3) := dk_180 0 23 (dk_at dksX3_choice_0 15 rfl rfl)
theorem dX3_choice_18 : decode cX3_choice 18 = .ok (.iload_n 2, 1) := dk_28 (dk_at dksX3_choice_0 18 rfl rfl)
theorem dX3_choice_19 : decode cX3_choice 19 = .ok (.iaload, 1) := dk_46 (dk_at dksX3_choice_0 19 rfl rfl)
theorem dX3_choice_20 : decode cX3_choice 20 = .ok (.ifCond .ne 30, 3) := dk_154 0 30 (dk_at dksX3_choice_0 20 rfl rfl)
theorem dX3_choice_23 : decode cX3_choice 23 = .ok (.iload_n 1, 1) := dk_27 (dk_at dksX3_choice_0 23 rfl rfl)
theorem dX3_choice_24 : decode cX3_choice 24 = .ok (.ifCond .eq 24, 3) := dk_153 0 24 (dk_at dksX3_choice_1 0 rfl rfl)
theorem dX3_choice_27 : decode cX3_choice 27 = .ok (.aload_n 0, 1) := dk_42 (dk_at dksX3_choice_1 3 rfl rfl)
theorem dX3_choice_28 : decode cX3_choice 28 = .ok (.getfield 7, 3) := dk_180 0 7 (dk_at dksX3_choice_1 4 rfl rfl)
theorem dX3_choice_31 : decode cX3_choice 31 = .ok (.bipush 63, 2) := dk_16 63 (dk_at dksX3_choice_1 7 rfl rfl)
theorem dX3_choice_33 : decode cX3_choice 33 = .ok (.iload_n 2, 1) := dk_28 (dk_at dksX3_choice_1 9 rfl rfl)
theorem dX3_choice_34 : decode cX3_choice 34 = .ok (.iadd, 1) := dk_96 (dk_at dksX3_choice_1 10 rfl rfl)
theorem dX3_choice_35 : decode cX3_choice 35 = .ok (.iaload, 1) := dk_46 (dk_at dksX3_choice_1 11 rfl rfl)
theorem dX3_choice_36 : decode cX3_choice 36 = .ok (.aload_n 0, 1) := dk_42 (dk_at dksX3_choice_1 12 rfl rfl)
theorem dX3_choice_37 : decode cX3_choice 37 = .ok (.getfield 7, 3) := dk_180 0 7 (dk_at dksX3_choice_1 13 rfl rfl)
theorem dX3_choice_40 : decode cX3_choice 40 = .ok (.bipush 63, 2) := dk_16 63 (dk_at dksX3_choice_1 16 rfl rfl)
theorem dX3_choice_42 : decode cX3_choice 42 = .ok (.iload_n 1, 1) := dk_27 (dk_at dksX3_choice_1 18 rfl rfl)
theorem dX3_choice_43 : decode cX3_choice 43 = .ok (.iadd, 1) := dk_96 (dk_at dksX3_choice_1 19 rfl rfl)
theorem dX3_choice_44 : decode cX3_choice 44 = .ok (.iaload, 1) := dk_46 (dk_at dksX3_choice_1 20 rfl rfl)
theorem dX3_choice_45 : decode cX3_choice 45 = .ok (.if_icmp .le 5, 3) := dk_164 0 5 (dk_at dksX3_choice_1 21 rfl rfl)
theorem dX3_choice_48 : decode cX3_choice 48 = .ok (.iload_n 2, 1) := dk_28 (dk_at dksX3_choice_2 0 rfl rfl)
theorem dX3_choice_49 : decode cX3_choice 49 = .ok (.istore_n 1, 1) := dk_60 (dk_at dksX3_choice_2 1 rfl rfl)
theorem dX3_choice_50 : decode cX3_choice 50 = .ok (.iinc 2 1, 3) := dk_132 2 1 (dk_at dksX3_choice_2 2 rfl rfl)
theorem dX3_choice_53 : decode cX3_choice 53 = .ok (.goto (-49), 3) := dk_167 255 207 (dk_at dksX3_choice_2 5 rfl rfl)
theorem dX3_choice_56 : decode cX3_choice 56 = .ok (.iload_n 1, 1) := dk_27 (dk_at dksX3_choice_2 8 rfl rfl)
theorem dX3_choice_57 : decode cX3_choice 57 = .ok (.ireturn, 1) := dk_172 (dk_at dksX3_choice_2 9 rfl rfl)
abbrev cX3_count : ByteArray := prog_13_method_48_code
def yX3_count : MethodName := ⟨RX3, "count", "(I)I"⟩
def dkwX3_count_6 : List UInt8 := [180, 0, 7, 16, 11, 46, 172, 42, 180, 0, 7, 16, 12, 46, 172, 2, 172]
abbrev dktX3_count_6 : List UInt8 := dkwX3_count_6 ++ []
def dkwX3_count_5 : List UInt8 := [180, 0, 7, 16, 8, 46, 172, 42, 180, 0, 7, 16, 9, 46, 172, 42, 180, 0, 7, 16, 10, 46, 172, 42]
abbrev dktX3_count_5 : List UInt8 := dkwX3_count_5 ++ dktX3_count_6
def dkwX3_count_4 : List UInt8 := [172, 42, 180, 0, 7, 16, 6, 46, 172, 42, 180, 0, 7, 16, 7, 46, 172, 42, 180, 0, 192, 172, 42]
abbrev dktX3_count_4 : List UInt8 := dkwX3_count_4 ++ dktX3_count_5
def dkwX3_count_3 : List UInt8 := [182, 0, 189, 172, 42, 180, 0, 7, 6, 46, 172, 42, 180, 0, 7, 7, 46, 172, 42, 180, 0, 7, 8, 46]
abbrev dktX3_count_3 : List UInt8 := dkwX3_count_3 ++ dktX3_count_4
def dkwX3_count_2 : List UInt8 := [42, 180, 0, 7, 3, 46, 172, 42, 180, 0, 7, 4, 46, 172, 42, 180, 0, 7, 5, 46, 172, 42]
abbrev dktX3_count_2 : List UInt8 := dkwX3_count_2 ++ dktX3_count_3
def dkwX3_count_1 : List UInt8 := [170, 0, 0, 0, 0, 182, 0, 0, 0, 0, 0, 0, 0, 14, 0, 0, 0, 74, 0, 0, 0, 81, 0, 0, 0, 88, 0, 0, 0, 95, 0, 0, 0, 100, 0, 0, 0, 107, 0, 0, 0, 114, 0, 0, 0, 121, 0, 0, 0, 129, 0, 0, 0, 137, 0, 0, 0, 142, 0, 0, 0, 150, 0, 0, 0, 158, 0, 0, 0, 166, 0, 0, 0, 174]
abbrev dktX3_count_1 : List UInt8 := dkwX3_count_1 ++ dktX3_count_2
def dkwX3_count_0 : List UInt8 := [42, 3, 181, 0, 63, 27]
abbrev dktX3_count_0 : List UInt8 := dkwX3_count_0 ++ dktX3_count_1
theorem dksX3_count_0 : cX3_count.data.toList.drop 0 = dktX3_count_0 := by decide +kernel
theorem dksX3_count_1 : cX3_count.data.toList.drop 6 = dktX3_count_1 := dk_seg dksX3_count_0 6 rfl rfl
theorem dksX3_count_2 : cX3_count.data.toList.drop 80 = dktX3_count_2 := dk_seg dksX3_count_1 74 rfl rfl
theorem dksX3_count_3 : cX3_count.data.toList.drop 102 = dktX3_count_3 := dk_seg dksX3_count_2 22 rfl rfl
theorem dksX3_count_4 : cX3_count.data.toList.drop 126 = dktX3_count_4 := dk_seg dksX3_count_3 24 rfl rfl
theorem dksX3_count_5 : cX3_count.data.toList.drop 149 = dktX3_count_5 := dk_seg dksX3_count_4 23 rfl rfl
theorem dksX3_count_6 : cX3_count.data.toList.drop 173 = dktX3_count_6 := dk_seg dksX3_count_5 24 rfl rfl
theorem dX3_count_0 : decode cX3_count 0 = .ok (.aload_n 0, 1) := dk_42 (dk_at dksX3_count_0 0 rfl rfl)
theorem dX3_count_1 : decode cX3_count 1 = .ok (.iconst 0, 1) := dk_3 (dk_at dksX3_count_0 1 rfl rfl)
theorem dX3_count_2 : decode cX3_count 2 = .ok (.putfield 63, 3) := dk_181 0 63 (dk_at dksX3_count_0 2 rfl rfl)
theorem dX3_count_5 : decode cX3_count 5 = .ok (.iload_n 1, 1) := dk_27 (dk_at dksX3_count_0 5 rfl rfl)
theorem dX3_count_6 : decode cX3_count 6 = .ok (.tableswitch 182 0 14 #[74, 81, 88, 95, 100, 107, 114, 121, 129, 137, 142, 150, 158, 166, 174], 74) := by decide +kernel
theorem dX3_count_80 : decode cX3_count 80 = .ok (.aload_n 0, 1) := dk_42 (dk_at dksX3_count_2 0 rfl rfl)
theorem dX3_count_81 : decode cX3_count 81 = .ok (.getfield 7, 3) := dk_180 0 7 (dk_at dksX3_count_2 1 rfl rfl)
theorem dX3_count_84 : decode cX3_count 84 = .ok (.iconst 0, 1) := dk_3 (dk_at dksX3_count_2 4 rfl rfl)
theorem dX3_count_85 : decode cX3_count 85 = .ok (.iaload, 1) := dk_46 (dk_at dksX3_count_2 5 rfl rfl)
theorem dX3_count_86 : decode cX3_count 86 = .ok (.ireturn, 1) := dk_172 (dk_at dksX3_count_2 6 rfl rfl)
theorem dX3_count_87 : decode cX3_count 87 = .ok (.aload_n 0, 1) := dk_42 (dk_at dksX3_count_2 7 rfl rfl)
theorem dX3_count_88 : decode cX3_count 88 = .ok (.getfield 7, 3) := dk_180 0 7 (dk_at dksX3_count_2 8 rfl rfl)
theorem dX3_count_91 : decode cX3_count 91 = .ok (.iconst 1, 1) := dk_4 (dk_at dksX3_count_2 11 rfl rfl)
theorem dX3_count_92 : decode cX3_count 92 = .ok (.iaload, 1) := dk_46 (dk_at dksX3_count_2 12 rfl rfl)
theorem dX3_count_93 : decode cX3_count 93 = .ok (.ireturn, 1) := dk_172 (dk_at dksX3_count_2 13 rfl rfl)
theorem dX3_count_94 : decode cX3_count 94 = .ok (.aload_n 0, 1) := dk_42 (dk_at dksX3_count_2 14 rfl rfl)
theorem dX3_count_95 : decode cX3_count 95 = .ok (.getfield 7, 3) := dk_180 0 7 (dk_at dksX3_count_2 15 rfl rfl)
theorem dX3_count_98 : decode cX3_count 98 = .ok (.iconst 2, 1) := dk_5 (dk_at dksX3_count_2 18 rfl rfl)
theorem dX3_count_99 : decode cX3_count 99 = .ok (.iaload, 1) := dk_46 (dk_at dksX3_count_2 19 rfl rfl)
theorem dX3_count_100 : decode cX3_count 100 = .ok (.ireturn, 1) := dk_172 (dk_at dksX3_count_2 20 rfl rfl)
theorem dX3_count_101 : decode cX3_count 101 = .ok (.aload_n 0, 1) := dk_42 (dk_at dksX3_count_2 21 rfl rfl)
theorem dX3_count_102 : decode cX3_count 102 = .ok (.invokevirtual 189, 3) := dk_182 0 189 (dk_at dksX3_count_3 0 rfl rfl)
theorem dX3_count_105 : decode cX3_count 105 = .ok (.ireturn, 1) := dk_172 (dk_at dksX3_count_3 3 rfl rfl)
theorem dX3_count_106 : decode cX3_count 106 = .ok (.aload_n 0, 1) := dk_42 (dk_at dksX3_count_3 4 rfl rfl)
theorem dX3_count_107 : decode cX3_count 107 = .ok (.getfield 7, 3) := dk_180 0 7 (dk_at dksX3_count_3 5 rfl rfl)
theorem dX3_count_110 : decode cX3_count 110 = .ok (.iconst 3, 1) := dk_6 (dk_at dksX3_count_3 8 rfl rfl)
theorem dX3_count_111 : decode cX3_count 111 = .ok (.iaload, 1) := dk_46 (dk_at dksX3_count_3 9 rfl rfl)
theorem dX3_count_112 : decode cX3_count 112 = .ok (.ireturn, 1) := dk_172 (dk_at dksX3_count_3 10 rfl rfl)
theorem dX3_count_113 : decode cX3_count 113 = .ok (.aload_n 0, 1) := dk_42 (dk_at dksX3_count_3 11 rfl rfl)
theorem dX3_count_114 : decode cX3_count 114 = .ok (.getfield 7, 3) := dk_180 0 7 (dk_at dksX3_count_3 12 rfl rfl)
theorem dX3_count_117 : decode cX3_count 117 = .ok (.iconst 4, 1) := dk_7 (dk_at dksX3_count_3 15 rfl rfl)
theorem dX3_count_118 : decode cX3_count 118 = .ok (.iaload, 1) := dk_46 (dk_at dksX3_count_3 16 rfl rfl)
theorem dX3_count_119 : decode cX3_count 119 = .ok (.ireturn, 1) := dk_172 (dk_at dksX3_count_3 17 rfl rfl)
theorem dX3_count_120 : decode cX3_count 120 = .ok (.aload_n 0, 1) := dk_42 (dk_at dksX3_count_3 18 rfl rfl)
theorem dX3_count_121 : decode cX3_count 121 = .ok (.getfield 7, 3) := dk_180 0 7 (dk_at dksX3_count_3 19 rfl rfl)
theorem dX3_count_124 : decode cX3_count 124 = .ok (.iconst 5, 1) := dk_8 (dk_at dksX3_count_3 22 rfl rfl)
theorem dX3_count_125 : decode cX3_count 125 = .ok (.iaload, 1) := dk_46 (dk_at dksX3_count_3 23 rfl rfl)
theorem dX3_count_126 : decode cX3_count 126 = .ok (.ireturn, 1) := dk_172 (dk_at dksX3_count_4 0 rfl rfl)
theorem dX3_count_127 : decode cX3_count 127 = .ok (.aload_n 0, 1) := dk_42 (dk_at dksX3_count_4 1 rfl rfl)
theorem dX3_count_128 : decode cX3_count 128 = .ok (.getfield 7, 3) := dk_180 0 7 (dk_at dksX3_count_4 2 rfl rfl)
theorem dX3_count_131 : decode cX3_count 131 = .ok (.bipush 6, 2) := dk_16 6 (dk_at dksX3_count_4 5 rfl rfl)
theorem dX3_count_133 : decode cX3_count 133 = .ok (.iaload, 1) := dk_46 (dk_at dksX3_count_4 7 rfl rfl)
theorem dX3_count_134 : decode cX3_count 134 = .ok (.ireturn, 1) := dk_172 (dk_at dksX3_count_4 8 rfl rfl)
theorem dX3_count_135 : decode cX3_count 135 = .ok (.aload_n 0, 1) := dk_42 (dk_at dksX3_count_4 9 rfl rfl)
theorem dX3_count_136 : decode cX3_count 136 = .ok (.getfield 7, 3) := dk_180 0 7 (dk_at dksX3_count_4 10 rfl rfl)
theorem dX3_count_139 : decode cX3_count 139 = .ok (.bipush 7, 2) := dk_16 7 (dk_at dksX3_count_4 13 rfl rfl)
theorem dX3_count_141 : decode cX3_count 141 = .ok (.iaload, 1) := dk_46 (dk_at dksX3_count_4 15 rfl rfl)
theorem dX3_count_142 : decode cX3_count 142 = .ok (.ireturn, 1) := dk_172 (dk_at dksX3_count_4 16 rfl rfl)
theorem dX3_count_143 : decode cX3_count 143 = .ok (.aload_n 0, 1) := dk_42 (dk_at dksX3_count_4 17 rfl rfl)
theorem dX3_count_144 : decode cX3_count 144 = .ok (.getfield 192, 3) := dk_180 0 192 (dk_at dksX3_count_4 18 rfl rfl)
theorem dX3_count_147 : decode cX3_count 147 = .ok (.ireturn, 1) := dk_172 (dk_at dksX3_count_4 21 rfl rfl)
theorem dX3_count_148 : decode cX3_count 148 = .ok (.aload_n 0, 1) := dk_42 (dk_at dksX3_count_4 22 rfl rfl)
theorem dX3_count_149 : decode cX3_count 149 = .ok (.getfield 7, 3) := dk_180 0 7 (dk_at dksX3_count_5 0 rfl rfl)
theorem dX3_count_152 : decode cX3_count 152 = .ok (.bipush 8, 2) := dk_16 8 (dk_at dksX3_count_5 3 rfl rfl)
theorem dX3_count_154 : decode cX3_count 154 = .ok (.iaload, 1) := dk_46 (dk_at dksX3_count_5 5 rfl rfl)
theorem dX3_count_155 : decode cX3_count 155 = .ok (.ireturn, 1) := dk_172 (dk_at dksX3_count_5 6 rfl rfl)
theorem dX3_count_156 : decode cX3_count 156 = .ok (.aload_n 0, 1) := dk_42 (dk_at dksX3_count_5 7 rfl rfl)
theorem dX3_count_157 : decode cX3_count 157 = .ok (.getfield 7, 3) := dk_180 0 7 (dk_at dksX3_count_5 8 rfl rfl)
theorem dX3_count_160 : decode cX3_count 160 = .ok (.bipush 9, 2) := dk_16 9 (dk_at dksX3_count_5 11 rfl rfl)
theorem dX3_count_162 : decode cX3_count 162 = .ok (.iaload, 1) := dk_46 (dk_at dksX3_count_5 13 rfl rfl)
theorem dX3_count_163 : decode cX3_count 163 = .ok (.ireturn, 1) := dk_172 (dk_at dksX3_count_5 14 rfl rfl)
theorem dX3_count_164 : decode cX3_count 164 = .ok (.aload_n 0, 1) := dk_42 (dk_at dksX3_count_5 15 rfl rfl)
theorem dX3_count_165 : decode cX3_count 165 = .ok (.getfield 7, 3) := dk_180 0 7 (dk_at dksX3_count_5 16 rfl rfl)
theorem dX3_count_168 : decode cX3_count 168 = .ok (.bipush 10, 2) := dk_16 10 (dk_at dksX3_count_5 19 rfl rfl)
theorem dX3_count_170 : decode cX3_count 170 = .ok (.iaload, 1) := dk_46 (dk_at dksX3_count_5 21 rfl rfl)
theorem dX3_count_171 : decode cX3_count 171 = .ok (.ireturn, 1) := dk_172 (dk_at dksX3_count_5 22 rfl rfl)
theorem dX3_count_172 : decode cX3_count 172 = .ok (.aload_n 0, 1) := dk_42 (dk_at dksX3_count_5 23 rfl rfl)
theorem dX3_count_173 : decode cX3_count 173 = .ok (.getfield 7, 3) := dk_180 0 7 (dk_at dksX3_count_6 0 rfl rfl)
theorem dX3_count_176 : decode cX3_count 176 = .ok (.bipush 11, 2) := dk_16 11 (dk_at dksX3_count_6 3 rfl rfl)
theorem dX3_count_178 : decode cX3_count 178 = .ok (.iaload, 1) := dk_46 (dk_at dksX3_count_6 5 rfl rfl)
theorem dX3_count_179 : decode cX3_count 179 = .ok (.ireturn, 1) := dk_172 (dk_at dksX3_count_6 6 rfl rfl)
theorem dX3_count_180 : decode cX3_count 180 = .ok (.aload_n 0, 1) := dk_42 (dk_at dksX3_count_6 7 rfl rfl)
theorem dX3_count_181 : decode cX3_count 181 = .ok (.getfield 7, 3) := dk_180 0 7 (dk_at dksX3_count_6 8 rfl rfl)
theorem dX3_count_184 : decode cX3_count 184 = .ok (.bipush 12, 2) := dk_16 12 (dk_at dksX3_count_6 11 rfl rfl)
theorem dX3_count_186 : decode cX3_count 186 = .ok (.iaload, 1) := dk_46 (dk_at dksX3_count_6 13 rfl rfl)
theorem dX3_count_187 : decode cX3_count 187 = .ok (.ireturn, 1) := dk_172 (dk_at dksX3_count_6 14 rfl rfl)
theorem dX3_count_188 : decode cX3_count 188 = .ok (.iconst (-1), 1) := dk_2 (dk_at dksX3_count_6 15 rfl rfl)
theorem dX3_count_189 : decode cX3_count 189 = .ok (.ireturn, 1) := dk_172 (dk_at dksX3_count_6 16 rfl rfl)
abbrev cX3_learntMany : ByteArray := prog_13_method_47_code
def yX3_learntMany : MethodName := ⟨RX3, "learntMany", "()I"⟩
def dkwX3_learntMany_1 : List UInt8 := [46, 4, 160, 0, 7, 4, 167, 0, 4, 3, 96, 60, 132, 2, 1, 167, 255, 221, 27, 172]
abbrev dktX3_learntMany_1 : List UInt8 := dkwX3_learntMany_1 ++ []
def dkwX3_learntMany_0 : List UInt8 := [3, 60, 3, 61, 28, 42, 180, 0, 7, 4, 46, 162, 0, 31, 27, 42, 180, 0, 7, 17, 2, 13, 28, 96]
abbrev dktX3_learntMany_0 : List UInt8 := dkwX3_learntMany_0 ++ dktX3_learntMany_1
theorem dksX3_learntMany_0 : cX3_learntMany.data.toList.drop 0 = dktX3_learntMany_0 := by decide +kernel
theorem dksX3_learntMany_1 : cX3_learntMany.data.toList.drop 24 = dktX3_learntMany_1 := dk_seg dksX3_learntMany_0 24 rfl rfl
theorem dX3_learntMany_0 : decode cX3_learntMany 0 = .ok (.iconst 0, 1) := dk_3 (dk_at dksX3_learntMany_0 0 rfl rfl)
theorem dX3_learntMany_1 : decode cX3_learntMany 1 = .ok (.istore_n 1, 1) := dk_60 (dk_at dksX3_learntMany_0 1 rfl rfl)
theorem dX3_learntMany_2 : decode cX3_learntMany 2 = .ok (.iconst 0, 1) := dk_3 (dk_at dksX3_learntMany_0 2 rfl rfl)
theorem dX3_learntMany_3 : decode cX3_learntMany 3 = .ok (.istore_n 2, 1) := dk_61 (dk_at dksX3_learntMany_0 3 rfl rfl)
theorem dX3_learntMany_4 : decode cX3_learntMany 4 = .ok (.iload_n 2, 1) := dk_28 (dk_at dksX3_learntMany_0 4 rfl rfl)
theorem dX3_learntMany_5 : decode cX3_learntMany 5 = .ok (.aload_n 0, 1) := dk_42 (dk_at dksX3_learntMany_0 5 rfl rfl)
theorem dX3_learntMany_6 : decode cX3_learntMany 6 = .ok (.getfield 7, 3) := dk_180 0 7 (dk_at dksX3_learntMany_0 6 rfl rfl)
theorem dX3_learntMany_9 : decode cX3_learntMany 9 = .ok (.iconst 1, 1) := dk_4 (dk_at dksX3_learntMany_0 9 rfl rfl)
theorem dX3_learntMany_10 : decode cX3_learntMany 10 = .ok (.iaload, 1) := dk_46 (dk_at dksX3_learntMany_0 10 rfl rfl)
theorem dX3_learntMany_11 : decode cX3_learntMany 11 = .ok (.if_icmp .ge 31, 3) := dk_162 0 31 (dk_at dksX3_learntMany_0 11 rfl rfl)
theorem dX3_learntMany_14 : decode cX3_learntMany 14 = .ok (.iload_n 1, 1) := dk_27 (dk_at dksX3_learntMany_0 14 rfl rfl)
theorem dX3_learntMany_15 : decode cX3_learntMany 15 = .ok (.aload_n 0, 1) := dk_42 (dk_at dksX3_learntMany_0 15 rfl rfl)
theorem dX3_learntMany_16 : decode cX3_learntMany 16 = .ok (.getfield 7, 3) := dk_180 0 7 (dk_at dksX3_learntMany_0 16 rfl rfl)
theorem dX3_learntMany_19 : decode cX3_learntMany 19 = .ok (.sipush 525, 3) := dk_17 2 13 (dk_at dksX3_learntMany_0 19 rfl rfl)
theorem dX3_learntMany_22 : decode cX3_learntMany 22 = .ok (.iload_n 2, 1) := dk_28 (dk_at dksX3_learntMany_0 22 rfl rfl)
theorem dX3_learntMany_23 : decode cX3_learntMany 23 = .ok (.iadd, 1) := dk_96 (dk_at dksX3_learntMany_0 23 rfl rfl)
theorem dX3_learntMany_24 : decode cX3_learntMany 24 = .ok (.iaload, 1) := dk_46 (dk_at dksX3_learntMany_1 0 rfl rfl)
theorem dX3_learntMany_25 : decode cX3_learntMany 25 = .ok (.iconst 1, 1) := dk_4 (dk_at dksX3_learntMany_1 1 rfl rfl)
theorem dX3_learntMany_26 : decode cX3_learntMany 26 = .ok (.if_icmp .ne 7, 3) := dk_160 0 7 (dk_at dksX3_learntMany_1 2 rfl rfl)
theorem dX3_learntMany_29 : decode cX3_learntMany 29 = .ok (.iconst 1, 1) := dk_4 (dk_at dksX3_learntMany_1 5 rfl rfl)
theorem dX3_learntMany_30 : decode cX3_learntMany 30 = .ok (.goto 4, 3) := dk_167 0 4 (dk_at dksX3_learntMany_1 6 rfl rfl)
theorem dX3_learntMany_33 : decode cX3_learntMany 33 = .ok (.iconst 0, 1) := dk_3 (dk_at dksX3_learntMany_1 9 rfl rfl)
theorem dX3_learntMany_34 : decode cX3_learntMany 34 = .ok (.iadd, 1) := dk_96 (dk_at dksX3_learntMany_1 10 rfl rfl)
theorem dX3_learntMany_35 : decode cX3_learntMany 35 = .ok (.istore_n 1, 1) := dk_60 (dk_at dksX3_learntMany_1 11 rfl rfl)
theorem dX3_learntMany_36 : decode cX3_learntMany 36 = .ok (.iinc 2 1, 3) := dk_132 2 1 (dk_at dksX3_learntMany_1 12 rfl rfl)
theorem dX3_learntMany_39 : decode cX3_learntMany 39 = .ok (.goto (-35), 3) := dk_167 255 221 (dk_at dksX3_learntMany_1 15 rfl rfl)
theorem dX3_learntMany_42 : decode cX3_learntMany 42 = .ok (.iload_n 1, 1) := dk_27 (dk_at dksX3_learntMany_1 18 rfl rfl)
theorem dX3_learntMany_43 : decode cX3_learntMany 43 = .ok (.ireturn, 1) := dk_172 (dk_at dksX3_learntMany_1 19 rfl rfl)
abbrev cX3_clause : ByteArray := prog_13_method_49_code
def yX3_clause : MethodName := ⟨RX3, "clause", "(II)I"⟩
def dkwX3_clause_5 : List UInt8 := [182, 0, 96, 153, 0, 7, 4, 167, 0, 4, 3, 172, 42, 27, 28, 182, 0, 108, 172]
abbrev dktX3_clause_5 : List UInt8 := dkwX3_clause_5 ++ []
def dkwX3_clause_4 : List UInt8 := [42, 27, 182, 0, 99, 172, 42, 27, 182, 0, 93, 153, 0, 7, 4, 167, 0, 4, 3, 172, 42, 27]
abbrev dktX3_clause_4 : List UInt8 := dkwX3_clause_4 ++ dktX3_clause_5
def dkwX3_clause_3 : List UInt8 := [170, 0, 0, 0, 0, 0, 0, 62, 255, 255, 255, 253, 255, 255, 255, 255, 0, 0, 0, 48, 0, 0, 0, 34, 0, 0, 0, 28]
abbrev dktX3_clause_3 : List UInt8 := dkwX3_clause_3 ++ dktX3_clause_4
def dkwX3_clause_2 : List UInt8 := [160, 0, 5, 3, 172, 28]
abbrev dktX3_clause_2 : List UInt8 := dkwX3_clause_2 ++ dktX3_clause_3
def dkwX3_clause_1 : List UInt8 := [182, 0, 99, 4, 100, 184, 0, 67, 153, 0, 7, 3, 167, 0, 4, 4, 181, 0, 63, 42, 180, 0, 63, 4]
abbrev dktX3_clause_1 : List UInt8 := dkwX3_clause_1 ++ dktX3_clause_2
def dkwX3_clause_0 : List UInt8 := [42, 27, 3, 42, 180, 0, 7, 4, 46, 4, 100, 184, 0, 67, 153, 0, 23, 28, 16, 253, 42, 27]
abbrev dktX3_clause_0 : List UInt8 := dkwX3_clause_0 ++ dktX3_clause_1
theorem dksX3_clause_0 : cX3_clause.data.toList.drop 0 = dktX3_clause_0 := by decide +kernel
theorem dksX3_clause_1 : cX3_clause.data.toList.drop 22 = dktX3_clause_1 := dk_seg dksX3_clause_0 22 rfl rfl
theorem dksX3_clause_2 : cX3_clause.data.toList.drop 46 = dktX3_clause_2 := dk_seg dksX3_clause_1 24 rfl rfl
theorem dksX3_clause_3 : cX3_clause.data.toList.drop 52 = dktX3_clause_3 := dk_seg dksX3_clause_2 6 rfl rfl
theorem dksX3_clause_4 : cX3_clause.data.toList.drop 80 = dktX3_clause_4 := dk_seg dksX3_clause_3 28 rfl rfl
theorem dksX3_clause_5 : cX3_clause.data.toList.drop 102 = dktX3_clause_5 := dk_seg dksX3_clause_4 22 rfl rfl
theorem dX3_clause_0 : decode cX3_clause 0 = .ok (.aload_n 0, 1) := dk_42 (dk_at dksX3_clause_0 0 rfl rfl)
theorem dX3_clause_1 : decode cX3_clause 1 = .ok (.iload_n 1, 1) := dk_27 (dk_at dksX3_clause_0 1 rfl rfl)
theorem dX3_clause_2 : decode cX3_clause 2 = .ok (.iconst 0, 1) := dk_3 (dk_at dksX3_clause_0 2 rfl rfl)
theorem dX3_clause_3 : decode cX3_clause 3 = .ok (.aload_n 0, 1) := dk_42 (dk_at dksX3_clause_0 3 rfl rfl)
theorem dX3_clause_4 : decode cX3_clause 4 = .ok (.getfield 7, 3) := dk_180 0 7 (dk_at dksX3_clause_0 4 rfl rfl)
theorem dX3_clause_7 : decode cX3_clause 7 = .ok (.iconst 1, 1) := dk_4 (dk_at dksX3_clause_0 7 rfl rfl)
theorem dX3_clause_8 : decode cX3_clause 8 = .ok (.iaload, 1) := dk_46 (dk_at dksX3_clause_0 8 rfl rfl)
theorem dX3_clause_9 : decode cX3_clause 9 = .ok (.iconst 1, 1) := dk_4 (dk_at dksX3_clause_0 9 rfl rfl)
theorem dX3_clause_10 : decode cX3_clause 10 = .ok (.isub, 1) := dk_100 (dk_at dksX3_clause_0 10 rfl rfl)
theorem dX3_clause_11 : decode cX3_clause 11 = .ok (.invokestatic 67, 3) := dk_184 0 67 (dk_at dksX3_clause_0 11 rfl rfl)
theorem dX3_clause_14 : decode cX3_clause 14 = .ok (.ifCond .eq 23, 3) := dk_153 0 23 (dk_at dksX3_clause_0 14 rfl rfl)
theorem dX3_clause_17 : decode cX3_clause 17 = .ok (.iload_n 2, 1) := dk_28 (dk_at dksX3_clause_0 17 rfl rfl)
theorem dX3_clause_18 : decode cX3_clause 18 = .ok (.bipush (-3), 2) := dk_16 253 (dk_at dksX3_clause_0 18 rfl rfl)
theorem dX3_clause_20 : decode cX3_clause 20 = .ok (.aload_n 0, 1) := dk_42 (dk_at dksX3_clause_0 20 rfl rfl)
theorem dX3_clause_21 : decode cX3_clause 21 = .ok (.iload_n 1, 1) := dk_27 (dk_at dksX3_clause_0 21 rfl rfl)
theorem dX3_clause_22 : decode cX3_clause 22 = .ok (.invokevirtual 99, 3) := dk_182 0 99 (dk_at dksX3_clause_1 0 rfl rfl)
theorem dX3_clause_25 : decode cX3_clause 25 = .ok (.iconst 1, 1) := dk_4 (dk_at dksX3_clause_1 3 rfl rfl)
theorem dX3_clause_26 : decode cX3_clause 26 = .ok (.isub, 1) := dk_100 (dk_at dksX3_clause_1 4 rfl rfl)
theorem dX3_clause_27 : decode cX3_clause 27 = .ok (.invokestatic 67, 3) := dk_184 0 67 (dk_at dksX3_clause_1 5 rfl rfl)
theorem dX3_clause_30 : decode cX3_clause 30 = .ok (.ifCond .eq 7, 3) := dk_153 0 7 (dk_at dksX3_clause_1 8 rfl rfl)
theorem dX3_clause_33 : decode cX3_clause 33 = .ok (.iconst 0, 1) := dk_3 (dk_at dksX3_clause_1 11 rfl rfl)
theorem dX3_clause_34 : decode cX3_clause 34 = .ok (.goto 4, 3) := dk_167 0 4 (dk_at dksX3_clause_1 12 rfl rfl)
theorem dX3_clause_37 : decode cX3_clause 37 = .ok (.iconst 1, 1) := dk_4 (dk_at dksX3_clause_1 15 rfl rfl)
theorem dX3_clause_38 : decode cX3_clause 38 = .ok (.putfield 63, 3) := dk_181 0 63 (dk_at dksX3_clause_1 16 rfl rfl)
theorem dX3_clause_41 : decode cX3_clause 41 = .ok (.aload_n 0, 1) := dk_42 (dk_at dksX3_clause_1 19 rfl rfl)
theorem dX3_clause_42 : decode cX3_clause 42 = .ok (.getfield 63, 3) := dk_180 0 63 (dk_at dksX3_clause_1 20 rfl rfl)
theorem dX3_clause_45 : decode cX3_clause 45 = .ok (.iconst 1, 1) := dk_4 (dk_at dksX3_clause_1 23 rfl rfl)
theorem dX3_clause_46 : decode cX3_clause 46 = .ok (.if_icmp .ne 5, 3) := dk_160 0 5 (dk_at dksX3_clause_2 0 rfl rfl)
theorem dX3_clause_49 : decode cX3_clause 49 = .ok (.iconst 0, 1) := dk_3 (dk_at dksX3_clause_2 3 rfl rfl)
theorem dX3_clause_50 : decode cX3_clause 50 = .ok (.ireturn, 1) := dk_172 (dk_at dksX3_clause_2 4 rfl rfl)
theorem dX3_clause_51 : decode cX3_clause 51 = .ok (.iload_n 2, 1) := dk_28 (dk_at dksX3_clause_2 5 rfl rfl)
theorem dX3_clause_52 : decode cX3_clause 52 = .ok (.tableswitch 62 (-3) (-1) #[48, 34, 28], 28) := by decide +kernel
theorem dX3_clause_80 : decode cX3_clause 80 = .ok (.aload_n 0, 1) := dk_42 (dk_at dksX3_clause_4 0 rfl rfl)
theorem dX3_clause_81 : decode cX3_clause 81 = .ok (.iload_n 1, 1) := dk_27 (dk_at dksX3_clause_4 1 rfl rfl)
theorem dX3_clause_82 : decode cX3_clause 82 = .ok (.invokevirtual 99, 3) := dk_182 0 99 (dk_at dksX3_clause_4 2 rfl rfl)
theorem dX3_clause_85 : decode cX3_clause 85 = .ok (.ireturn, 1) := dk_172 (dk_at dksX3_clause_4 5 rfl rfl)
theorem dX3_clause_86 : decode cX3_clause 86 = .ok (.aload_n 0, 1) := dk_42 (dk_at dksX3_clause_4 6 rfl rfl)
theorem dX3_clause_87 : decode cX3_clause 87 = .ok (.iload_n 1, 1) := dk_27 (dk_at dksX3_clause_4 7 rfl rfl)
theorem dX3_clause_88 : decode cX3_clause 88 = .ok (.invokevirtual 93, 3) := dk_182 0 93 (dk_at dksX3_clause_4 8 rfl rfl)
theorem dX3_clause_91 : decode cX3_clause 91 = .ok (.ifCond .eq 7, 3) := dk_153 0 7 (dk_at dksX3_clause_4 11 rfl rfl)
theorem dX3_clause_94 : decode cX3_clause 94 = .ok (.iconst 1, 1) := dk_4 (dk_at dksX3_clause_4 14 rfl rfl)
theorem dX3_clause_95 : decode cX3_clause 95 = .ok (.goto 4, 3) := dk_167 0 4 (dk_at dksX3_clause_4 15 rfl rfl)
theorem dX3_clause_98 : decode cX3_clause 98 = .ok (.iconst 0, 1) := dk_3 (dk_at dksX3_clause_4 18 rfl rfl)
theorem dX3_clause_99 : decode cX3_clause 99 = .ok (.ireturn, 1) := dk_172 (dk_at dksX3_clause_4 19 rfl rfl)
theorem dX3_clause_100 : decode cX3_clause 100 = .ok (.aload_n 0, 1) := dk_42 (dk_at dksX3_clause_4 20 rfl rfl)
theorem dX3_clause_101 : decode cX3_clause 101 = .ok (.iload_n 1, 1) := dk_27 (dk_at dksX3_clause_4 21 rfl rfl)
theorem dX3_clause_102 : decode cX3_clause 102 = .ok (.invokevirtual 96, 3) := dk_182 0 96 (dk_at dksX3_clause_5 0 rfl rfl)
theorem dX3_clause_105 : decode cX3_clause 105 = .ok (.ifCond .eq 7, 3) := dk_153 0 7 (dk_at dksX3_clause_5 3 rfl rfl)
theorem dX3_clause_108 : decode cX3_clause 108 = .ok (.iconst 1, 1) := dk_4 (dk_at dksX3_clause_5 6 rfl rfl)
theorem dX3_clause_109 : decode cX3_clause 109 = .ok (.goto 4, 3) := dk_167 0 4 (dk_at dksX3_clause_5 7 rfl rfl)
theorem dX3_clause_112 : decode cX3_clause 112 = .ok (.iconst 0, 1) := dk_3 (dk_at dksX3_clause_5 10 rfl rfl)
theorem dX3_clause_113 : decode cX3_clause 113 = .ok (.ireturn, 1) := dk_172 (dk_at dksX3_clause_5 11 rfl rfl)
theorem dX3_clause_114 : decode cX3_clause 114 = .ok (.aload_n 0, 1) := dk_42 (dk_at dksX3_clause_5 12 rfl rfl)
theorem dX3_clause_115 : decode cX3_clause 115 = .ok (.iload_n 1, 1) := dk_27 (dk_at dksX3_clause_5 13 rfl rfl)
theorem dX3_clause_116 : decode cX3_clause 116 = .ok (.iload_n 2, 1) := dk_28 (dk_at dksX3_clause_5 14 rfl rfl)
theorem dX3_clause_117 : decode cX3_clause 117 = .ok (.invokevirtual 108, 3) := dk_182 0 108 (dk_at dksX3_clause_5 15 rfl rfl)
theorem dX3_clause_120 : decode cX3_clause 120 = .ok (.ireturn, 1) := dk_172 (dk_at dksX3_clause_5 18 rfl rfl)
abbrev cX3_assumption : ByteArray := prog_13_method_50_code
def yX3_assumption : MethodName := ⟨RX3, "assumption", "(I)I"⟩
def dkwX3_assumption_1 : List UInt8 := [180, 0, 7, 16, 16, 27, 96, 46, 167, 0, 4, 3, 172]
abbrev dktX3_assumption_1 : List UInt8 := dkwX3_assumption_1 ++ []
def dkwX3_assumption_0 : List UInt8 := [42, 3, 181, 0, 63, 27, 3, 42, 180, 0, 7, 6, 46, 4, 100, 184, 0, 67, 153, 0, 15, 42]
abbrev dktX3_assumption_0 : List UInt8 := dkwX3_assumption_0 ++ dktX3_assumption_1
theorem dksX3_assumption_0 : cX3_assumption.data.toList.drop 0 = dktX3_assumption_0 := by decide +kernel
theorem dksX3_assumption_1 : cX3_assumption.data.toList.drop 22 = dktX3_assumption_1 := dk_seg dksX3_assumption_0 22 rfl rfl
theorem dX3_assumption_0 : decode cX3_assumption 0 = .ok (.aload_n 0, 1) := dk_42 (dk_at dksX3_assumption_0 0 rfl rfl)
theorem dX3_assumption_1 : decode cX3_assumption 1 = .ok (.iconst 0, 1) := dk_3 (dk_at dksX3_assumption_0 1 rfl rfl)
theorem dX3_assumption_2 : decode cX3_assumption 2 = .ok (.putfield 63, 3) := dk_181 0 63 (dk_at dksX3_assumption_0 2 rfl rfl)
theorem dX3_assumption_5 : decode cX3_assumption 5 = .ok (.iload_n 1, 1) := dk_27 (dk_at dksX3_assumption_0 5 rfl rfl)
theorem dX3_assumption_6 : decode cX3_assumption 6 = .ok (.iconst 0, 1) := dk_3 (dk_at dksX3_assumption_0 6 rfl rfl)
theorem dX3_assumption_7 : decode cX3_assumption 7 = .ok (.aload_n 0, 1) := dk_42 (dk_at dksX3_assumption_0 7 rfl rfl)
theorem dX3_assumption_8 : decode cX3_assumption 8 = .ok (.getfield 7, 3) := dk_180 0 7 (dk_at dksX3_assumption_0 8 rfl rfl)
theorem dX3_assumption_11 : decode cX3_assumption 11 = .ok (.iconst 3, 1) := dk_6 (dk_at dksX3_assumption_0 11 rfl rfl)
theorem dX3_assumption_12 : decode cX3_assumption 12 = .ok (.iaload, 1) := dk_46 (dk_at dksX3_assumption_0 12 rfl rfl)
theorem dX3_assumption_13 : decode cX3_assumption 13 = .ok (.iconst 1, 1) := dk_4 (dk_at dksX3_assumption_0 13 rfl rfl)
theorem dX3_assumption_14 : decode cX3_assumption 14 = .ok (.isub, 1) := dk_100 (dk_at dksX3_assumption_0 14 rfl rfl)
theorem dX3_assumption_15 : decode cX3_assumption 15 = .ok (.invokestatic 67, 3) := dk_184 0 67 (dk_at dksX3_assumption_0 15 rfl rfl)
theorem dX3_assumption_18 : decode cX3_assumption 18 = .ok (.ifCond .eq 15, 3) := dk_153 0 15 (dk_at dksX3_assumption_0 18 rfl rfl)
theorem dX3_assumption_21 : decode cX3_assumption 21 = .ok (.aload_n 0, 1) := dk_42 (dk_at dksX3_assumption_0 21 rfl rfl)
theorem dX3_assumption_22 : decode cX3_assumption 22 = .ok (.getfield 7, 3) := dk_180 0 7 (dk_at dksX3_assumption_1 0 rfl rfl)
theorem dX3_assumption_25 : decode cX3_assumption 25 = .ok (.bipush 16, 2) := dk_16 16 (dk_at dksX3_assumption_1 3 rfl rfl)
theorem dX3_assumption_27 : decode cX3_assumption 27 = .ok (.iload_n 1, 1) := dk_27 (dk_at dksX3_assumption_1 5 rfl rfl)
theorem dX3_assumption_28 : decode cX3_assumption 28 = .ok (.iadd, 1) := dk_96 (dk_at dksX3_assumption_1 6 rfl rfl)
theorem dX3_assumption_29 : decode cX3_assumption 29 = .ok (.iaload, 1) := dk_46 (dk_at dksX3_assumption_1 7 rfl rfl)
theorem dX3_assumption_30 : decode cX3_assumption 30 = .ok (.goto 4, 3) := dk_167 0 4 (dk_at dksX3_assumption_1 8 rfl rfl)
theorem dX3_assumption_33 : decode cX3_assumption 33 = .ok (.iconst 0, 1) := dk_3 (dk_at dksX3_assumption_1 11 rfl rfl)
theorem dX3_assumption_34 : decode cX3_assumption 34 = .ok (.ireturn, 1) := dk_172 (dk_at dksX3_assumption_1 12 rfl rfl)
abbrev cX3_model : ByteArray := prog_13_method_51_code
def yX3_model : MethodName := ⟨RX3, "model", "(I)I"⟩
def dkwX3_model_1 : List UInt8 := [16, 94, 27, 96, 46, 167, 0, 4, 2, 172]
abbrev dktX3_model_1 : List UInt8 := dkwX3_model_1 ++ []
def dkwX3_model_0 : List UInt8 := [42, 3, 181, 0, 63, 27, 4, 42, 180, 0, 7, 16, 14, 46, 184, 0, 67, 153, 0, 15, 42, 180, 0, 7]
abbrev dktX3_model_0 : List UInt8 := dkwX3_model_0 ++ dktX3_model_1
theorem dksX3_model_0 : cX3_model.data.toList.drop 0 = dktX3_model_0 := by decide +kernel
theorem dksX3_model_1 : cX3_model.data.toList.drop 24 = dktX3_model_1 := dk_seg dksX3_model_0 24 rfl rfl
theorem dX3_model_0 : decode cX3_model 0 = .ok (.aload_n 0, 1) := dk_42 (dk_at dksX3_model_0 0 rfl rfl)
theorem dX3_model_1 : decode cX3_model 1 = .ok (.iconst 0, 1) := dk_3 (dk_at dksX3_model_0 1 rfl rfl)
theorem dX3_model_2 : decode cX3_model 2 = .ok (.putfield 63, 3) := dk_181 0 63 (dk_at dksX3_model_0 2 rfl rfl)
theorem dX3_model_5 : decode cX3_model 5 = .ok (.iload_n 1, 1) := dk_27 (dk_at dksX3_model_0 5 rfl rfl)
theorem dX3_model_6 : decode cX3_model 6 = .ok (.iconst 1, 1) := dk_4 (dk_at dksX3_model_0 6 rfl rfl)
theorem dX3_model_7 : decode cX3_model 7 = .ok (.aload_n 0, 1) := dk_42 (dk_at dksX3_model_0 7 rfl rfl)
theorem dX3_model_8 : decode cX3_model 8 = .ok (.getfield 7, 3) := dk_180 0 7 (dk_at dksX3_model_0 8 rfl rfl)
theorem dX3_model_11 : decode cX3_model 11 = .ok (.bipush 14, 2) := dk_16 14 (dk_at dksX3_model_0 11 rfl rfl)
theorem dX3_model_13 : decode cX3_model 13 = .ok (.iaload, 1) := dk_46 (dk_at dksX3_model_0 13 rfl rfl)
theorem dX3_model_14 : decode cX3_model 14 = .ok (.invokestatic 67, 3) := dk_184 0 67 (dk_at dksX3_model_0 14 rfl rfl)
theorem dX3_model_17 : decode cX3_model 17 = .ok (.ifCond .eq 15, 3) := dk_153 0 15 (dk_at dksX3_model_0 17 rfl rfl)
theorem dX3_model_20 : decode cX3_model 20 = .ok (.aload_n 0, 1) := dk_42 (dk_at dksX3_model_0 20 rfl rfl)
theorem dX3_model_21 : decode cX3_model 21 = .ok (.getfield 7, 3) := dk_180 0 7 (dk_at dksX3_model_0 21 rfl rfl)
theorem dX3_model_24 : decode cX3_model 24 = .ok (.bipush 94, 2) := dk_16 94 (dk_at dksX3_model_1 0 rfl rfl)
theorem dX3_model_26 : decode cX3_model 26 = .ok (.iload_n 1, 1) := dk_27 (dk_at dksX3_model_1 2 rfl rfl)
theorem dX3_model_27 : decode cX3_model 27 = .ok (.iadd, 1) := dk_96 (dk_at dksX3_model_1 3 rfl rfl)
theorem dX3_model_28 : decode cX3_model 28 = .ok (.iaload, 1) := dk_46 (dk_at dksX3_model_1 4 rfl rfl)
theorem dX3_model_29 : decode cX3_model 29 = .ok (.goto 4, 3) := dk_167 0 4 (dk_at dksX3_model_1 5 rfl rfl)
theorem dX3_model_32 : decode cX3_model 32 = .ok (.iconst (-1), 1) := dk_2 (dk_at dksX3_model_1 8 rfl rfl)
theorem dX3_model_33 : decode cX3_model 33 = .ok (.ireturn, 1) := dk_172 (dk_at dksX3_model_1 9 rfl rfl)
abbrev cX3_core : ByteArray := prog_13_method_52_code
def yX3_core : MethodName := ⟨RX3, "core", "()I"⟩
def dkwX3_core_0 : List UInt8 := [42, 3, 181, 0, 63, 42, 180, 0, 7, 16, 13, 46, 172]
abbrev dktX3_core_0 : List UInt8 := dkwX3_core_0 ++ []
theorem dksX3_core_0 : cX3_core.data.toList.drop 0 = dktX3_core_0 := by decide +kernel
theorem dX3_core_0 : decode cX3_core 0 = .ok (.aload_n 0, 1) := dk_42 (dk_at dksX3_core_0 0 rfl rfl)
theorem dX3_core_1 : decode cX3_core 1 = .ok (.iconst 0, 1) := dk_3 (dk_at dksX3_core_0 1 rfl rfl)
theorem dX3_core_2 : decode cX3_core 2 = .ok (.putfield 63, 3) := dk_181 0 63 (dk_at dksX3_core_0 2 rfl rfl)
theorem dX3_core_5 : decode cX3_core 5 = .ok (.aload_n 0, 1) := dk_42 (dk_at dksX3_core_0 5 rfl rfl)
theorem dX3_core_6 : decode cX3_core 6 = .ok (.getfield 7, 3) := dk_180 0 7 (dk_at dksX3_core_0 6 rfl rfl)
theorem dX3_core_9 : decode cX3_core 9 = .ok (.bipush 13, 2) := dk_16 13 (dk_at dksX3_core_0 9 rfl rfl)
theorem dX3_core_11 : decode cX3_core 11 = .ok (.iaload, 1) := dk_46 (dk_at dksX3_core_0 11 rfl rfl)
theorem dX3_core_12 : decode cX3_core 12 = .ok (.ireturn, 1) := dk_172 (dk_at dksX3_core_0 12 rfl rfl)
abbrev cX3_variable : ByteArray := prog_13_method_54_code
def yX3_variable : MethodName := ⟨RX3, "variable", "(II)I"⟩
def dkwX3_variable_3 : List UInt8 := [182, 0, 195, 172, 2, 172]
abbrev dktX3_variable_3 : List UInt8 := dkwX3_variable_3 ++ []
def dkwX3_variable_2 : List UInt8 := [42, 180, 0, 7, 16, 32, 27, 96, 46, 172, 42, 180, 0, 7, 16, 63, 27, 96, 46, 172, 42, 27]
abbrev dktX3_variable_2 : List UInt8 := dkwX3_variable_2 ++ dktX3_variable_3
def dkwX3_variable_1 : List UInt8 := [170, 0, 0, 0, 0, 0, 0, 54, 0, 0, 0, 0, 0, 0, 0, 2, 0, 0, 0, 28, 0, 0, 0, 38, 0, 0, 0, 48]
abbrev dktX3_variable_1 : List UInt8 := dkwX3_variable_1 ++ dktX3_variable_2
def dkwX3_variable_0 : List UInt8 := [42, 3, 181, 0, 63, 42, 27, 182, 0, 75, 154, 0, 5, 2, 172, 28]
abbrev dktX3_variable_0 : List UInt8 := dkwX3_variable_0 ++ dktX3_variable_1
theorem dksX3_variable_0 : cX3_variable.data.toList.drop 0 = dktX3_variable_0 := by decide +kernel
theorem dksX3_variable_1 : cX3_variable.data.toList.drop 16 = dktX3_variable_1 := dk_seg dksX3_variable_0 16 rfl rfl
theorem dksX3_variable_2 : cX3_variable.data.toList.drop 44 = dktX3_variable_2 := dk_seg dksX3_variable_1 28 rfl rfl
theorem dksX3_variable_3 : cX3_variable.data.toList.drop 66 = dktX3_variable_3 := dk_seg dksX3_variable_2 22 rfl rfl
theorem dX3_variable_0 : decode cX3_variable 0 = .ok (.aload_n 0, 1) := dk_42 (dk_at dksX3_variable_0 0 rfl rfl)
theorem dX3_variable_1 : decode cX3_variable 1 = .ok (.iconst 0, 1) := dk_3 (dk_at dksX3_variable_0 1 rfl rfl)
theorem dX3_variable_2 : decode cX3_variable 2 = .ok (.putfield 63, 3) := dk_181 0 63 (dk_at dksX3_variable_0 2 rfl rfl)
theorem dX3_variable_5 : decode cX3_variable 5 = .ok (.aload_n 0, 1) := dk_42 (dk_at dksX3_variable_0 5 rfl rfl)
theorem dX3_variable_6 : decode cX3_variable 6 = .ok (.iload_n 1, 1) := dk_27 (dk_at dksX3_variable_0 6 rfl rfl)
theorem dX3_variable_7 : decode cX3_variable 7 = .ok (.invokevirtual 75, 3) := dk_182 0 75 (dk_at dksX3_variable_0 7 rfl rfl)
theorem dX3_variable_10 : decode cX3_variable 10 = .ok (.ifCond .ne 5, 3) := dk_154 0 5 (dk_at dksX3_variable_0 10 rfl rfl)
theorem dX3_variable_13 : decode cX3_variable 13 = .ok (.iconst (-1), 1) := dk_2 (dk_at dksX3_variable_0 13 rfl rfl)
theorem dX3_variable_14 : decode cX3_variable 14 = .ok (.ireturn, 1) := dk_172 (dk_at dksX3_variable_0 14 rfl rfl)
theorem dX3_variable_15 : decode cX3_variable 15 = .ok (.iload_n 2, 1) := dk_28 (dk_at dksX3_variable_0 15 rfl rfl)
theorem dX3_variable_16 : decode cX3_variable 16 = .ok (.tableswitch 54 0 2 #[28, 38, 48], 28) := by decide +kernel
theorem dX3_variable_44 : decode cX3_variable 44 = .ok (.aload_n 0, 1) := dk_42 (dk_at dksX3_variable_2 0 rfl rfl)
theorem dX3_variable_45 : decode cX3_variable 45 = .ok (.getfield 7, 3) := dk_180 0 7 (dk_at dksX3_variable_2 1 rfl rfl)
theorem dX3_variable_48 : decode cX3_variable 48 = .ok (.bipush 32, 2) := dk_16 32 (dk_at dksX3_variable_2 4 rfl rfl)
theorem dX3_variable_50 : decode cX3_variable 50 = .ok (.iload_n 1, 1) := dk_27 (dk_at dksX3_variable_2 6 rfl rfl)
theorem dX3_variable_51 : decode cX3_variable 51 = .ok (.iadd, 1) := dk_96 (dk_at dksX3_variable_2 7 rfl rfl)
theorem dX3_variable_52 : decode cX3_variable 52 = .ok (.iaload, 1) := dk_46 (dk_at dksX3_variable_2 8 rfl rfl)
theorem dX3_variable_53 : decode cX3_variable 53 = .ok (.ireturn, 1) := dk_172 (dk_at dksX3_variable_2 9 rfl rfl)
theorem dX3_variable_54 : decode cX3_variable 54 = .ok (.aload_n 0, 1) := dk_42 (dk_at dksX3_variable_2 10 rfl rfl)
theorem dX3_variable_55 : decode cX3_variable 55 = .ok (.getfield 7, 3) := dk_180 0 7 (dk_at dksX3_variable_2 11 rfl rfl)
theorem dX3_variable_58 : decode cX3_variable 58 = .ok (.bipush 63, 2) := dk_16 63 (dk_at dksX3_variable_2 14 rfl rfl)
theorem dX3_variable_60 : decode cX3_variable 60 = .ok (.iload_n 1, 1) := dk_27 (dk_at dksX3_variable_2 16 rfl rfl)
theorem dX3_variable_61 : decode cX3_variable 61 = .ok (.iadd, 1) := dk_96 (dk_at dksX3_variable_2 17 rfl rfl)
theorem dX3_variable_62 : decode cX3_variable 62 = .ok (.iaload, 1) := dk_46 (dk_at dksX3_variable_2 18 rfl rfl)
theorem dX3_variable_63 : decode cX3_variable 63 = .ok (.ireturn, 1) := dk_172 (dk_at dksX3_variable_2 19 rfl rfl)
theorem dX3_variable_64 : decode cX3_variable 64 = .ok (.aload_n 0, 1) := dk_42 (dk_at dksX3_variable_2 20 rfl rfl)
theorem dX3_variable_65 : decode cX3_variable 65 = .ok (.iload_n 1, 1) := dk_27 (dk_at dksX3_variable_2 21 rfl rfl)
theorem dX3_variable_66 : decode cX3_variable 66 = .ok (.invokevirtual 195, 3) := dk_182 0 195 (dk_at dksX3_variable_3 0 rfl rfl)
theorem dX3_variable_69 : decode cX3_variable 69 = .ok (.ireturn, 1) := dk_172 (dk_at dksX3_variable_3 3 rfl rfl)
theorem dX3_variable_70 : decode cX3_variable 70 = .ok (.iconst (-1), 1) := dk_2 (dk_at dksX3_variable_3 4 rfl rfl)
theorem dX3_variable_71 : decode cX3_variable 71 = .ok (.ireturn, 1) := dk_172 (dk_at dksX3_variable_3 5 rfl rfl)
abbrev cX3_among : ByteArray := prog_13_method_53_code
def yX3_among : MethodName := ⟨RX3, "among", "(I)I"⟩
def dkwX3_among_2 : List UInt8 := [160, 0, 7, 4, 167, 0, 4, 3, 96, 61, 132, 4, 1, 167, 255, 213, 132, 3, 1, 167, 255, 194, 28, 172]
abbrev dktX3_among_2 : List UInt8 := dkwX3_among_2 ++ []
def dkwX3_among_1 : List UInt8 := [162, 0, 39, 42, 29, 182, 0, 96, 154, 0, 31, 28, 42, 29, 21, 4, 182, 0, 108, 184, 0, 71, 27]
abbrev dktX3_among_1 : List UInt8 := dkwX3_among_1 ++ dktX3_among_2
def dkwX3_among_0 : List UInt8 := [3, 61, 3, 62, 29, 42, 180, 0, 7, 4, 46, 162, 0, 58, 3, 54, 4, 21, 4, 42, 29, 182, 0, 99]
abbrev dktX3_among_0 : List UInt8 := dkwX3_among_0 ++ dktX3_among_1
theorem dksX3_among_0 : cX3_among.data.toList.drop 0 = dktX3_among_0 := by decide +kernel
theorem dksX3_among_1 : cX3_among.data.toList.drop 24 = dktX3_among_1 := dk_seg dksX3_among_0 24 rfl rfl
theorem dksX3_among_2 : cX3_among.data.toList.drop 47 = dktX3_among_2 := dk_seg dksX3_among_1 23 rfl rfl
theorem dX3_among_0 : decode cX3_among 0 = .ok (.iconst 0, 1) := dk_3 (dk_at dksX3_among_0 0 rfl rfl)
theorem dX3_among_1 : decode cX3_among 1 = .ok (.istore_n 2, 1) := dk_61 (dk_at dksX3_among_0 1 rfl rfl)
theorem dX3_among_2 : decode cX3_among 2 = .ok (.iconst 0, 1) := dk_3 (dk_at dksX3_among_0 2 rfl rfl)
theorem dX3_among_3 : decode cX3_among 3 = .ok (.istore_n 3, 1) := dk_62 (dk_at dksX3_among_0 3 rfl rfl)
theorem dX3_among_4 : decode cX3_among 4 = .ok (.iload_n 3, 1) := dk_29 (dk_at dksX3_among_0 4 rfl rfl)
theorem dX3_among_5 : decode cX3_among 5 = .ok (.aload_n 0, 1) := dk_42 (dk_at dksX3_among_0 5 rfl rfl)
theorem dX3_among_6 : decode cX3_among 6 = .ok (.getfield 7, 3) := dk_180 0 7 (dk_at dksX3_among_0 6 rfl rfl)
theorem dX3_among_9 : decode cX3_among 9 = .ok (.iconst 1, 1) := dk_4 (dk_at dksX3_among_0 9 rfl rfl)
theorem dX3_among_10 : decode cX3_among 10 = .ok (.iaload, 1) := dk_46 (dk_at dksX3_among_0 10 rfl rfl)
theorem dX3_among_11 : decode cX3_among 11 = .ok (.if_icmp .ge 58, 3) := dk_162 0 58 (dk_at dksX3_among_0 11 rfl rfl)
theorem dX3_among_14 : decode cX3_among 14 = .ok (.iconst 0, 1) := dk_3 (dk_at dksX3_among_0 14 rfl rfl)
theorem dX3_among_15 : decode cX3_among 15 = .ok (.istore 4, 2) := dk_54 4 (dk_at dksX3_among_0 15 rfl rfl)
theorem dX3_among_17 : decode cX3_among 17 = .ok (.iload 4, 2) := dk_21 4 (dk_at dksX3_among_0 17 rfl rfl)
theorem dX3_among_19 : decode cX3_among 19 = .ok (.aload_n 0, 1) := dk_42 (dk_at dksX3_among_0 19 rfl rfl)
theorem dX3_among_20 : decode cX3_among 20 = .ok (.iload_n 3, 1) := dk_29 (dk_at dksX3_among_0 20 rfl rfl)
theorem dX3_among_21 : decode cX3_among 21 = .ok (.invokevirtual 99, 3) := dk_182 0 99 (dk_at dksX3_among_0 21 rfl rfl)
theorem dX3_among_24 : decode cX3_among 24 = .ok (.if_icmp .ge 39, 3) := dk_162 0 39 (dk_at dksX3_among_1 0 rfl rfl)
theorem dX3_among_27 : decode cX3_among 27 = .ok (.aload_n 0, 1) := dk_42 (dk_at dksX3_among_1 3 rfl rfl)
theorem dX3_among_28 : decode cX3_among 28 = .ok (.iload_n 3, 1) := dk_29 (dk_at dksX3_among_1 4 rfl rfl)
theorem dX3_among_29 : decode cX3_among 29 = .ok (.invokevirtual 96, 3) := dk_182 0 96 (dk_at dksX3_among_1 5 rfl rfl)
theorem dX3_among_32 : decode cX3_among 32 = .ok (.ifCond .ne 31, 3) := dk_154 0 31 (dk_at dksX3_among_1 8 rfl rfl)
theorem dX3_among_35 : decode cX3_among 35 = .ok (.iload_n 2, 1) := dk_28 (dk_at dksX3_among_1 11 rfl rfl)
theorem dX3_among_36 : decode cX3_among 36 = .ok (.aload_n 0, 1) := dk_42 (dk_at dksX3_among_1 12 rfl rfl)
theorem dX3_among_37 : decode cX3_among 37 = .ok (.iload_n 3, 1) := dk_29 (dk_at dksX3_among_1 13 rfl rfl)
theorem dX3_among_38 : decode cX3_among 38 = .ok (.iload 4, 2) := dk_21 4 (dk_at dksX3_among_1 14 rfl rfl)
theorem dX3_among_40 : decode cX3_among 40 = .ok (.invokevirtual 108, 3) := dk_182 0 108 (dk_at dksX3_among_1 16 rfl rfl)
theorem dX3_among_43 : decode cX3_among 43 = .ok (.invokestatic 71, 3) := dk_184 0 71 (dk_at dksX3_among_1 19 rfl rfl)
theorem dX3_among_46 : decode cX3_among 46 = .ok (.iload_n 1, 1) := dk_27 (dk_at dksX3_among_1 22 rfl rfl)
theorem dX3_among_47 : decode cX3_among 47 = .ok (.if_icmp .ne 7, 3) := dk_160 0 7 (dk_at dksX3_among_2 0 rfl rfl)
theorem dX3_among_50 : decode cX3_among 50 = .ok (.iconst 1, 1) := dk_4 (dk_at dksX3_among_2 3 rfl rfl)
theorem dX3_among_51 : decode cX3_among 51 = .ok (.goto 4, 3) := dk_167 0 4 (dk_at dksX3_among_2 4 rfl rfl)
theorem dX3_among_54 : decode cX3_among 54 = .ok (.iconst 0, 1) := dk_3 (dk_at dksX3_among_2 7 rfl rfl)
theorem dX3_among_55 : decode cX3_among 55 = .ok (.iadd, 1) := dk_96 (dk_at dksX3_among_2 8 rfl rfl)
theorem dX3_among_56 : decode cX3_among 56 = .ok (.istore_n 2, 1) := dk_61 (dk_at dksX3_among_2 9 rfl rfl)
theorem dX3_among_57 : decode cX3_among 57 = .ok (.iinc 4 1, 3) := dk_132 4 1 (dk_at dksX3_among_2 10 rfl rfl)
theorem dX3_among_60 : decode cX3_among 60 = .ok (.goto (-43), 3) := dk_167 255 213 (dk_at dksX3_among_2 13 rfl rfl)
theorem dX3_among_63 : decode cX3_among 63 = .ok (.iinc 3 1, 3) := dk_132 3 1 (dk_at dksX3_among_2 16 rfl rfl)
theorem dX3_among_66 : decode cX3_among 66 = .ok (.goto (-62), 3) := dk_167 255 194 (dk_at dksX3_among_2 19 rfl rfl)
theorem dX3_among_69 : decode cX3_among 69 = .ok (.iload_n 2, 1) := dk_28 (dk_at dksX3_among_2 22 rfl rfl)
theorem dX3_among_70 : decode cX3_among 70 = .ok (.ireturn, 1) := dk_172 (dk_at dksX3_among_2 23 rfl rfl)
abbrev cX3_follows : ByteArray := prog_13_method_55_code
def yX3_follows : MethodName := ⟨RX3, "follows", "(I)I"⟩
def dkwX3_follows_5 : List UInt8 := [167, 0, 4, 3, 172]
abbrev dktX3_follows_5 : List UInt8 := dkwX3_follows_5 ++ []
def dkwX3_follows_4 : List UInt8 := [167, 0, 28, 42, 180, 0, 102, 167, 0, 21, 27, 42, 180, 0, 102, 162, 0, 12, 42, 180, 0, 35, 27, 46]
abbrev dktX3_follows_4 : List UInt8 := dkwX3_follows_4 ++ dktX3_follows_5
def dkwX3_follows_3 : List UInt8 := [3, 61, 42, 4, 182, 0, 165, 62, 167, 255, 216, 27, 2, 160, 0, 19, 28, 153, 0, 8, 16, 100]
abbrev dktX3_follows_3 : List UInt8 := dkwX3_follows_3 ++ dktX3_follows_4
def dkwX3_follows_2 : List UInt8 := [182, 0, 171, 29, 182, 0, 135, 28, 154, 0, 12, 42, 3, 182, 0, 165, 2, 159, 0, 7, 4, 167, 0, 4]
abbrev dktX3_follows_2 : List UInt8 := dkwX3_follows_2 ++ dktX3_follows_3
def dkwX3_follows_1 : List UInt8 := [159, 0, 7, 4, 167, 0, 4, 3, 61, 42, 4, 182, 0, 165, 62, 29, 2, 159, 0, 41, 42, 42, 29]
abbrev dktX3_follows_1 : List UInt8 := dkwX3_follows_1 ++ dktX3_follows_2
def dkwX3_follows_0 : List UInt8 := [42, 3, 181, 0, 63, 27, 2, 162, 0, 5, 3, 172, 42, 182, 0, 183, 42, 3, 182, 0, 165, 2]
abbrev dktX3_follows_0 : List UInt8 := dkwX3_follows_0 ++ dktX3_follows_1
theorem dksX3_follows_0 : cX3_follows.data.toList.drop 0 = dktX3_follows_0 := by decide +kernel
theorem dksX3_follows_1 : cX3_follows.data.toList.drop 22 = dktX3_follows_1 := dk_seg dksX3_follows_0 22 rfl rfl
theorem dksX3_follows_2 : cX3_follows.data.toList.drop 45 = dktX3_follows_2 := dk_seg dksX3_follows_1 23 rfl rfl
theorem dksX3_follows_3 : cX3_follows.data.toList.drop 69 = dktX3_follows_3 := dk_seg dksX3_follows_2 24 rfl rfl
theorem dksX3_follows_4 : cX3_follows.data.toList.drop 91 = dktX3_follows_4 := dk_seg dksX3_follows_3 22 rfl rfl
theorem dksX3_follows_5 : cX3_follows.data.toList.drop 115 = dktX3_follows_5 := dk_seg dksX3_follows_4 24 rfl rfl
theorem dX3_follows_0 : decode cX3_follows 0 = .ok (.aload_n 0, 1) := dk_42 (dk_at dksX3_follows_0 0 rfl rfl)
theorem dX3_follows_1 : decode cX3_follows 1 = .ok (.iconst 0, 1) := dk_3 (dk_at dksX3_follows_0 1 rfl rfl)
theorem dX3_follows_2 : decode cX3_follows 2 = .ok (.putfield 63, 3) := dk_181 0 63 (dk_at dksX3_follows_0 2 rfl rfl)
theorem dX3_follows_5 : decode cX3_follows 5 = .ok (.iload_n 1, 1) := dk_27 (dk_at dksX3_follows_0 5 rfl rfl)
theorem dX3_follows_6 : decode cX3_follows 6 = .ok (.iconst (-1), 1) := dk_2 (dk_at dksX3_follows_0 6 rfl rfl)
theorem dX3_follows_7 : decode cX3_follows 7 = .ok (.if_icmp .ge 5, 3) := dk_162 0 5 (dk_at dksX3_follows_0 7 rfl rfl)
theorem dX3_follows_10 : decode cX3_follows 10 = .ok (.iconst 0, 1) := dk_3 (dk_at dksX3_follows_0 10 rfl rfl)
theorem dX3_follows_11 : decode cX3_follows 11 = .ok (.ireturn, 1) := dk_172 (dk_at dksX3_follows_0 11 rfl rfl)
theorem dX3_follows_12 : decode cX3_follows 12 = .ok (.aload_n 0, 1) := dk_42 (dk_at dksX3_follows_0 12 rfl rfl)
theorem dX3_follows_13 : decode cX3_follows 13 = .ok (.invokevirtual 183, 3) := dk_182 0 183 (dk_at dksX3_follows_0 13 rfl rfl)
theorem dX3_follows_16 : decode cX3_follows 16 = .ok (.aload_n 0, 1) := dk_42 (dk_at dksX3_follows_0 16 rfl rfl)
theorem dX3_follows_17 : decode cX3_follows 17 = .ok (.iconst 0, 1) := dk_3 (dk_at dksX3_follows_0 17 rfl rfl)
theorem dX3_follows_18 : decode cX3_follows 18 = .ok (.invokevirtual 165, 3) := dk_182 0 165 (dk_at dksX3_follows_0 18 rfl rfl)
theorem dX3_follows_21 : decode cX3_follows 21 = .ok (.iconst (-1), 1) := dk_2 (dk_at dksX3_follows_0 21 rfl rfl)
theorem dX3_follows_22 : decode cX3_follows 22 = .ok (.if_icmp .eq 7, 3) := dk_159 0 7 (dk_at dksX3_follows_1 0 rfl rfl)
theorem dX3_follows_25 : decode cX3_follows 25 = .ok (.iconst 1, 1) := dk_4 (dk_at dksX3_follows_1 3 rfl rfl)
theorem dX3_follows_26 : decode cX3_follows 26 = .ok (.goto 4, 3) := dk_167 0 4 (dk_at dksX3_follows_1 4 rfl rfl)
theorem dX3_follows_29 : decode cX3_follows 29 = .ok (.iconst 0, 1) := dk_3 (dk_at dksX3_follows_1 7 rfl rfl)
theorem dX3_follows_30 : decode cX3_follows 30 = .ok (.istore_n 2, 1) := dk_61 (dk_at dksX3_follows_1 8 rfl rfl)
theorem dX3_follows_31 : decode cX3_follows 31 = .ok (.aload_n 0, 1) := dk_42 (dk_at dksX3_follows_1 9 rfl rfl)
theorem dX3_follows_32 : decode cX3_follows 32 = .ok (.iconst 1, 1) := dk_4 (dk_at dksX3_follows_1 10 rfl rfl)
theorem dX3_follows_33 : decode cX3_follows 33 = .ok (.invokevirtual 165, 3) := dk_182 0 165 (dk_at dksX3_follows_1 11 rfl rfl)
theorem dX3_follows_36 : decode cX3_follows 36 = .ok (.istore_n 3, 1) := dk_62 (dk_at dksX3_follows_1 14 rfl rfl)
theorem dX3_follows_37 : decode cX3_follows 37 = .ok (.iload_n 3, 1) := dk_29 (dk_at dksX3_follows_1 15 rfl rfl)
theorem dX3_follows_38 : decode cX3_follows 38 = .ok (.iconst (-1), 1) := dk_2 (dk_at dksX3_follows_1 16 rfl rfl)
theorem dX3_follows_39 : decode cX3_follows 39 = .ok (.if_icmp .eq 41, 3) := dk_159 0 41 (dk_at dksX3_follows_1 17 rfl rfl)
theorem dX3_follows_42 : decode cX3_follows 42 = .ok (.aload_n 0, 1) := dk_42 (dk_at dksX3_follows_1 20 rfl rfl)
theorem dX3_follows_43 : decode cX3_follows 43 = .ok (.aload_n 0, 1) := dk_42 (dk_at dksX3_follows_1 21 rfl rfl)
theorem dX3_follows_44 : decode cX3_follows 44 = .ok (.iload_n 3, 1) := dk_29 (dk_at dksX3_follows_1 22 rfl rfl)
theorem dX3_follows_45 : decode cX3_follows 45 = .ok (.invokevirtual 171, 3) := dk_182 0 171 (dk_at dksX3_follows_2 0 rfl rfl)
theorem dX3_follows_48 : decode cX3_follows 48 = .ok (.iload_n 3, 1) := dk_29 (dk_at dksX3_follows_2 3 rfl rfl)
theorem dX3_follows_49 : decode cX3_follows 49 = .ok (.invokevirtual 135, 3) := dk_182 0 135 (dk_at dksX3_follows_2 4 rfl rfl)
theorem dX3_follows_52 : decode cX3_follows 52 = .ok (.iload_n 2, 1) := dk_28 (dk_at dksX3_follows_2 7 rfl rfl)
theorem dX3_follows_53 : decode cX3_follows 53 = .ok (.ifCond .ne 12, 3) := dk_154 0 12 (dk_at dksX3_follows_2 8 rfl rfl)
theorem dX3_follows_56 : decode cX3_follows 56 = .ok (.aload_n 0, 1) := dk_42 (dk_at dksX3_follows_2 11 rfl rfl)
theorem dX3_follows_57 : decode cX3_follows 57 = .ok (.iconst 0, 1) := dk_3 (dk_at dksX3_follows_2 12 rfl rfl)
theorem dX3_follows_58 : decode cX3_follows 58 = .ok (.invokevirtual 165, 3) := dk_182 0 165 (dk_at dksX3_follows_2 13 rfl rfl)
theorem dX3_follows_61 : decode cX3_follows 61 = .ok (.iconst (-1), 1) := dk_2 (dk_at dksX3_follows_2 16 rfl rfl)
theorem dX3_follows_62 : decode cX3_follows 62 = .ok (.if_icmp .eq 7, 3) := dk_159 0 7 (dk_at dksX3_follows_2 17 rfl rfl)
theorem dX3_follows_65 : decode cX3_follows 65 = .ok (.iconst 1, 1) := dk_4 (dk_at dksX3_follows_2 20 rfl rfl)
theorem dX3_follows_66 : decode cX3_follows 66 = .ok (.goto 4, 3) := dk_167 0 4 (dk_at dksX3_follows_2 21 rfl rfl)
theorem dX3_follows_69 : decode cX3_follows 69 = .ok (.iconst 0, 1) := dk_3 (dk_at dksX3_follows_3 0 rfl rfl)
theorem dX3_follows_70 : decode cX3_follows 70 = .ok (.istore_n 2, 1) := dk_61 (dk_at dksX3_follows_3 1 rfl rfl)
theorem dX3_follows_71 : decode cX3_follows 71 = .ok (.aload_n 0, 1) := dk_42 (dk_at dksX3_follows_3 2 rfl rfl)
theorem dX3_follows_72 : decode cX3_follows 72 = .ok (.iconst 1, 1) := dk_4 (dk_at dksX3_follows_3 3 rfl rfl)
theorem dX3_follows_73 : decode cX3_follows 73 = .ok (.invokevirtual 165, 3) := dk_182 0 165 (dk_at dksX3_follows_3 4 rfl rfl)
theorem dX3_follows_76 : decode cX3_follows 76 = .ok (.istore_n 3, 1) := dk_62 (dk_at dksX3_follows_3 7 rfl rfl)
theorem dX3_follows_77 : decode cX3_follows 77 = .ok (.goto (-40), 3) := dk_167 255 216 (dk_at dksX3_follows_3 8 rfl rfl)
theorem dX3_follows_80 : decode cX3_follows 80 = .ok (.iload_n 1, 1) := dk_27 (dk_at dksX3_follows_3 11 rfl rfl)
theorem dX3_follows_81 : decode cX3_follows 81 = .ok (.iconst (-1), 1) := dk_2 (dk_at dksX3_follows_3 12 rfl rfl)
theorem dX3_follows_82 : decode cX3_follows 82 = .ok (.if_icmp .ne 19, 3) := dk_160 0 19 (dk_at dksX3_follows_3 13 rfl rfl)
theorem dX3_follows_85 : decode cX3_follows 85 = .ok (.iload_n 2, 1) := dk_28 (dk_at dksX3_follows_3 16 rfl rfl)
theorem dX3_follows_86 : decode cX3_follows 86 = .ok (.ifCond .eq 8, 3) := dk_153 0 8 (dk_at dksX3_follows_3 17 rfl rfl)
theorem dX3_follows_89 : decode cX3_follows 89 = .ok (.bipush 100, 2) := dk_16 100 (dk_at dksX3_follows_3 20 rfl rfl)
theorem dX3_follows_91 : decode cX3_follows 91 = .ok (.goto 28, 3) := dk_167 0 28 (dk_at dksX3_follows_4 0 rfl rfl)
theorem dX3_follows_94 : decode cX3_follows 94 = .ok (.aload_n 0, 1) := dk_42 (dk_at dksX3_follows_4 3 rfl rfl)
theorem dX3_follows_95 : decode cX3_follows 95 = .ok (.getfield 102, 3) := dk_180 0 102 (dk_at dksX3_follows_4 4 rfl rfl)
theorem dX3_follows_98 : decode cX3_follows 98 = .ok (.goto 21, 3) := dk_167 0 21 (dk_at dksX3_follows_4 7 rfl rfl)
theorem dX3_follows_101 : decode cX3_follows 101 = .ok (.iload_n 1, 1) := dk_27 (dk_at dksX3_follows_4 10 rfl rfl)
theorem dX3_follows_102 : decode cX3_follows 102 = .ok (.aload_n 0, 1) := dk_42 (dk_at dksX3_follows_4 11 rfl rfl)
theorem dX3_follows_103 : decode cX3_follows 103 = .ok (.getfield 102, 3) := dk_180 0 102 (dk_at dksX3_follows_4 12 rfl rfl)
theorem dX3_follows_106 : decode cX3_follows 106 = .ok (.if_icmp .ge 12, 3) := dk_162 0 12 (dk_at dksX3_follows_4 15 rfl rfl)
theorem dX3_follows_109 : decode cX3_follows 109 = .ok (.aload_n 0, 1) := dk_42 (dk_at dksX3_follows_4 18 rfl rfl)
theorem dX3_follows_110 : decode cX3_follows 110 = .ok (.getfield 35, 3) := dk_180 0 35 (dk_at dksX3_follows_4 19 rfl rfl)
theorem dX3_follows_113 : decode cX3_follows 113 = .ok (.iload_n 1, 1) := dk_27 (dk_at dksX3_follows_4 22 rfl rfl)
theorem dX3_follows_114 : decode cX3_follows 114 = .ok (.iaload, 1) := dk_46 (dk_at dksX3_follows_4 23 rfl rfl)
theorem dX3_follows_115 : decode cX3_follows 115 = .ok (.goto 4, 3) := dk_167 0 4 (dk_at dksX3_follows_5 0 rfl rfl)
theorem dX3_follows_118 : decode cX3_follows 118 = .ok (.iconst 0, 1) := dk_3 (dk_at dksX3_follows_5 3 rfl rfl)
theorem dX3_follows_119 : decode cX3_follows 119 = .ok (.ireturn, 1) := dk_172 (dk_at dksX3_follows_5 4 rfl rfl)
abbrev cX3_line : ByteArray := prog_13_method_58_code
def yX3_line : MethodName := ⟨RX3, "line", "(II)I"⟩
def dkwX3_line_2 : List UInt8 := [180, 0, 7, 17, 3, 157, 27, 96, 46, 28, 182, 0, 108, 172]
abbrev dktX3_line_2 : List UInt8 := dkwX3_line_2 ++ []
def dkwX3_line_1 : List UInt8 := [184, 0, 67, 154, 0, 6, 16, 156, 172, 28, 2, 160, 0, 11, 42, 27, 182, 0, 201, 167, 0, 18, 42, 42]
abbrev dktX3_line_1 : List UInt8 := dkwX3_line_1 ++ dktX3_line_2
def dkwX3_line_0 : List UInt8 := [42, 3, 181, 0, 63, 42, 27, 182, 0, 198, 153, 0, 18, 28, 2, 42, 27, 182, 0, 201, 4, 100]
abbrev dktX3_line_0 : List UInt8 := dkwX3_line_0 ++ dktX3_line_1
theorem dksX3_line_0 : cX3_line.data.toList.drop 0 = dktX3_line_0 := by decide +kernel
theorem dksX3_line_1 : cX3_line.data.toList.drop 22 = dktX3_line_1 := dk_seg dksX3_line_0 22 rfl rfl
theorem dksX3_line_2 : cX3_line.data.toList.drop 46 = dktX3_line_2 := dk_seg dksX3_line_1 24 rfl rfl
theorem dX3_line_0 : decode cX3_line 0 = .ok (.aload_n 0, 1) := dk_42 (dk_at dksX3_line_0 0 rfl rfl)
theorem dX3_line_1 : decode cX3_line 1 = .ok (.iconst 0, 1) := dk_3 (dk_at dksX3_line_0 1 rfl rfl)
theorem dX3_line_2 : decode cX3_line 2 = .ok (.putfield 63, 3) := dk_181 0 63 (dk_at dksX3_line_0 2 rfl rfl)
theorem dX3_line_5 : decode cX3_line 5 = .ok (.aload_n 0, 1) := dk_42 (dk_at dksX3_line_0 5 rfl rfl)
theorem dX3_line_6 : decode cX3_line 6 = .ok (.iload_n 1, 1) := dk_27 (dk_at dksX3_line_0 6 rfl rfl)
theorem dX3_line_7 : decode cX3_line 7 = .ok (.invokevirtual 198, 3) := dk_182 0 198 (dk_at dksX3_line_0 7 rfl rfl)
theorem dX3_line_10 : decode cX3_line 10 = .ok (.ifCond .eq 18, 3) := dk_153 0 18 (dk_at dksX3_line_0 10 rfl rfl)
theorem dX3_line_13 : decode cX3_line 13 = .ok (.iload_n 2, 1) := dk_28 (dk_at dksX3_line_0 13 rfl rfl)
theorem dX3_line_14 : decode cX3_line 14 = .ok (.iconst (-1), 1) := dk_2 (dk_at dksX3_line_0 14 rfl rfl)
theorem dX3_line_15 : decode cX3_line 15 = .ok (.aload_n 0, 1) := dk_42 (dk_at dksX3_line_0 15 rfl rfl)
theorem dX3_line_16 : decode cX3_line 16 = .ok (.iload_n 1, 1) := dk_27 (dk_at dksX3_line_0 16 rfl rfl)
theorem dX3_line_17 : decode cX3_line 17 = .ok (.invokevirtual 201, 3) := dk_182 0 201 (dk_at dksX3_line_0 17 rfl rfl)
theorem dX3_line_20 : decode cX3_line 20 = .ok (.iconst 1, 1) := dk_4 (dk_at dksX3_line_0 20 rfl rfl)
theorem dX3_line_21 : decode cX3_line 21 = .ok (.isub, 1) := dk_100 (dk_at dksX3_line_0 21 rfl rfl)
theorem dX3_line_22 : decode cX3_line 22 = .ok (.invokestatic 67, 3) := dk_184 0 67 (dk_at dksX3_line_1 0 rfl rfl)
theorem dX3_line_25 : decode cX3_line 25 = .ok (.ifCond .ne 6, 3) := dk_154 0 6 (dk_at dksX3_line_1 3 rfl rfl)
theorem dX3_line_28 : decode cX3_line 28 = .ok (.bipush (-100), 2) := dk_16 156 (dk_at dksX3_line_1 6 rfl rfl)
theorem dX3_line_30 : decode cX3_line 30 = .ok (.ireturn, 1) := dk_172 (dk_at dksX3_line_1 8 rfl rfl)
theorem dX3_line_31 : decode cX3_line 31 = .ok (.iload_n 2, 1) := dk_28 (dk_at dksX3_line_1 9 rfl rfl)
theorem dX3_line_32 : decode cX3_line 32 = .ok (.iconst (-1), 1) := dk_2 (dk_at dksX3_line_1 10 rfl rfl)
theorem dX3_line_33 : decode cX3_line 33 = .ok (.if_icmp .ne 11, 3) := dk_160 0 11 (dk_at dksX3_line_1 11 rfl rfl)
theorem dX3_line_36 : decode cX3_line 36 = .ok (.aload_n 0, 1) := dk_42 (dk_at dksX3_line_1 14 rfl rfl)
theorem dX3_line_37 : decode cX3_line 37 = .ok (.iload_n 1, 1) := dk_27 (dk_at dksX3_line_1 15 rfl rfl)
theorem dX3_line_38 : decode cX3_line 38 = .ok (.invokevirtual 201, 3) := dk_182 0 201 (dk_at dksX3_line_1 16 rfl rfl)
theorem dX3_line_41 : decode cX3_line 41 = .ok (.goto 18, 3) := dk_167 0 18 (dk_at dksX3_line_1 19 rfl rfl)
theorem dX3_line_44 : decode cX3_line 44 = .ok (.aload_n 0, 1) := dk_42 (dk_at dksX3_line_1 22 rfl rfl)
theorem dX3_line_45 : decode cX3_line 45 = .ok (.aload_n 0, 1) := dk_42 (dk_at dksX3_line_1 23 rfl rfl)
theorem dX3_line_46 : decode cX3_line 46 = .ok (.getfield 7, 3) := dk_180 0 7 (dk_at dksX3_line_2 0 rfl rfl)
theorem dX3_line_49 : decode cX3_line 49 = .ok (.sipush 925, 3) := dk_17 3 157 (dk_at dksX3_line_2 3 rfl rfl)
theorem dX3_line_52 : decode cX3_line 52 = .ok (.iload_n 1, 1) := dk_27 (dk_at dksX3_line_2 6 rfl rfl)
theorem dX3_line_53 : decode cX3_line 53 = .ok (.iadd, 1) := dk_96 (dk_at dksX3_line_2 7 rfl rfl)
theorem dX3_line_54 : decode cX3_line 54 = .ok (.iaload, 1) := dk_46 (dk_at dksX3_line_2 8 rfl rfl)
theorem dX3_line_55 : decode cX3_line 55 = .ok (.iload_n 2, 1) := dk_28 (dk_at dksX3_line_2 9 rfl rfl)
theorem dX3_line_56 : decode cX3_line 56 = .ok (.invokevirtual 108, 3) := dk_182 0 108 (dk_at dksX3_line_2 10 rfl rfl)
theorem dX3_line_59 : decode cX3_line 59 = .ok (.ireturn, 1) := dk_172 (dk_at dksX3_line_2 13 rfl rfl)
abbrev cX3_isLine : ByteArray := prog_13_method_56_code
def yX3_isLine : MethodName := ⟨RX3, "isLine", "(I)Z"⟩
def dkwX3_isLine_0 : List UInt8 := [27, 3, 42, 180, 0, 7, 16, 6, 46, 4, 100, 184, 0, 67, 172]
abbrev dktX3_isLine_0 : List UInt8 := dkwX3_isLine_0 ++ []
theorem dksX3_isLine_0 : cX3_isLine.data.toList.drop 0 = dktX3_isLine_0 := by decide +kernel
theorem dX3_isLine_0 : decode cX3_isLine 0 = .ok (.iload_n 1, 1) := dk_27 (dk_at dksX3_isLine_0 0 rfl rfl)
theorem dX3_isLine_1 : decode cX3_isLine 1 = .ok (.iconst 0, 1) := dk_3 (dk_at dksX3_isLine_0 1 rfl rfl)
theorem dX3_isLine_2 : decode cX3_isLine 2 = .ok (.aload_n 0, 1) := dk_42 (dk_at dksX3_isLine_0 2 rfl rfl)
theorem dX3_isLine_3 : decode cX3_isLine 3 = .ok (.getfield 7, 3) := dk_180 0 7 (dk_at dksX3_isLine_0 3 rfl rfl)
theorem dX3_isLine_6 : decode cX3_isLine 6 = .ok (.bipush 6, 2) := dk_16 6 (dk_at dksX3_isLine_0 6 rfl rfl)
theorem dX3_isLine_8 : decode cX3_isLine 8 = .ok (.iaload, 1) := dk_46 (dk_at dksX3_isLine_0 8 rfl rfl)
theorem dX3_isLine_9 : decode cX3_isLine 9 = .ok (.iconst 1, 1) := dk_4 (dk_at dksX3_isLine_0 9 rfl rfl)
theorem dX3_isLine_10 : decode cX3_isLine 10 = .ok (.isub, 1) := dk_100 (dk_at dksX3_isLine_0 10 rfl rfl)
theorem dX3_isLine_11 : decode cX3_isLine 11 = .ok (.invokestatic 67, 3) := dk_184 0 67 (dk_at dksX3_isLine_0 11 rfl rfl)
theorem dX3_isLine_14 : decode cX3_isLine 14 = .ok (.ireturn, 1) := dk_172 (dk_at dksX3_isLine_0 14 rfl rfl)
abbrev cX3_lineSize : ByteArray := prog_13_method_57_code
def yX3_lineSize : MethodName := ⟨RX3, "lineSize", "(I)I"⟩
def dkwX3_lineSize_1 : List UInt8 := [17, 3, 157, 27, 96, 46, 182, 0, 99, 172]
abbrev dktX3_lineSize_1 : List UInt8 := dkwX3_lineSize_1 ++ []
def dkwX3_lineSize_0 : List UInt8 := [42, 180, 0, 7, 17, 3, 157, 27, 96, 46, 2, 160, 0, 7, 3, 167, 0, 17, 42, 42, 180, 0, 7]
abbrev dktX3_lineSize_0 : List UInt8 := dkwX3_lineSize_0 ++ dktX3_lineSize_1
theorem dksX3_lineSize_0 : cX3_lineSize.data.toList.drop 0 = dktX3_lineSize_0 := by decide +kernel
theorem dksX3_lineSize_1 : cX3_lineSize.data.toList.drop 23 = dktX3_lineSize_1 := dk_seg dksX3_lineSize_0 23 rfl rfl
theorem dX3_lineSize_0 : decode cX3_lineSize 0 = .ok (.aload_n 0, 1) := dk_42 (dk_at dksX3_lineSize_0 0 rfl rfl)
theorem dX3_lineSize_1 : decode cX3_lineSize 1 = .ok (.getfield 7, 3) := dk_180 0 7 (dk_at dksX3_lineSize_0 1 rfl rfl)
theorem dX3_lineSize_4 : decode cX3_lineSize 4 = .ok (.sipush 925, 3) := dk_17 3 157 (dk_at dksX3_lineSize_0 4 rfl rfl)
theorem dX3_lineSize_7 : decode cX3_lineSize 7 = .ok (.iload_n 1, 1) := dk_27 (dk_at dksX3_lineSize_0 7 rfl rfl)
theorem dX3_lineSize_8 : decode cX3_lineSize 8 = .ok (.iadd, 1) := dk_96 (dk_at dksX3_lineSize_0 8 rfl rfl)
theorem dX3_lineSize_9 : decode cX3_lineSize 9 = .ok (.iaload, 1) := dk_46 (dk_at dksX3_lineSize_0 9 rfl rfl)
theorem dX3_lineSize_10 : decode cX3_lineSize 10 = .ok (.iconst (-1), 1) := dk_2 (dk_at dksX3_lineSize_0 10 rfl rfl)
theorem dX3_lineSize_11 : decode cX3_lineSize 11 = .ok (.if_icmp .ne 7, 3) := dk_160 0 7 (dk_at dksX3_lineSize_0 11 rfl rfl)
theorem dX3_lineSize_14 : decode cX3_lineSize 14 = .ok (.iconst 0, 1) := dk_3 (dk_at dksX3_lineSize_0 14 rfl rfl)
theorem dX3_lineSize_15 : decode cX3_lineSize 15 = .ok (.goto 17, 3) := dk_167 0 17 (dk_at dksX3_lineSize_0 15 rfl rfl)
theorem dX3_lineSize_18 : decode cX3_lineSize 18 = .ok (.aload_n 0, 1) := dk_42 (dk_at dksX3_lineSize_0 18 rfl rfl)
theorem dX3_lineSize_19 : decode cX3_lineSize 19 = .ok (.aload_n 0, 1) := dk_42 (dk_at dksX3_lineSize_0 19 rfl rfl)
theorem dX3_lineSize_20 : decode cX3_lineSize 20 = .ok (.getfield 7, 3) := dk_180 0 7 (dk_at dksX3_lineSize_0 20 rfl rfl)
theorem dX3_lineSize_23 : decode cX3_lineSize 23 = .ok (.sipush 925, 3) := dk_17 3 157 (dk_at dksX3_lineSize_1 0 rfl rfl)
theorem dX3_lineSize_26 : decode cX3_lineSize 26 = .ok (.iload_n 1, 1) := dk_27 (dk_at dksX3_lineSize_1 3 rfl rfl)
theorem dX3_lineSize_27 : decode cX3_lineSize 27 = .ok (.iadd, 1) := dk_96 (dk_at dksX3_lineSize_1 4 rfl rfl)
theorem dX3_lineSize_28 : decode cX3_lineSize 28 = .ok (.iaload, 1) := dk_46 (dk_at dksX3_lineSize_1 5 rfl rfl)
theorem dX3_lineSize_29 : decode cX3_lineSize 29 = .ok (.invokevirtual 99, 3) := dk_182 0 99 (dk_at dksX3_lineSize_1 6 rfl rfl)
theorem dX3_lineSize_32 : decode cX3_lineSize 32 = .ok (.ireturn, 1) := dk_172 (dk_at dksX3_lineSize_1 9 rfl rfl)
abbrev cX3_proof : ByteArray := prog_13_method_62_code
def yX3_proof : MethodName := ⟨RX3, "proof", "()I"⟩
def dkwX3_proof_3 : List UInt8 := [172, 132, 1, 1, 167, 255, 189, 2, 172]
abbrev dktX3_proof_3 : List UInt8 := dkwX3_proof_3 ++ []
def dkwX3_proof_2 : List UInt8 := [182, 0, 108, 116, 2, 182, 0, 135, 132, 2, 1, 167, 255, 223, 42, 27, 3, 182, 0, 210, 154, 0, 5, 27]
abbrev dktX3_proof_2 : List UInt8 := dkwX3_proof_2 ++ dktX3_proof_3
def dkwX3_proof_1 : List UInt8 := [28, 42, 27, 182, 0, 201, 162, 0, 30, 42, 42, 42, 180, 0, 7, 17, 3, 157, 27, 96, 46, 28]
abbrev dktX3_proof_1 : List UInt8 := dkwX3_proof_1 ++ dktX3_proof_2
def dkwX3_proof_0 : List UInt8 := [42, 3, 181, 0, 63, 3, 60, 27, 42, 180, 0, 7, 16, 6, 46, 162, 0, 62, 42, 182, 0, 183, 3, 61]
abbrev dktX3_proof_0 : List UInt8 := dkwX3_proof_0 ++ dktX3_proof_1
theorem dksX3_proof_0 : cX3_proof.data.toList.drop 0 = dktX3_proof_0 := by decide +kernel
theorem dksX3_proof_1 : cX3_proof.data.toList.drop 24 = dktX3_proof_1 := dk_seg dksX3_proof_0 24 rfl rfl
theorem dksX3_proof_2 : cX3_proof.data.toList.drop 46 = dktX3_proof_2 := dk_seg dksX3_proof_1 22 rfl rfl
theorem dksX3_proof_3 : cX3_proof.data.toList.drop 70 = dktX3_proof_3 := dk_seg dksX3_proof_2 24 rfl rfl
theorem dX3_proof_0 : decode cX3_proof 0 = .ok (.aload_n 0, 1) := dk_42 (dk_at dksX3_proof_0 0 rfl rfl)
theorem dX3_proof_1 : decode cX3_proof 1 = .ok (.iconst 0, 1) := dk_3 (dk_at dksX3_proof_0 1 rfl rfl)
theorem dX3_proof_2 : decode cX3_proof 2 = .ok (.putfield 63, 3) := dk_181 0 63 (dk_at dksX3_proof_0 2 rfl rfl)
theorem dX3_proof_5 : decode cX3_proof 5 = .ok (.iconst 0, 1) := dk_3 (dk_at dksX3_proof_0 5 rfl rfl)
theorem dX3_proof_6 : decode cX3_proof 6 = .ok (.istore_n 1, 1) := dk_60 (dk_at dksX3_proof_0 6 rfl rfl)
theorem dX3_proof_7 : decode cX3_proof 7 = .ok (.iload_n 1, 1) := dk_27 (dk_at dksX3_proof_0 7 rfl rfl)
theorem dX3_proof_8 : decode cX3_proof 8 = .ok (.aload_n 0, 1) := dk_42 (dk_at dksX3_proof_0 8 rfl rfl)
theorem dX3_proof_9 : decode cX3_proof 9 = .ok (.getfield 7, 3) := dk_180 0 7 (dk_at dksX3_proof_0 9 rfl rfl)
theorem dX3_proof_12 : decode cX3_proof 12 = .ok (.bipush 6, 2) := dk_16 6 (dk_at dksX3_proof_0 12 rfl rfl)
theorem dX3_proof_14 : decode cX3_proof 14 = .ok (.iaload, 1) := dk_46 (dk_at dksX3_proof_0 14 rfl rfl)
theorem dX3_proof_15 : decode cX3_proof 15 = .ok (.if_icmp .ge 62, 3) := dk_162 0 62 (dk_at dksX3_proof_0 15 rfl rfl)
theorem dX3_proof_18 : decode cX3_proof 18 = .ok (.aload_n 0, 1) := dk_42 (dk_at dksX3_proof_0 18 rfl rfl)
theorem dX3_proof_19 : decode cX3_proof 19 = .ok (.invokevirtual 183, 3) := dk_182 0 183 (dk_at dksX3_proof_0 19 rfl rfl)
theorem dX3_proof_22 : decode cX3_proof 22 = .ok (.iconst 0, 1) := dk_3 (dk_at dksX3_proof_0 22 rfl rfl)
theorem dX3_proof_23 : decode cX3_proof 23 = .ok (.istore_n 2, 1) := dk_61 (dk_at dksX3_proof_0 23 rfl rfl)
theorem dX3_proof_24 : decode cX3_proof 24 = .ok (.iload_n 2, 1) := dk_28 (dk_at dksX3_proof_1 0 rfl rfl)
theorem dX3_proof_25 : decode cX3_proof 25 = .ok (.aload_n 0, 1) := dk_42 (dk_at dksX3_proof_1 1 rfl rfl)
theorem dX3_proof_26 : decode cX3_proof 26 = .ok (.iload_n 1, 1) := dk_27 (dk_at dksX3_proof_1 2 rfl rfl)
theorem dX3_proof_27 : decode cX3_proof 27 = .ok (.invokevirtual 201, 3) := dk_182 0 201 (dk_at dksX3_proof_1 3 rfl rfl)
theorem dX3_proof_30 : decode cX3_proof 30 = .ok (.if_icmp .ge 30, 3) := dk_162 0 30 (dk_at dksX3_proof_1 6 rfl rfl)
theorem dX3_proof_33 : decode cX3_proof 33 = .ok (.aload_n 0, 1) := dk_42 (dk_at dksX3_proof_1 9 rfl rfl)
theorem dX3_proof_34 : decode cX3_proof 34 = .ok (.aload_n 0, 1) := dk_42 (dk_at dksX3_proof_1 10 rfl rfl)
theorem dX3_proof_35 : decode cX3_proof 35 = .ok (.aload_n 0, 1) := dk_42 (dk_at dksX3_proof_1 11 rfl rfl)
theorem dX3_proof_36 : decode cX3_proof 36 = .ok (.getfield 7, 3) := dk_180 0 7 (dk_at dksX3_proof_1 12 rfl rfl)
theorem dX3_proof_39 : decode cX3_proof 39 = .ok (.sipush 925, 3) := dk_17 3 157 (dk_at dksX3_proof_1 15 rfl rfl)
theorem dX3_proof_42 : decode cX3_proof 42 = .ok (.iload_n 1, 1) := dk_27 (dk_at dksX3_proof_1 18 rfl rfl)
theorem dX3_proof_43 : decode cX3_proof 43 = .ok (.iadd, 1) := dk_96 (dk_at dksX3_proof_1 19 rfl rfl)
theorem dX3_proof_44 : decode cX3_proof 44 = .ok (.iaload, 1) := dk_46 (dk_at dksX3_proof_1 20 rfl rfl)
theorem dX3_proof_45 : decode cX3_proof 45 = .ok (.iload_n 2, 1) := dk_28 (dk_at dksX3_proof_1 21 rfl rfl)
theorem dX3_proof_46 : decode cX3_proof 46 = .ok (.invokevirtual 108, 3) := dk_182 0 108 (dk_at dksX3_proof_2 0 rfl rfl)
theorem dX3_proof_49 : decode cX3_proof 49 = .ok (.ineg, 1) := dk_116 (dk_at dksX3_proof_2 3 rfl rfl)
theorem dX3_proof_50 : decode cX3_proof 50 = .ok (.iconst (-1), 1) := dk_2 (dk_at dksX3_proof_2 4 rfl rfl)
theorem dX3_proof_51 : decode cX3_proof 51 = .ok (.invokevirtual 135, 3) := dk_182 0 135 (dk_at dksX3_proof_2 5 rfl rfl)
theorem dX3_proof_54 : decode cX3_proof 54 = .ok (.iinc 2 1, 3) := dk_132 2 1 (dk_at dksX3_proof_2 8 rfl rfl)
theorem dX3_proof_57 : decode cX3_proof 57 = .ok (.goto (-33), 3) := dk_167 255 223 (dk_at dksX3_proof_2 11 rfl rfl)
theorem dX3_proof_60 : decode cX3_proof 60 = .ok (.aload_n 0, 1) := dk_42 (dk_at dksX3_proof_2 14 rfl rfl)
theorem dX3_proof_61 : decode cX3_proof 61 = .ok (.iload_n 1, 1) := dk_27 (dk_at dksX3_proof_2 15 rfl rfl)
theorem dX3_proof_62 : decode cX3_proof 62 = .ok (.iconst 0, 1) := dk_3 (dk_at dksX3_proof_2 16 rfl rfl)
theorem dX3_proof_63 : decode cX3_proof 63 = .ok (.invokevirtual 210, 3) := dk_182 0 210 (dk_at dksX3_proof_2 17 rfl rfl)
theorem dX3_proof_66 : decode cX3_proof 66 = .ok (.ifCond .ne 5, 3) := dk_154 0 5 (dk_at dksX3_proof_2 20 rfl rfl)
theorem dX3_proof_69 : decode cX3_proof 69 = .ok (.iload_n 1, 1) := dk_27 (dk_at dksX3_proof_2 23 rfl rfl)
theorem dX3_proof_70 : decode cX3_proof 70 = .ok (.ireturn, 1) := dk_172 (dk_at dksX3_proof_3 0 rfl rfl)
theorem dX3_proof_71 : decode cX3_proof 71 = .ok (.iinc 1 1, 3) := dk_132 1 1 (dk_at dksX3_proof_3 1 rfl rfl)
theorem dX3_proof_74 : decode cX3_proof 74 = .ok (.goto (-67), 3) := dk_167 255 189 (dk_at dksX3_proof_3 4 rfl rfl)
theorem dX3_proof_77 : decode cX3_proof 77 = .ok (.iconst (-1), 1) := dk_2 (dk_at dksX3_proof_3 7 rfl rfl)
theorem dX3_proof_78 : decode cX3_proof 78 = .ok (.ireturn, 1) := dk_172 (dk_at dksX3_proof_3 8 rfl rfl)
abbrev cX3_isRefused : ByteArray := prog_13_method_61_code
def yX3_isRefused : MethodName := ⟨RX3, "isRefused", "(II)Z"⟩
def dkwX3_isRefused_8 : List UInt8 := [132, 4, 1, 167, 255, 215, 167, 255, 63, 3, 172]
abbrev dktX3_isRefused_8 : List UInt8 := dkwX3_isRefused_8 ++ []
def dkwX3_isRefused_7 : List UInt8 := [21, 5, 5, 160, 0, 5, 4, 172, 29, 154, 0, 9, 21, 5, 4, 160, 0, 7, 4, 167, 0, 4, 3, 62]
abbrev dktX3_isRefused_7 : List UInt8 := dkwX3_isRefused_7 ++ dktX3_isRefused_8
def dkwX3_isRefused_6 : List UInt8 := [132, 4, 1, 167, 255, 187, 3, 54, 4, 21, 4, 28, 162, 0, 41, 42, 21, 4, 182, 0, 207, 54, 5]
abbrev dktX3_isRefused_6 : List UInt8 := dkwX3_isRefused_6 ++ dktX3_isRefused_7
def dkwX3_isRefused_5 : List UInt8 := [21, 5, 5, 160, 0, 5, 4, 172, 29, 154, 0, 9, 21, 5, 4, 160, 0, 7, 4, 167, 0, 4, 3, 62]
abbrev dktX3_isRefused_5 : List UInt8 := dkwX3_isRefused_5 ++ dktX3_isRefused_6
def dkwX3_isRefused_4 : List UInt8 := [160, 0, 7, 5, 167, 0, 18, 42, 42, 180, 0, 7, 17, 3, 157, 21, 4, 96, 46, 182, 0, 204, 54, 5]
abbrev dktX3_isRefused_4 : List UInt8 := dkwX3_isRefused_4 ++ dktX3_isRefused_5
def dkwX3_isRefused_3 : List UInt8 := [167, 255, 197, 3, 54, 4, 21, 4, 27, 162, 0, 69, 42, 180, 0, 7, 17, 3, 157, 21, 4, 96, 46, 2]
abbrev dktX3_isRefused_3 : List UInt8 := dkwX3_isRefused_3 ++ dktX3_isRefused_4
def dkwX3_isRefused_2 : List UInt8 := [160, 0, 5, 4, 172, 29, 154, 0, 9, 21, 5, 4, 160, 0, 7, 4, 167, 0, 4, 3, 62, 132, 4, 1]
abbrev dktX3_isRefused_2 : List UInt8 := dkwX3_isRefused_2 ++ dktX3_isRefused_3
def dkwX3_isRefused_1 : List UInt8 := [21, 4, 182, 0, 93, 153, 0, 7, 3, 167, 0, 9, 42, 21, 4, 182, 0, 204, 54, 5, 21, 5, 5]
abbrev dktX3_isRefused_1 : List UInt8 := dkwX3_isRefused_1 ++ dktX3_isRefused_2
def dkwX3_isRefused_0 : List UInt8 := [4, 62, 29, 153, 0, 195, 3, 62, 3, 54, 4, 21, 4, 42, 180, 0, 7, 4, 46, 162, 0, 54, 42]
abbrev dktX3_isRefused_0 : List UInt8 := dkwX3_isRefused_0 ++ dktX3_isRefused_1
theorem dksX3_isRefused_0 : cX3_isRefused.data.toList.drop 0 = dktX3_isRefused_0 := by decide +kernel
theorem dksX3_isRefused_1 : cX3_isRefused.data.toList.drop 23 = dktX3_isRefused_1 := dk_seg dksX3_isRefused_0 23 rfl rfl
theorem dksX3_isRefused_2 : cX3_isRefused.data.toList.drop 46 = dktX3_isRefused_2 := dk_seg dksX3_isRefused_1 23 rfl rfl
theorem dksX3_isRefused_3 : cX3_isRefused.data.toList.drop 70 = dktX3_isRefused_3 := dk_seg dksX3_isRefused_2 24 rfl rfl
theorem dksX3_isRefused_4 : cX3_isRefused.data.toList.drop 94 = dktX3_isRefused_4 := dk_seg dksX3_isRefused_3 24 rfl rfl
theorem dksX3_isRefused_5 : cX3_isRefused.data.toList.drop 118 = dktX3_isRefused_5 := dk_seg dksX3_isRefused_4 24 rfl rfl
theorem dksX3_isRefused_6 : cX3_isRefused.data.toList.drop 142 = dktX3_isRefused_6 := dk_seg dksX3_isRefused_5 24 rfl rfl
theorem dksX3_isRefused_7 : cX3_isRefused.data.toList.drop 165 = dktX3_isRefused_7 := dk_seg dksX3_isRefused_6 23 rfl rfl
theorem dksX3_isRefused_8 : cX3_isRefused.data.toList.drop 189 = dktX3_isRefused_8 := dk_seg dksX3_isRefused_7 24 rfl rfl
theorem dX3_isRefused_0 : decode cX3_isRefused 0 = .ok (.iconst 1, 1) := dk_4 (dk_at dksX3_isRefused_0 0 rfl rfl)
theorem dX3_isRefused_1 : decode cX3_isRefused 1 = .ok (.istore_n 3, 1) := dk_62 (dk_at dksX3_isRefused_0 1 rfl rfl)
theorem dX3_isRefused_2 : decode cX3_isRefused 2 = .ok (.iload_n 3, 1) := dk_29 (dk_at dksX3_isRefused_0 2 rfl rfl)
theorem dX3_isRefused_3 : decode cX3_isRefused 3 = .ok (.ifCond .eq 195, 3) := dk_153 0 195 (dk_at dksX3_isRefused_0 3 rfl rfl)
theorem dX3_isRefused_6 : decode cX3_isRefused 6 = .ok (.iconst 0, 1) := dk_3 (dk_at dksX3_isRefused_0 6 rfl rfl)
theorem dX3_isRefused_7 : decode cX3_isRefused 7 = .ok (.istore_n 3, 1) := dk_62 (dk_at dksX3_isRefused_0 7 rfl rfl)
theorem dX3_isRefused_8 : decode cX3_isRefused 8 = .ok (.iconst 0, 1) := dk_3 (dk_at dksX3_isRefused_0 8 rfl rfl)
theorem dX3_isRefused_9 : decode cX3_isRefused 9 = .ok (.istore 4, 2) := dk_54 4 (dk_at dksX3_isRefused_0 9 rfl rfl)
theorem dX3_isRefused_11 : decode cX3_isRefused 11 = .ok (.iload 4, 2) := dk_21 4 (dk_at dksX3_isRefused_0 11 rfl rfl)
theorem dX3_isRefused_13 : decode cX3_isRefused 13 = .ok (.aload_n 0, 1) := dk_42 (dk_at dksX3_isRefused_0 13 rfl rfl)
theorem dX3_isRefused_14 : decode cX3_isRefused 14 = .ok (.getfield 7, 3) := dk_180 0 7 (dk_at dksX3_isRefused_0 14 rfl rfl)
theorem dX3_isRefused_17 : decode cX3_isRefused 17 = .ok (.iconst 1, 1) := dk_4 (dk_at dksX3_isRefused_0 17 rfl rfl)
theorem dX3_isRefused_18 : decode cX3_isRefused 18 = .ok (.iaload, 1) := dk_46 (dk_at dksX3_isRefused_0 18 rfl rfl)
theorem dX3_isRefused_19 : decode cX3_isRefused 19 = .ok (.if_icmp .ge 54, 3) := dk_162 0 54 (dk_at dksX3_isRefused_0 19 rfl rfl)
theorem dX3_isRefused_22 : decode cX3_isRefused 22 = .ok (.aload_n 0, 1) := dk_42 (dk_at dksX3_isRefused_0 22 rfl rfl)
theorem dX3_isRefused_23 : decode cX3_isRefused 23 = .ok (.iload 4, 2) := dk_21 4 (dk_at dksX3_isRefused_1 0 rfl rfl)
theorem dX3_isRefused_25 : decode cX3_isRefused 25 = .ok (.invokevirtual 93, 3) := dk_182 0 93 (dk_at dksX3_isRefused_1 2 rfl rfl)
theorem dX3_isRefused_28 : decode cX3_isRefused 28 = .ok (.ifCond .eq 7, 3) := dk_153 0 7 (dk_at dksX3_isRefused_1 5 rfl rfl)
theorem dX3_isRefused_31 : decode cX3_isRefused 31 = .ok (.iconst 0, 1) := dk_3 (dk_at dksX3_isRefused_1 8 rfl rfl)
theorem dX3_isRefused_32 : decode cX3_isRefused 32 = .ok (.goto 9, 3) := dk_167 0 9 (dk_at dksX3_isRefused_1 9 rfl rfl)
theorem dX3_isRefused_35 : decode cX3_isRefused 35 = .ok (.aload_n 0, 1) := dk_42 (dk_at dksX3_isRefused_1 12 rfl rfl)
theorem dX3_isRefused_36 : decode cX3_isRefused 36 = .ok (.iload 4, 2) := dk_21 4 (dk_at dksX3_isRefused_1 13 rfl rfl)
theorem dX3_isRefused_38 : decode cX3_isRefused 38 = .ok (.invokevirtual 204, 3) := dk_182 0 204 (dk_at dksX3_isRefused_1 15 rfl rfl)
theorem dX3_isRefused_41 : decode cX3_isRefused 41 = .ok (.istore 5, 2) := dk_54 5 (dk_at dksX3_isRefused_1 18 rfl rfl)
theorem dX3_isRefused_43 : decode cX3_isRefused 43 = .ok (.iload 5, 2) := dk_21 5 (dk_at dksX3_isRefused_1 20 rfl rfl)
theorem dX3_isRefused_45 : decode cX3_isRefused 45 = .ok (.iconst 2, 1) := dk_5 (dk_at dksX3_isRefused_1 22 rfl rfl)
theorem dX3_isRefused_46 : decode cX3_isRefused 46 = .ok (.if_icmp .ne 5, 3) := dk_160 0 5 (dk_at dksX3_isRefused_2 0 rfl rfl)
theorem dX3_isRefused_49 : decode cX3_isRefused 49 = .ok (.iconst 1, 1) := dk_4 (dk_at dksX3_isRefused_2 3 rfl rfl)
theorem dX3_isRefused_50 : decode cX3_isRefused 50 = .ok (.ireturn, 1) := dk_172 (dk_at dksX3_isRefused_2 4 rfl rfl)
theorem dX3_isRefused_51 : decode cX3_isRefused 51 = .ok (.iload_n 3, 1) := dk_29 (dk_at dksX3_isRefused_2 5 rfl rfl)
theorem dX3_isRefused_52 : decode cX3_isRefused 52 = .ok (.ifCond .ne 9, 3) := dk_154 0 9 (dk_at dksX3_isRefused_2 6 rfl rfl)
theorem dX3_isRefused_55 : decode cX3_isRefused 55 = .ok (.iload 5, 2) := dk_21 5 (dk_at dksX3_isRefused_2 9 rfl rfl)
theorem dX3_isRefused_57 : decode cX3_isRefused 57 = .ok (.iconst 1, 1) := dk_4 (dk_at dksX3_isRefused_2 11 rfl rfl)
theorem dX3_isRefused_58 : decode cX3_isRefused 58 = .ok (.if_icmp .ne 7, 3) := dk_160 0 7 (dk_at dksX3_isRefused_2 12 rfl rfl)
theorem dX3_isRefused_61 : decode cX3_isRefused 61 = .ok (.iconst 1, 1) := dk_4 (dk_at dksX3_isRefused_2 15 rfl rfl)
theorem dX3_isRefused_62 : decode cX3_isRefused 62 = .ok (.goto 4, 3) := dk_167 0 4 (dk_at dksX3_isRefused_2 16 rfl rfl)
theorem dX3_isRefused_65 : decode cX3_isRefused 65 = .ok (.iconst 0, 1) := dk_3 (dk_at dksX3_isRefused_2 19 rfl rfl)
theorem dX3_isRefused_66 : decode cX3_isRefused 66 = .ok (.istore_n 3, 1) := dk_62 (dk_at dksX3_isRefused_2 20 rfl rfl)
theorem dX3_isRefused_67 : decode cX3_isRefused 67 = .ok (.iinc 4 1, 3) := dk_132 4 1 (dk_at dksX3_isRefused_2 21 rfl rfl)
theorem dX3_isRefused_70 : decode cX3_isRefused 70 = .ok (.goto (-59), 3) := dk_167 255 197 (dk_at dksX3_isRefused_3 0 rfl rfl)
theorem dX3_isRefused_73 : decode cX3_isRefused 73 = .ok (.iconst 0, 1) := dk_3 (dk_at dksX3_isRefused_3 3 rfl rfl)
theorem dX3_isRefused_74 : decode cX3_isRefused 74 = .ok (.istore 4, 2) := dk_54 4 (dk_at dksX3_isRefused_3 4 rfl rfl)
theorem dX3_isRefused_76 : decode cX3_isRefused 76 = .ok (.iload 4, 2) := dk_21 4 (dk_at dksX3_isRefused_3 6 rfl rfl)
theorem dX3_isRefused_78 : decode cX3_isRefused 78 = .ok (.iload_n 1, 1) := dk_27 (dk_at dksX3_isRefused_3 8 rfl rfl)
theorem dX3_isRefused_79 : decode cX3_isRefused 79 = .ok (.if_icmp .ge 69, 3) := dk_162 0 69 (dk_at dksX3_isRefused_3 9 rfl rfl)
theorem dX3_isRefused_82 : decode cX3_isRefused 82 = .ok (.aload_n 0, 1) := dk_42 (dk_at dksX3_isRefused_3 12 rfl rfl)
theorem dX3_isRefused_83 : decode cX3_isRefused 83 = .ok (.getfield 7, 3) := dk_180 0 7 (dk_at dksX3_isRefused_3 13 rfl rfl)
theorem dX3_isRefused_86 : decode cX3_isRefused 86 = .ok (.sipush 925, 3) := dk_17 3 157 (dk_at dksX3_isRefused_3 16 rfl rfl)
theorem dX3_isRefused_89 : decode cX3_isRefused 89 = .ok (.iload 4, 2) := dk_21 4 (dk_at dksX3_isRefused_3 19 rfl rfl)
theorem dX3_isRefused_91 : decode cX3_isRefused 91 = .ok (.iadd, 1) := dk_96 (dk_at dksX3_isRefused_3 21 rfl rfl)
theorem dX3_isRefused_92 : decode cX3_isRefused 92 = .ok (.iaload, 1) := dk_46 (dk_at dksX3_isRefused_3 22 rfl rfl)
theorem dX3_isRefused_93 : decode cX3_isRefused 93 = .ok (.iconst (-1), 1) := dk_2 (dk_at dksX3_isRefused_3 23 rfl rfl)
theorem dX3_isRefused_94 : decode cX3_isRefused 94 = .ok (.if_icmp .ne 7, 3) := dk_160 0 7 (dk_at dksX3_isRefused_4 0 rfl rfl)
theorem dX3_isRefused_97 : decode cX3_isRefused 97 = .ok (.iconst 2, 1) := dk_5 (dk_at dksX3_isRefused_4 3 rfl rfl)
theorem dX3_isRefused_98 : decode cX3_isRefused 98 = .ok (.goto 18, 3) := dk_167 0 18 (dk_at dksX3_isRefused_4 4 rfl rfl)
theorem dX3_isRefused_101 : decode cX3_isRefused 101 = .ok (.aload_n 0, 1) := dk_42 (dk_at dksX3_isRefused_4 7 rfl rfl)
theorem dX3_isRefused_102 : decode cX3_isRefused 102 = .ok (.aload_n 0, 1) := dk_42 (dk_at dksX3_isRefused_4 8 rfl rfl)
theorem dX3_isRefused_103 : decode cX3_isRefused 103 = .ok (.getfield 7, 3) := dk_180 0 7 (dk_at dksX3_isRefused_4 9 rfl rfl)
theorem dX3_isRefused_106 : decode cX3_isRefused 106 = .ok (.sipush 925, 3) := dk_17 3 157 (dk_at dksX3_isRefused_4 12 rfl rfl)
theorem dX3_isRefused_109 : decode cX3_isRefused 109 = .ok (.iload 4, 2) := dk_21 4 (dk_at dksX3_isRefused_4 15 rfl rfl)
theorem dX3_isRefused_111 : decode cX3_isRefused 111 = .ok (.iadd, 1) := dk_96 (dk_at dksX3_isRefused_4 17 rfl rfl)
theorem dX3_isRefused_112 : decode cX3_isRefused 112 = .ok (.iaload, 1) := dk_46 (dk_at dksX3_isRefused_4 18 rfl rfl)
theorem dX3_isRefused_113 : decode cX3_isRefused 113 = .ok (.invokevirtual 204, 3) := dk_182 0 204 (dk_at dksX3_isRefused_4 19 rfl rfl)
theorem dX3_isRefused_116 : decode cX3_isRefused 116 = .ok (.istore 5, 2) := dk_54 5 (dk_at dksX3_isRefused_4 22 rfl rfl)
theorem dX3_isRefused_118 : decode cX3_isRefused 118 = .ok (.iload 5, 2) := dk_21 5 (dk_at dksX3_isRefused_5 0 rfl rfl)
theorem dX3_isRefused_120 : decode cX3_isRefused 120 = .ok (.iconst 2, 1) := dk_5 (dk_at dksX3_isRefused_5 2 rfl rfl)
theorem dX3_isRefused_121 : decode cX3_isRefused 121 = .ok (.if_icmp .ne 5, 3) := dk_160 0 5 (dk_at dksX3_isRefused_5 3 rfl rfl)
theorem dX3_isRefused_124 : decode cX3_isRefused 124 = .ok (.iconst 1, 1) := dk_4 (dk_at dksX3_isRefused_5 6 rfl rfl)
theorem dX3_isRefused_125 : decode cX3_isRefused 125 = .ok (.ireturn, 1) := dk_172 (dk_at dksX3_isRefused_5 7 rfl rfl)
theorem dX3_isRefused_126 : decode cX3_isRefused 126 = .ok (.iload_n 3, 1) := dk_29 (dk_at dksX3_isRefused_5 8 rfl rfl)
theorem dX3_isRefused_127 : decode cX3_isRefused 127 = .ok (.ifCond .ne 9, 3) := dk_154 0 9 (dk_at dksX3_isRefused_5 9 rfl rfl)
theorem dX3_isRefused_130 : decode cX3_isRefused 130 = .ok (.iload 5, 2) := dk_21 5 (dk_at dksX3_isRefused_5 12 rfl rfl)
theorem dX3_isRefused_132 : decode cX3_isRefused 132 = .ok (.iconst 1, 1) := dk_4 (dk_at dksX3_isRefused_5 14 rfl rfl)
theorem dX3_isRefused_133 : decode cX3_isRefused 133 = .ok (.if_icmp .ne 7, 3) := dk_160 0 7 (dk_at dksX3_isRefused_5 15 rfl rfl)
theorem dX3_isRefused_136 : decode cX3_isRefused 136 = .ok (.iconst 1, 1) := dk_4 (dk_at dksX3_isRefused_5 18 rfl rfl)
theorem dX3_isRefused_137 : decode cX3_isRefused 137 = .ok (.goto 4, 3) := dk_167 0 4 (dk_at dksX3_isRefused_5 19 rfl rfl)
theorem dX3_isRefused_140 : decode cX3_isRefused 140 = .ok (.iconst 0, 1) := dk_3 (dk_at dksX3_isRefused_5 22 rfl rfl)
theorem dX3_isRefused_141 : decode cX3_isRefused 141 = .ok (.istore_n 3, 1) := dk_62 (dk_at dksX3_isRefused_5 23 rfl rfl)
theorem dX3_isRefused_142 : decode cX3_isRefused 142 = .ok (.iinc 4 1, 3) := dk_132 4 1 (dk_at dksX3_isRefused_6 0 rfl rfl)
theorem dX3_isRefused_145 : decode cX3_isRefused 145 = .ok (.goto (-69), 3) := dk_167 255 187 (dk_at dksX3_isRefused_6 3 rfl rfl)
theorem dX3_isRefused_148 : decode cX3_isRefused 148 = .ok (.iconst 0, 1) := dk_3 (dk_at dksX3_isRefused_6 6 rfl rfl)
theorem dX3_isRefused_149 : decode cX3_isRefused 149 = .ok (.istore 4, 2) := dk_54 4 (dk_at dksX3_isRefused_6 7 rfl rfl)
theorem dX3_isRefused_151 : decode cX3_isRefused 151 = .ok (.iload 4, 2) := dk_21 4 (dk_at dksX3_isRefused_6 9 rfl rfl)
theorem dX3_isRefused_153 : decode cX3_isRefused 153 = .ok (.iload_n 2, 1) := dk_28 (dk_at dksX3_isRefused_6 11 rfl rfl)
theorem dX3_isRefused_154 : decode cX3_isRefused 154 = .ok (.if_icmp .ge 41, 3) := dk_162 0 41 (dk_at dksX3_isRefused_6 12 rfl rfl)
theorem dX3_isRefused_157 : decode cX3_isRefused 157 = .ok (.aload_n 0, 1) := dk_42 (dk_at dksX3_isRefused_6 15 rfl rfl)
theorem dX3_isRefused_158 : decode cX3_isRefused 158 = .ok (.iload 4, 2) := dk_21 4 (dk_at dksX3_isRefused_6 16 rfl rfl)
theorem dX3_isRefused_160 : decode cX3_isRefused 160 = .ok (.invokevirtual 207, 3) := dk_182 0 207 (dk_at dksX3_isRefused_6 18 rfl rfl)
theorem dX3_isRefused_163 : decode cX3_isRefused 163 = .ok (.istore 5, 2) := dk_54 5 (dk_at dksX3_isRefused_6 21 rfl rfl)
theorem dX3_isRefused_165 : decode cX3_isRefused 165 = .ok (.iload 5, 2) := dk_21 5 (dk_at dksX3_isRefused_7 0 rfl rfl)
theorem dX3_isRefused_167 : decode cX3_isRefused 167 = .ok (.iconst 2, 1) := dk_5 (dk_at dksX3_isRefused_7 2 rfl rfl)
theorem dX3_isRefused_168 : decode cX3_isRefused 168 = .ok (.if_icmp .ne 5, 3) := dk_160 0 5 (dk_at dksX3_isRefused_7 3 rfl rfl)
theorem dX3_isRefused_171 : decode cX3_isRefused 171 = .ok (.iconst 1, 1) := dk_4 (dk_at dksX3_isRefused_7 6 rfl rfl)
theorem dX3_isRefused_172 : decode cX3_isRefused 172 = .ok (.ireturn, 1) := dk_172 (dk_at dksX3_isRefused_7 7 rfl rfl)
theorem dX3_isRefused_173 : decode cX3_isRefused 173 = .ok (.iload_n 3, 1) := dk_29 (dk_at dksX3_isRefused_7 8 rfl rfl)
theorem dX3_isRefused_174 : decode cX3_isRefused 174 = .ok (.ifCond .ne 9, 3) := dk_154 0 9 (dk_at dksX3_isRefused_7 9 rfl rfl)
theorem dX3_isRefused_177 : decode cX3_isRefused 177 = .ok (.iload 5, 2) := dk_21 5 (dk_at dksX3_isRefused_7 12 rfl rfl)
theorem dX3_isRefused_179 : decode cX3_isRefused 179 = .ok (.iconst 1, 1) := dk_4 (dk_at dksX3_isRefused_7 14 rfl rfl)
theorem dX3_isRefused_180 : decode cX3_isRefused 180 = .ok (.if_icmp .ne 7, 3) := dk_160 0 7 (dk_at dksX3_isRefused_7 15 rfl rfl)
theorem dX3_isRefused_183 : decode cX3_isRefused 183 = .ok (.iconst 1, 1) := dk_4 (dk_at dksX3_isRefused_7 18 rfl rfl)
theorem dX3_isRefused_184 : decode cX3_isRefused 184 = .ok (.goto 4, 3) := dk_167 0 4 (dk_at dksX3_isRefused_7 19 rfl rfl)
theorem dX3_isRefused_187 : decode cX3_isRefused 187 = .ok (.iconst 0, 1) := dk_3 (dk_at dksX3_isRefused_7 22 rfl rfl)
theorem dX3_isRefused_188 : decode cX3_isRefused 188 = .ok (.istore_n 3, 1) := dk_62 (dk_at dksX3_isRefused_7 23 rfl rfl)
theorem dX3_isRefused_189 : decode cX3_isRefused 189 = .ok (.iinc 4 1, 3) := dk_132 4 1 (dk_at dksX3_isRefused_8 0 rfl rfl)
theorem dX3_isRefused_192 : decode cX3_isRefused 192 = .ok (.goto (-41), 3) := dk_167 255 215 (dk_at dksX3_isRefused_8 3 rfl rfl)
theorem dX3_isRefused_195 : decode cX3_isRefused 195 = .ok (.goto (-193), 3) := dk_167 255 63 (dk_at dksX3_isRefused_8 6 rfl rfl)
theorem dX3_isRefused_198 : decode cX3_isRefused 198 = .ok (.iconst 0, 1) := dk_3 (dk_at dksX3_isRefused_8 9 rfl rfl)
theorem dX3_isRefused_199 : decode cX3_isRefused 199 = .ok (.ireturn, 1) := dk_172 (dk_at dksX3_isRefused_8 10 rfl rfl)
abbrev cX3_drawsFrom : ByteArray := prog_13_method_59_code
def yX3_drawsFrom : MethodName := ⟨RX3, "drawsFrom", "(I)I"⟩
def dkwX3_drawsFrom_1 : List UInt8 := [154, 0, 7, 5, 167, 0, 13, 28, 4, 160, 0, 7, 4, 167, 0, 4, 3, 172]
abbrev dktX3_drawsFrom_1 : List UInt8 := dkwX3_drawsFrom_1 ++ []
def dkwX3_drawsFrom_0 : List UInt8 := [42, 27, 182, 0, 114, 61, 28, 4, 160, 0, 13, 42, 42, 27, 182, 0, 171, 27, 182, 0, 135, 28]
abbrev dktX3_drawsFrom_0 : List UInt8 := dkwX3_drawsFrom_0 ++ dktX3_drawsFrom_1
theorem dksX3_drawsFrom_0 : cX3_drawsFrom.data.toList.drop 0 = dktX3_drawsFrom_0 := by decide +kernel
theorem dksX3_drawsFrom_1 : cX3_drawsFrom.data.toList.drop 22 = dktX3_drawsFrom_1 := dk_seg dksX3_drawsFrom_0 22 rfl rfl
theorem dX3_drawsFrom_0 : decode cX3_drawsFrom 0 = .ok (.aload_n 0, 1) := dk_42 (dk_at dksX3_drawsFrom_0 0 rfl rfl)
theorem dX3_drawsFrom_1 : decode cX3_drawsFrom 1 = .ok (.iload_n 1, 1) := dk_27 (dk_at dksX3_drawsFrom_0 1 rfl rfl)
theorem dX3_drawsFrom_2 : decode cX3_drawsFrom 2 = .ok (.invokevirtual 114, 3) := dk_182 0 114 (dk_at dksX3_drawsFrom_0 2 rfl rfl)
theorem dX3_drawsFrom_5 : decode cX3_drawsFrom 5 = .ok (.istore_n 2, 1) := dk_61 (dk_at dksX3_drawsFrom_0 5 rfl rfl)
theorem dX3_drawsFrom_6 : decode cX3_drawsFrom 6 = .ok (.iload_n 2, 1) := dk_28 (dk_at dksX3_drawsFrom_0 6 rfl rfl)
theorem dX3_drawsFrom_7 : decode cX3_drawsFrom 7 = .ok (.iconst 1, 1) := dk_4 (dk_at dksX3_drawsFrom_0 7 rfl rfl)
theorem dX3_drawsFrom_8 : decode cX3_drawsFrom 8 = .ok (.if_icmp .ne 13, 3) := dk_160 0 13 (dk_at dksX3_drawsFrom_0 8 rfl rfl)
theorem dX3_drawsFrom_11 : decode cX3_drawsFrom 11 = .ok (.aload_n 0, 1) := dk_42 (dk_at dksX3_drawsFrom_0 11 rfl rfl)
theorem dX3_drawsFrom_12 : decode cX3_drawsFrom 12 = .ok (.aload_n 0, 1) := dk_42 (dk_at dksX3_drawsFrom_0 12 rfl rfl)
theorem dX3_drawsFrom_13 : decode cX3_drawsFrom 13 = .ok (.iload_n 1, 1) := dk_27 (dk_at dksX3_drawsFrom_0 13 rfl rfl)
theorem dX3_drawsFrom_14 : decode cX3_drawsFrom 14 = .ok (.invokevirtual 171, 3) := dk_182 0 171 (dk_at dksX3_drawsFrom_0 14 rfl rfl)
theorem dX3_drawsFrom_17 : decode cX3_drawsFrom 17 = .ok (.iload_n 1, 1) := dk_27 (dk_at dksX3_drawsFrom_0 17 rfl rfl)
theorem dX3_drawsFrom_18 : decode cX3_drawsFrom 18 = .ok (.invokevirtual 135, 3) := dk_182 0 135 (dk_at dksX3_drawsFrom_0 18 rfl rfl)
theorem dX3_drawsFrom_21 : decode cX3_drawsFrom 21 = .ok (.iload_n 2, 1) := dk_28 (dk_at dksX3_drawsFrom_0 21 rfl rfl)
theorem dX3_drawsFrom_22 : decode cX3_drawsFrom 22 = .ok (.ifCond .ne 7, 3) := dk_154 0 7 (dk_at dksX3_drawsFrom_1 0 rfl rfl)
theorem dX3_drawsFrom_25 : decode cX3_drawsFrom 25 = .ok (.iconst 2, 1) := dk_5 (dk_at dksX3_drawsFrom_1 3 rfl rfl)
theorem dX3_drawsFrom_26 : decode cX3_drawsFrom 26 = .ok (.goto 13, 3) := dk_167 0 13 (dk_at dksX3_drawsFrom_1 4 rfl rfl)
theorem dX3_drawsFrom_29 : decode cX3_drawsFrom 29 = .ok (.iload_n 2, 1) := dk_28 (dk_at dksX3_drawsFrom_1 7 rfl rfl)
theorem dX3_drawsFrom_30 : decode cX3_drawsFrom 30 = .ok (.iconst 1, 1) := dk_4 (dk_at dksX3_drawsFrom_1 8 rfl rfl)
theorem dX3_drawsFrom_31 : decode cX3_drawsFrom 31 = .ok (.if_icmp .ne 7, 3) := dk_160 0 7 (dk_at dksX3_drawsFrom_1 9 rfl rfl)
theorem dX3_drawsFrom_34 : decode cX3_drawsFrom 34 = .ok (.iconst 1, 1) := dk_4 (dk_at dksX3_drawsFrom_1 12 rfl rfl)
theorem dX3_drawsFrom_35 : decode cX3_drawsFrom 35 = .ok (.goto 4, 3) := dk_167 0 4 (dk_at dksX3_drawsFrom_1 13 rfl rfl)
theorem dX3_drawsFrom_38 : decode cX3_drawsFrom 38 = .ok (.iconst 0, 1) := dk_3 (dk_at dksX3_drawsFrom_1 16 rfl rfl)
theorem dX3_drawsFrom_39 : decode cX3_drawsFrom 39 = .ok (.ireturn, 1) := dk_172 (dk_at dksX3_drawsFrom_1 17 rfl rfl)
abbrev cX3_drawsRead : ByteArray := prog_13_method_60_code
def yX3_drawsRead : MethodName := ⟨RX3, "drawsRead", "(I)I"⟩
def dkwX3_drawsRead_4 : List UInt8 := [154, 0, 7, 5, 167, 0, 13, 28, 4, 160, 0, 7, 4, 167, 0, 4, 3, 172]
abbrev dktX3_drawsRead_4 : List UInt8 := dkwX3_drawsRead_4 ++ []
def dkwX3_drawsRead_3 : List UInt8 := [167, 0, 4, 29, 62, 132, 4, 1, 167, 255, 190, 28, 4, 160, 0, 9, 42, 29, 2, 182, 0, 135, 28]
abbrev dktX3_drawsRead_3 : List UInt8 := dkwX3_drawsRead_3 ++ dktX3_drawsRead_4
def dkwX3_drawsRead_2 : List UInt8 := [21, 5, 154, 0, 7, 4, 167, 0, 4, 3, 96, 61, 21, 5, 154, 0, 13, 42, 180, 0, 47, 21, 4, 46]
abbrev dktX3_drawsRead_2 : List UInt8 := dkwX3_drawsRead_2 ++ dktX3_drawsRead_3
def dkwX3_drawsRead_1 : List UInt8 := [162, 0, 59, 42, 42, 180, 0, 47, 21, 4, 46, 182, 0, 111, 54, 5, 21, 5, 158, 0, 5, 3, 172, 28]
abbrev dktX3_drawsRead_1 : List UInt8 := dkwX3_drawsRead_1 ++ dktX3_drawsRead_2
def dkwX3_drawsRead_0 : List UInt8 := [3, 61, 3, 62, 42, 180, 0, 50, 27, 46, 54, 4, 21, 4, 42, 180, 0, 50, 27, 4, 96, 46]
abbrev dktX3_drawsRead_0 : List UInt8 := dkwX3_drawsRead_0 ++ dktX3_drawsRead_1
theorem dksX3_drawsRead_0 : cX3_drawsRead.data.toList.drop 0 = dktX3_drawsRead_0 := by decide +kernel
theorem dksX3_drawsRead_1 : cX3_drawsRead.data.toList.drop 22 = dktX3_drawsRead_1 := dk_seg dksX3_drawsRead_0 22 rfl rfl
theorem dksX3_drawsRead_2 : cX3_drawsRead.data.toList.drop 46 = dktX3_drawsRead_2 := dk_seg dksX3_drawsRead_1 24 rfl rfl
theorem dksX3_drawsRead_3 : cX3_drawsRead.data.toList.drop 70 = dktX3_drawsRead_3 := dk_seg dksX3_drawsRead_2 24 rfl rfl
theorem dksX3_drawsRead_4 : cX3_drawsRead.data.toList.drop 93 = dktX3_drawsRead_4 := dk_seg dksX3_drawsRead_3 23 rfl rfl
theorem dX3_drawsRead_0 : decode cX3_drawsRead 0 = .ok (.iconst 0, 1) := dk_3 (dk_at dksX3_drawsRead_0 0 rfl rfl)
theorem dX3_drawsRead_1 : decode cX3_drawsRead 1 = .ok (.istore_n 2, 1) := dk_61 (dk_at dksX3_drawsRead_0 1 rfl rfl)
theorem dX3_drawsRead_2 : decode cX3_drawsRead 2 = .ok (.iconst 0, 1) := dk_3 (dk_at dksX3_drawsRead_0 2 rfl rfl)
theorem dX3_drawsRead_3 : decode cX3_drawsRead 3 = .ok (.istore_n 3, 1) := dk_62 (dk_at dksX3_drawsRead_0 3 rfl rfl)
theorem dX3_drawsRead_4 : decode cX3_drawsRead 4 = .ok (.aload_n 0, 1) := dk_42 (dk_at dksX3_drawsRead_0 4 rfl rfl)
theorem dX3_drawsRead_5 : decode cX3_drawsRead 5 = .ok (.getfield 50, 3) := dk_180 0 50 (dk_at dksX3_drawsRead_0 5 rfl rfl)
theorem dX3_drawsRead_8 : decode cX3_drawsRead 8 = .ok (.iload_n 1, 1) := dk_27 (dk_at dksX3_drawsRead_0 8 rfl rfl)
theorem dX3_drawsRead_9 : decode cX3_drawsRead 9 = .ok (.iaload, 1) := dk_46 (dk_at dksX3_drawsRead_0 9 rfl rfl)
theorem dX3_drawsRead_10 : decode cX3_drawsRead 10 = .ok (.istore 4, 2) := dk_54 4 (dk_at dksX3_drawsRead_0 10 rfl rfl)
theorem dX3_drawsRead_12 : decode cX3_drawsRead 12 = .ok (.iload 4, 2) := dk_21 4 (dk_at dksX3_drawsRead_0 12 rfl rfl)
theorem dX3_drawsRead_14 : decode cX3_drawsRead 14 = .ok (.aload_n 0, 1) := dk_42 (dk_at dksX3_drawsRead_0 14 rfl rfl)
theorem dX3_drawsRead_15 : decode cX3_drawsRead 15 = .ok (.getfield 50, 3) := dk_180 0 50 (dk_at dksX3_drawsRead_0 15 rfl rfl)
theorem dX3_drawsRead_18 : decode cX3_drawsRead 18 = .ok (.iload_n 1, 1) := dk_27 (dk_at dksX3_drawsRead_0 18 rfl rfl)
theorem dX3_drawsRead_19 : decode cX3_drawsRead 19 = .ok (.iconst 1, 1) := dk_4 (dk_at dksX3_drawsRead_0 19 rfl rfl)
theorem dX3_drawsRead_20 : decode cX3_drawsRead 20 = .ok (.iadd, 1) := dk_96 (dk_at dksX3_drawsRead_0 20 rfl rfl)
theorem dX3_drawsRead_21 : decode cX3_drawsRead 21 = .ok (.iaload, 1) := dk_46 (dk_at dksX3_drawsRead_0 21 rfl rfl)
theorem dX3_drawsRead_22 : decode cX3_drawsRead 22 = .ok (.if_icmp .ge 59, 3) := dk_162 0 59 (dk_at dksX3_drawsRead_1 0 rfl rfl)
theorem dX3_drawsRead_25 : decode cX3_drawsRead 25 = .ok (.aload_n 0, 1) := dk_42 (dk_at dksX3_drawsRead_1 3 rfl rfl)
theorem dX3_drawsRead_26 : decode cX3_drawsRead 26 = .ok (.aload_n 0, 1) := dk_42 (dk_at dksX3_drawsRead_1 4 rfl rfl)
theorem dX3_drawsRead_27 : decode cX3_drawsRead 27 = .ok (.getfield 47, 3) := dk_180 0 47 (dk_at dksX3_drawsRead_1 5 rfl rfl)
theorem dX3_drawsRead_30 : decode cX3_drawsRead 30 = .ok (.iload 4, 2) := dk_21 4 (dk_at dksX3_drawsRead_1 8 rfl rfl)
theorem dX3_drawsRead_32 : decode cX3_drawsRead 32 = .ok (.iaload, 1) := dk_46 (dk_at dksX3_drawsRead_1 10 rfl rfl)
theorem dX3_drawsRead_33 : decode cX3_drawsRead 33 = .ok (.invokevirtual 111, 3) := dk_182 0 111 (dk_at dksX3_drawsRead_1 11 rfl rfl)
theorem dX3_drawsRead_36 : decode cX3_drawsRead 36 = .ok (.istore 5, 2) := dk_54 5 (dk_at dksX3_drawsRead_1 14 rfl rfl)
theorem dX3_drawsRead_38 : decode cX3_drawsRead 38 = .ok (.iload 5, 2) := dk_21 5 (dk_at dksX3_drawsRead_1 16 rfl rfl)
theorem dX3_drawsRead_40 : decode cX3_drawsRead 40 = .ok (.ifCond .le 5, 3) := dk_158 0 5 (dk_at dksX3_drawsRead_1 18 rfl rfl)
theorem dX3_drawsRead_43 : decode cX3_drawsRead 43 = .ok (.iconst 0, 1) := dk_3 (dk_at dksX3_drawsRead_1 21 rfl rfl)
theorem dX3_drawsRead_44 : decode cX3_drawsRead 44 = .ok (.ireturn, 1) := dk_172 (dk_at dksX3_drawsRead_1 22 rfl rfl)
theorem dX3_drawsRead_45 : decode cX3_drawsRead 45 = .ok (.iload_n 2, 1) := dk_28 (dk_at dksX3_drawsRead_1 23 rfl rfl)
theorem dX3_drawsRead_46 : decode cX3_drawsRead 46 = .ok (.iload 5, 2) := dk_21 5 (dk_at dksX3_drawsRead_2 0 rfl rfl)
theorem dX3_drawsRead_48 : decode cX3_drawsRead 48 = .ok (.ifCond .ne 7, 3) := dk_154 0 7 (dk_at dksX3_drawsRead_2 2 rfl rfl)
theorem dX3_drawsRead_51 : decode cX3_drawsRead 51 = .ok (.iconst 1, 1) := dk_4 (dk_at dksX3_drawsRead_2 5 rfl rfl)
theorem dX3_drawsRead_52 : decode cX3_drawsRead 52 = .ok (.goto 4, 3) := dk_167 0 4 (dk_at dksX3_drawsRead_2 6 rfl rfl)
theorem dX3_drawsRead_55 : decode cX3_drawsRead 55 = .ok (.iconst 0, 1) := dk_3 (dk_at dksX3_drawsRead_2 9 rfl rfl)
theorem dX3_drawsRead_56 : decode cX3_drawsRead 56 = .ok (.iadd, 1) := dk_96 (dk_at dksX3_drawsRead_2 10 rfl rfl)
theorem dX3_drawsRead_57 : decode cX3_drawsRead 57 = .ok (.istore_n 2, 1) := dk_61 (dk_at dksX3_drawsRead_2 11 rfl rfl)
theorem dX3_drawsRead_58 : decode cX3_drawsRead 58 = .ok (.iload 5, 2) := dk_21 5 (dk_at dksX3_drawsRead_2 12 rfl rfl)
theorem dX3_drawsRead_60 : decode cX3_drawsRead 60 = .ok (.ifCond .ne 13, 3) := dk_154 0 13 (dk_at dksX3_drawsRead_2 14 rfl rfl)
theorem dX3_drawsRead_63 : decode cX3_drawsRead 63 = .ok (.aload_n 0, 1) := dk_42 (dk_at dksX3_drawsRead_2 17 rfl rfl)
theorem dX3_drawsRead_64 : decode cX3_drawsRead 64 = .ok (.getfield 47, 3) := dk_180 0 47 (dk_at dksX3_drawsRead_2 18 rfl rfl)
theorem dX3_drawsRead_67 : decode cX3_drawsRead 67 = .ok (.iload 4, 2) := dk_21 4 (dk_at dksX3_drawsRead_2 21 rfl rfl)
theorem dX3_drawsRead_69 : decode cX3_drawsRead 69 = .ok (.iaload, 1) := dk_46 (dk_at dksX3_drawsRead_2 23 rfl rfl)
theorem dX3_drawsRead_70 : decode cX3_drawsRead 70 = .ok (.goto 4, 3) := dk_167 0 4 (dk_at dksX3_drawsRead_3 0 rfl rfl)
theorem dX3_drawsRead_73 : decode cX3_drawsRead 73 = .ok (.iload_n 3, 1) := dk_29 (dk_at dksX3_drawsRead_3 3 rfl rfl)
theorem dX3_drawsRead_74 : decode cX3_drawsRead 74 = .ok (.istore_n 3, 1) := dk_62 (dk_at dksX3_drawsRead_3 4 rfl rfl)
theorem dX3_drawsRead_75 : decode cX3_drawsRead 75 = .ok (.iinc 4 1, 3) := dk_132 4 1 (dk_at dksX3_drawsRead_3 5 rfl rfl)
theorem dX3_drawsRead_78 : decode cX3_drawsRead 78 = .ok (.goto (-66), 3) := dk_167 255 190 (dk_at dksX3_drawsRead_3 8 rfl rfl)
theorem dX3_drawsRead_81 : decode cX3_drawsRead 81 = .ok (.iload_n 2, 1) := dk_28 (dk_at dksX3_drawsRead_3 11 rfl rfl)
theorem dX3_drawsRead_82 : decode cX3_drawsRead 82 = .ok (.iconst 1, 1) := dk_4 (dk_at dksX3_drawsRead_3 12 rfl rfl)
theorem dX3_drawsRead_83 : decode cX3_drawsRead 83 = .ok (.if_icmp .ne 9, 3) := dk_160 0 9 (dk_at dksX3_drawsRead_3 13 rfl rfl)
theorem dX3_drawsRead_86 : decode cX3_drawsRead 86 = .ok (.aload_n 0, 1) := dk_42 (dk_at dksX3_drawsRead_3 16 rfl rfl)
theorem dX3_drawsRead_87 : decode cX3_drawsRead 87 = .ok (.iload_n 3, 1) := dk_29 (dk_at dksX3_drawsRead_3 17 rfl rfl)
theorem dX3_drawsRead_88 : decode cX3_drawsRead 88 = .ok (.iconst (-1), 1) := dk_2 (dk_at dksX3_drawsRead_3 18 rfl rfl)
theorem dX3_drawsRead_89 : decode cX3_drawsRead 89 = .ok (.invokevirtual 135, 3) := dk_182 0 135 (dk_at dksX3_drawsRead_3 19 rfl rfl)
theorem dX3_drawsRead_92 : decode cX3_drawsRead 92 = .ok (.iload_n 2, 1) := dk_28 (dk_at dksX3_drawsRead_3 22 rfl rfl)
theorem dX3_drawsRead_93 : decode cX3_drawsRead 93 = .ok (.ifCond .ne 7, 3) := dk_154 0 7 (dk_at dksX3_drawsRead_4 0 rfl rfl)
theorem dX3_drawsRead_96 : decode cX3_drawsRead 96 = .ok (.iconst 2, 1) := dk_5 (dk_at dksX3_drawsRead_4 3 rfl rfl)
theorem dX3_drawsRead_97 : decode cX3_drawsRead 97 = .ok (.goto 13, 3) := dk_167 0 13 (dk_at dksX3_drawsRead_4 4 rfl rfl)
theorem dX3_drawsRead_100 : decode cX3_drawsRead 100 = .ok (.iload_n 2, 1) := dk_28 (dk_at dksX3_drawsRead_4 7 rfl rfl)
theorem dX3_drawsRead_101 : decode cX3_drawsRead 101 = .ok (.iconst 1, 1) := dk_4 (dk_at dksX3_drawsRead_4 8 rfl rfl)
theorem dX3_drawsRead_102 : decode cX3_drawsRead 102 = .ok (.if_icmp .ne 7, 3) := dk_160 0 7 (dk_at dksX3_drawsRead_4 9 rfl rfl)
theorem dX3_drawsRead_105 : decode cX3_drawsRead 105 = .ok (.iconst 1, 1) := dk_4 (dk_at dksX3_drawsRead_4 12 rfl rfl)
theorem dX3_drawsRead_106 : decode cX3_drawsRead 106 = .ok (.goto 4, 3) := dk_167 0 4 (dk_at dksX3_drawsRead_4 13 rfl rfl)
theorem dX3_drawsRead_109 : decode cX3_drawsRead 109 = .ok (.iconst 0, 1) := dk_3 (dk_at dksX3_drawsRead_4 16 rfl rfl)
theorem dX3_drawsRead_110 : decode cX3_drawsRead 110 = .ok (.ireturn, 1) := dk_172 (dk_at dksX3_drawsRead_4 17 rfl rfl)
abbrev cX3_refute : ByteArray := prog_13_method_63_code
def yX3_refute : MethodName := ⟨RX3, "refute", "()I"⟩
def dkwX3_refute_10 : List UInt8 := [167, 255, 158, 42, 180, 0, 217, 172]
abbrev dktX3_refute_10 : List UInt8 := dkwX3_refute_10 ++ []
def dkwX3_refute_9 : List UInt8 := [42, 180, 0, 50, 27, 46, 160, 0, 7, 4, 167, 0, 10, 42, 180, 0, 7, 16, 15, 46, 79, 132, 1, 1]
abbrev dktX3_refute_9 : List UInt8 := dkwX3_refute_9 ++ dktX3_refute_10
def dkwX3_refute_8 : List UInt8 := [3, 27, 182, 0, 210, 154, 0, 5, 27, 172, 42, 180, 0, 7, 16, 15, 42, 180, 0, 50, 27, 4, 96, 46]
abbrev dktX3_refute_8 : List UInt8 := dkwX3_refute_8 ++ dktX3_refute_9
def dkwX3_refute_7 : List UInt8 := [96, 46, 162, 0, 21, 42, 42, 180, 0, 47, 28, 46, 116, 2, 182, 0, 135, 132, 2, 1, 167, 255, 229, 42]
abbrev dktX3_refute_7 : List UInt8 := dkwX3_refute_7 ++ dktX3_refute_8
def dkwX3_refute_6 : List UInt8 := [180, 0, 217, 162, 0, 96, 42, 182, 0, 183, 42, 180, 0, 50, 27, 46, 61, 28, 42, 180, 0, 50, 27, 4]
abbrev dktX3_refute_6 : List UInt8 := dkwX3_refute_6 ++ dktX3_refute_7
def dkwX3_refute_5 : List UInt8 := [167, 255, 161, 42, 180, 0, 220, 153, 0, 5, 2, 172, 42, 180, 0, 7, 16, 15, 3, 79, 3, 60, 27, 42]
abbrev dktX3_refute_5 : List UInt8 := dkwX3_refute_5 ++ dktX3_refute_6
def dkwX3_refute_4 : List UInt8 := [181, 0, 233, 42, 89, 180, 0, 217, 4, 96, 181, 0, 217, 42, 180, 0, 50, 42, 180, 0, 217, 27, 79]
abbrev dktX3_refute_4 : List UInt8 := dkwX3_refute_4 ++ dktX3_refute_5
def dkwX3_refute_3 : List UInt8 := [182, 0, 229, 61, 42, 180, 0, 47, 27, 28, 79, 132, 1, 1, 167, 255, 223, 42, 89, 180, 0, 233, 4, 96]
abbrev dktX3_refute_3 : List UInt8 := dkwX3_refute_3 ++ dktX3_refute_4
def dkwX3_refute_2 : List UInt8 := [42, 182, 0, 226, 42, 180, 0, 220, 154, 0, 32, 42, 182, 0, 223, 16, 59, 159, 0, 23, 42, 4, 3]
abbrev dktX3_refute_2 : List UInt8 := dkwX3_refute_2 ++ dktX3_refute_3
def dkwX3_refute_1 : List UInt8 := [180, 0, 220, 154, 0, 94, 42, 182, 0, 223, 2, 159, 0, 86, 42, 180, 0, 50, 42, 180, 0, 217, 46, 60]
abbrev dktX3_refute_1 : List UInt8 := dkwX3_refute_1 ++ dktX3_refute_2
def dkwX3_refute_0 : List UInt8 := [42, 3, 181, 0, 63, 42, 182, 0, 214, 42, 3, 181, 0, 217, 42, 180, 0, 50, 3, 3, 79, 42]
abbrev dktX3_refute_0 : List UInt8 := dkwX3_refute_0 ++ dktX3_refute_1
theorem dksX3_refute_0 : cX3_refute.data.toList.drop 0 = dktX3_refute_0 := by decide +kernel
theorem dksX3_refute_1 : cX3_refute.data.toList.drop 22 = dktX3_refute_1 := dk_seg dksX3_refute_0 22 rfl rfl
theorem dksX3_refute_2 : cX3_refute.data.toList.drop 46 = dktX3_refute_2 := dk_seg dksX3_refute_1 24 rfl rfl
theorem dksX3_refute_3 : cX3_refute.data.toList.drop 69 = dktX3_refute_3 := dk_seg dksX3_refute_2 23 rfl rfl
theorem dksX3_refute_4 : cX3_refute.data.toList.drop 93 = dktX3_refute_4 := dk_seg dksX3_refute_3 24 rfl rfl
theorem dksX3_refute_5 : cX3_refute.data.toList.drop 116 = dktX3_refute_5 := dk_seg dksX3_refute_4 23 rfl rfl
theorem dksX3_refute_6 : cX3_refute.data.toList.drop 140 = dktX3_refute_6 := dk_seg dksX3_refute_5 24 rfl rfl
theorem dksX3_refute_7 : cX3_refute.data.toList.drop 164 = dktX3_refute_7 := dk_seg dksX3_refute_6 24 rfl rfl
theorem dksX3_refute_8 : cX3_refute.data.toList.drop 188 = dktX3_refute_8 := dk_seg dksX3_refute_7 24 rfl rfl
theorem dksX3_refute_9 : cX3_refute.data.toList.drop 212 = dktX3_refute_9 := dk_seg dksX3_refute_8 24 rfl rfl
theorem dksX3_refute_10 : cX3_refute.data.toList.drop 236 = dktX3_refute_10 := dk_seg dksX3_refute_9 24 rfl rfl
theorem dX3_refute_0 : decode cX3_refute 0 = .ok (.aload_n 0, 1) := dk_42 (dk_at dksX3_refute_0 0 rfl rfl)
theorem dX3_refute_1 : decode cX3_refute 1 = .ok (.iconst 0, 1) := dk_3 (dk_at dksX3_refute_0 1 rfl rfl)
theorem dX3_refute_2 : decode cX3_refute 2 = .ok (.putfield 63, 3) := dk_181 0 63 (dk_at dksX3_refute_0 2 rfl rfl)
theorem dX3_refute_5 : decode cX3_refute 5 = .ok (.aload_n 0, 1) := dk_42 (dk_at dksX3_refute_0 5 rfl rfl)
theorem dX3_refute_6 : decode cX3_refute 6 = .ok (.invokevirtual 214, 3) := dk_182 0 214 (dk_at dksX3_refute_0 6 rfl rfl)
theorem dX3_refute_9 : decode cX3_refute 9 = .ok (.aload_n 0, 1) := dk_42 (dk_at dksX3_refute_0 9 rfl rfl)
theorem dX3_refute_10 : decode cX3_refute 10 = .ok (.iconst 0, 1) := dk_3 (dk_at dksX3_refute_0 10 rfl rfl)
theorem dX3_refute_11 : decode cX3_refute 11 = .ok (.putfield 217, 3) := dk_181 0 217 (dk_at dksX3_refute_0 11 rfl rfl)
theorem dX3_refute_14 : decode cX3_refute 14 = .ok (.aload_n 0, 1) := dk_42 (dk_at dksX3_refute_0 14 rfl rfl)
theorem dX3_refute_15 : decode cX3_refute 15 = .ok (.getfield 50, 3) := dk_180 0 50 (dk_at dksX3_refute_0 15 rfl rfl)
theorem dX3_refute_18 : decode cX3_refute 18 = .ok (.iconst 0, 1) := dk_3 (dk_at dksX3_refute_0 18 rfl rfl)
theorem dX3_refute_19 : decode cX3_refute 19 = .ok (.iconst 0, 1) := dk_3 (dk_at dksX3_refute_0 19 rfl rfl)
theorem dX3_refute_20 : decode cX3_refute 20 = .ok (.iastore, 1) := dk_79 (dk_at dksX3_refute_0 20 rfl rfl)
theorem dX3_refute_21 : decode cX3_refute 21 = .ok (.aload_n 0, 1) := dk_42 (dk_at dksX3_refute_0 21 rfl rfl)
theorem dX3_refute_22 : decode cX3_refute 22 = .ok (.getfield 220, 3) := dk_180 0 220 (dk_at dksX3_refute_1 0 rfl rfl)
theorem dX3_refute_25 : decode cX3_refute 25 = .ok (.ifCond .ne 94, 3) := dk_154 0 94 (dk_at dksX3_refute_1 3 rfl rfl)
theorem dX3_refute_28 : decode cX3_refute 28 = .ok (.aload_n 0, 1) := dk_42 (dk_at dksX3_refute_1 6 rfl rfl)
theorem dX3_refute_29 : decode cX3_refute 29 = .ok (.invokevirtual 223, 3) := dk_182 0 223 (dk_at dksX3_refute_1 7 rfl rfl)
theorem dX3_refute_32 : decode cX3_refute 32 = .ok (.iconst (-1), 1) := dk_2 (dk_at dksX3_refute_1 10 rfl rfl)
theorem dX3_refute_33 : decode cX3_refute 33 = .ok (.if_icmp .eq 86, 3) := dk_159 0 86 (dk_at dksX3_refute_1 11 rfl rfl)
theorem dX3_refute_36 : decode cX3_refute 36 = .ok (.aload_n 0, 1) := dk_42 (dk_at dksX3_refute_1 14 rfl rfl)
theorem dX3_refute_37 : decode cX3_refute 37 = .ok (.getfield 50, 3) := dk_180 0 50 (dk_at dksX3_refute_1 15 rfl rfl)
theorem dX3_refute_40 : decode cX3_refute 40 = .ok (.aload_n 0, 1) := dk_42 (dk_at dksX3_refute_1 18 rfl rfl)
theorem dX3_refute_41 : decode cX3_refute 41 = .ok (.getfield 217, 3) := dk_180 0 217 (dk_at dksX3_refute_1 19 rfl rfl)
theorem dX3_refute_44 : decode cX3_refute 44 = .ok (.iaload, 1) := dk_46 (dk_at dksX3_refute_1 22 rfl rfl)
theorem dX3_refute_45 : decode cX3_refute 45 = .ok (.istore_n 1, 1) := dk_60 (dk_at dksX3_refute_1 23 rfl rfl)
theorem dX3_refute_46 : decode cX3_refute 46 = .ok (.aload_n 0, 1) := dk_42 (dk_at dksX3_refute_2 0 rfl rfl)
theorem dX3_refute_47 : decode cX3_refute 47 = .ok (.invokevirtual 226, 3) := dk_182 0 226 (dk_at dksX3_refute_2 1 rfl rfl)
theorem dX3_refute_50 : decode cX3_refute 50 = .ok (.aload_n 0, 1) := dk_42 (dk_at dksX3_refute_2 4 rfl rfl)
theorem dX3_refute_51 : decode cX3_refute 51 = .ok (.getfield 220, 3) := dk_180 0 220 (dk_at dksX3_refute_2 5 rfl rfl)
theorem dX3_refute_54 : decode cX3_refute 54 = .ok (.ifCond .ne 32, 3) := dk_154 0 32 (dk_at dksX3_refute_2 8 rfl rfl)
theorem dX3_refute_57 : decode cX3_refute 57 = .ok (.aload_n 0, 1) := dk_42 (dk_at dksX3_refute_2 11 rfl rfl)
theorem dX3_refute_58 : decode cX3_refute 58 = .ok (.invokevirtual 223, 3) := dk_182 0 223 (dk_at dksX3_refute_2 12 rfl rfl)
theorem dX3_refute_61 : decode cX3_refute 61 = .ok (.bipush 59, 2) := dk_16 59 (dk_at dksX3_refute_2 15 rfl rfl)
theorem dX3_refute_63 : decode cX3_refute 63 = .ok (.if_icmp .eq 23, 3) := dk_159 0 23 (dk_at dksX3_refute_2 17 rfl rfl)
theorem dX3_refute_66 : decode cX3_refute 66 = .ok (.aload_n 0, 1) := dk_42 (dk_at dksX3_refute_2 20 rfl rfl)
theorem dX3_refute_67 : decode cX3_refute 67 = .ok (.iconst 1, 1) := dk_4 (dk_at dksX3_refute_2 21 rfl rfl)
theorem dX3_refute_68 : decode cX3_refute 68 = .ok (.iconst 0, 1) := dk_3 (dk_at dksX3_refute_2 22 rfl rfl)
theorem dX3_refute_69 : decode cX3_refute 69 = .ok (.invokevirtual 229, 3) := dk_182 0 229 (dk_at dksX3_refute_3 0 rfl rfl)
theorem dX3_refute_72 : decode cX3_refute 72 = .ok (.istore_n 2, 1) := dk_61 (dk_at dksX3_refute_3 3 rfl rfl)
theorem dX3_refute_73 : decode cX3_refute 73 = .ok (.aload_n 0, 1) := dk_42 (dk_at dksX3_refute_3 4 rfl rfl)
theorem dX3_refute_74 : decode cX3_refute 74 = .ok (.getfield 47, 3) := dk_180 0 47 (dk_at dksX3_refute_3 5 rfl rfl)
theorem dX3_refute_77 : decode cX3_refute 77 = .ok (.iload_n 1, 1) := dk_27 (dk_at dksX3_refute_3 8 rfl rfl)
theorem dX3_refute_78 : decode cX3_refute 78 = .ok (.iload_n 2, 1) := dk_28 (dk_at dksX3_refute_3 9 rfl rfl)
theorem dX3_refute_79 : decode cX3_refute 79 = .ok (.iastore, 1) := dk_79 (dk_at dksX3_refute_3 10 rfl rfl)
theorem dX3_refute_80 : decode cX3_refute 80 = .ok (.iinc 1 1, 3) := dk_132 1 1 (dk_at dksX3_refute_3 11 rfl rfl)
theorem dX3_refute_83 : decode cX3_refute 83 = .ok (.goto (-33), 3) := dk_167 255 223 (dk_at dksX3_refute_3 14 rfl rfl)
theorem dX3_refute_86 : decode cX3_refute 86 = .ok (.aload_n 0, 1) := dk_42 (dk_at dksX3_refute_3 17 rfl rfl)
theorem dX3_refute_87 : decode cX3_refute 87 = .ok (.dup, 1) := dk_89 (dk_at dksX3_refute_3 18 rfl rfl)
theorem dX3_refute_88 : decode cX3_refute 88 = .ok (.getfield 233, 3) := dk_180 0 233 (dk_at dksX3_refute_3 19 rfl rfl)
theorem dX3_refute_91 : decode cX3_refute 91 = .ok (.iconst 1, 1) := dk_4 (dk_at dksX3_refute_3 22 rfl rfl)
theorem dX3_refute_92 : decode cX3_refute 92 = .ok (.iadd, 1) := dk_96 (dk_at dksX3_refute_3 23 rfl rfl)
theorem dX3_refute_93 : decode cX3_refute 93 = .ok (.putfield 233, 3) := dk_181 0 233 (dk_at dksX3_refute_4 0 rfl rfl)
theorem dX3_refute_96 : decode cX3_refute 96 = .ok (.aload_n 0, 1) := dk_42 (dk_at dksX3_refute_4 3 rfl rfl)
theorem dX3_refute_97 : decode cX3_refute 97 = .ok (.dup, 1) := dk_89 (dk_at dksX3_refute_4 4 rfl rfl)
theorem dX3_refute_98 : decode cX3_refute 98 = .ok (.getfield 217, 3) := dk_180 0 217 (dk_at dksX3_refute_4 5 rfl rfl)
theorem dX3_refute_101 : decode cX3_refute 101 = .ok (.iconst 1, 1) := dk_4 (dk_at dksX3_refute_4 8 rfl rfl)
theorem dX3_refute_102 : decode cX3_refute 102 = .ok (.iadd, 1) := dk_96 (dk_at dksX3_refute_4 9 rfl rfl)
theorem dX3_refute_103 : decode cX3_refute 103 = .ok (.putfield 217, 3) := dk_181 0 217 (dk_at dksX3_refute_4 10 rfl rfl)
theorem dX3_refute_106 : decode cX3_refute 106 = .ok (.aload_n 0, 1) := dk_42 (dk_at dksX3_refute_4 13 rfl rfl)
theorem dX3_refute_107 : decode cX3_refute 107 = .ok (.getfield 50, 3) := dk_180 0 50 (dk_at dksX3_refute_4 14 rfl rfl)
theorem dX3_refute_110 : decode cX3_refute 110 = .ok (.aload_n 0, 1) := dk_42 (dk_at dksX3_refute_4 17 rfl rfl)
theorem dX3_refute_111 : decode cX3_refute 111 = .ok (.getfield 217, 3) := dk_180 0 217 (dk_at dksX3_refute_4 18 rfl rfl)
theorem dX3_refute_114 : decode cX3_refute 114 = .ok (.iload_n 1, 1) := dk_27 (dk_at dksX3_refute_4 21 rfl rfl)
theorem dX3_refute_115 : decode cX3_refute 115 = .ok (.iastore, 1) := dk_79 (dk_at dksX3_refute_4 22 rfl rfl)
theorem dX3_refute_116 : decode cX3_refute 116 = .ok (.goto (-95), 3) := dk_167 255 161 (dk_at dksX3_refute_5 0 rfl rfl)
theorem dX3_refute_119 : decode cX3_refute 119 = .ok (.aload_n 0, 1) := dk_42 (dk_at dksX3_refute_5 3 rfl rfl)
theorem dX3_refute_120 : decode cX3_refute 120 = .ok (.getfield 220, 3) := dk_180 0 220 (dk_at dksX3_refute_5 4 rfl rfl)
theorem dX3_refute_123 : decode cX3_refute 123 = .ok (.ifCond .eq 5, 3) := dk_153 0 5 (dk_at dksX3_refute_5 7 rfl rfl)
theorem dX3_refute_126 : decode cX3_refute 126 = .ok (.iconst (-1), 1) := dk_2 (dk_at dksX3_refute_5 10 rfl rfl)
theorem dX3_refute_127 : decode cX3_refute 127 = .ok (.ireturn, 1) := dk_172 (dk_at dksX3_refute_5 11 rfl rfl)
theorem dX3_refute_128 : decode cX3_refute 128 = .ok (.aload_n 0, 1) := dk_42 (dk_at dksX3_refute_5 12 rfl rfl)
theorem dX3_refute_129 : decode cX3_refute 129 = .ok (.getfield 7, 3) := dk_180 0 7 (dk_at dksX3_refute_5 13 rfl rfl)
theorem dX3_refute_132 : decode cX3_refute 132 = .ok (.bipush 15, 2) := dk_16 15 (dk_at dksX3_refute_5 16 rfl rfl)
theorem dX3_refute_134 : decode cX3_refute 134 = .ok (.iconst 0, 1) := dk_3 (dk_at dksX3_refute_5 18 rfl rfl)
theorem dX3_refute_135 : decode cX3_refute 135 = .ok (.iastore, 1) := dk_79 (dk_at dksX3_refute_5 19 rfl rfl)
theorem dX3_refute_136 : decode cX3_refute 136 = .ok (.iconst 0, 1) := dk_3 (dk_at dksX3_refute_5 20 rfl rfl)
theorem dX3_refute_137 : decode cX3_refute 137 = .ok (.istore_n 1, 1) := dk_60 (dk_at dksX3_refute_5 21 rfl rfl)
theorem dX3_refute_138 : decode cX3_refute 138 = .ok (.iload_n 1, 1) := dk_27 (dk_at dksX3_refute_5 22 rfl rfl)
theorem dX3_refute_139 : decode cX3_refute 139 = .ok (.aload_n 0, 1) := dk_42 (dk_at dksX3_refute_5 23 rfl rfl)
theorem dX3_refute_140 : decode cX3_refute 140 = .ok (.getfield 217, 3) := dk_180 0 217 (dk_at dksX3_refute_6 0 rfl rfl)
theorem dX3_refute_143 : decode cX3_refute 143 = .ok (.if_icmp .ge 96, 3) := dk_162 0 96 (dk_at dksX3_refute_6 3 rfl rfl)
theorem dX3_refute_146 : decode cX3_refute 146 = .ok (.aload_n 0, 1) := dk_42 (dk_at dksX3_refute_6 6 rfl rfl)
theorem dX3_refute_147 : decode cX3_refute 147 = .ok (.invokevirtual 183, 3) := dk_182 0 183 (dk_at dksX3_refute_6 7 rfl rfl)
theorem dX3_refute_150 : decode cX3_refute 150 = .ok (.aload_n 0, 1) := dk_42 (dk_at dksX3_refute_6 10 rfl rfl)
theorem dX3_refute_151 : decode cX3_refute 151 = .ok (.getfield 50, 3) := dk_180 0 50 (dk_at dksX3_refute_6 11 rfl rfl)
theorem dX3_refute_154 : decode cX3_refute 154 = .ok (.iload_n 1, 1) := dk_27 (dk_at dksX3_refute_6 14 rfl rfl)
theorem dX3_refute_155 : decode cX3_refute 155 = .ok (.iaload, 1) := dk_46 (dk_at dksX3_refute_6 15 rfl rfl)
theorem dX3_refute_156 : decode cX3_refute 156 = .ok (.istore_n 2, 1) := dk_61 (dk_at dksX3_refute_6 16 rfl rfl)
theorem dX3_refute_157 : decode cX3_refute 157 = .ok (.iload_n 2, 1) := dk_28 (dk_at dksX3_refute_6 17 rfl rfl)
theorem dX3_refute_158 : decode cX3_refute 158 = .ok (.aload_n 0, 1) := dk_42 (dk_at dksX3_refute_6 18 rfl rfl)
theorem dX3_refute_159 : decode cX3_refute 159 = .ok (.getfield 50, 3) := dk_180 0 50 (dk_at dksX3_refute_6 19 rfl rfl)
theorem dX3_refute_162 : decode cX3_refute 162 = .ok (.iload_n 1, 1) := dk_27 (dk_at dksX3_refute_6 22 rfl rfl)
theorem dX3_refute_163 : decode cX3_refute 163 = .ok (.iconst 1, 1) := dk_4 (dk_at dksX3_refute_6 23 rfl rfl)
theorem dX3_refute_164 : decode cX3_refute 164 = .ok (.iadd, 1) := dk_96 (dk_at dksX3_refute_7 0 rfl rfl)
theorem dX3_refute_165 : decode cX3_refute 165 = .ok (.iaload, 1) := dk_46 (dk_at dksX3_refute_7 1 rfl rfl)
theorem dX3_refute_166 : decode cX3_refute 166 = .ok (.if_icmp .ge 21, 3) := dk_162 0 21 (dk_at dksX3_refute_7 2 rfl rfl)
theorem dX3_refute_169 : decode cX3_refute 169 = .ok (.aload_n 0, 1) := dk_42 (dk_at dksX3_refute_7 5 rfl rfl)
theorem dX3_refute_170 : decode cX3_refute 170 = .ok (.aload_n 0, 1) := dk_42 (dk_at dksX3_refute_7 6 rfl rfl)
theorem dX3_refute_171 : decode cX3_refute 171 = .ok (.getfield 47, 3) := dk_180 0 47 (dk_at dksX3_refute_7 7 rfl rfl)
theorem dX3_refute_174 : decode cX3_refute 174 = .ok (.iload_n 2, 1) := dk_28 (dk_at dksX3_refute_7 10 rfl rfl)
theorem dX3_refute_175 : decode cX3_refute 175 = .ok (.iaload, 1) := dk_46 (dk_at dksX3_refute_7 11 rfl rfl)
theorem dX3_refute_176 : decode cX3_refute 176 = .ok (.ineg, 1) := dk_116 (dk_at dksX3_refute_7 12 rfl rfl)
theorem dX3_refute_177 : decode cX3_refute 177 = .ok (.iconst (-1), 1) := dk_2 (dk_at dksX3_refute_7 13 rfl rfl)
theorem dX3_refute_178 : decode cX3_refute 178 = .ok (.invokevirtual 135, 3) := dk_182 0 135 (dk_at dksX3_refute_7 14 rfl rfl)
theorem dX3_refute_181 : decode cX3_refute 181 = .ok (.iinc 2 1, 3) := dk_132 2 1 (dk_at dksX3_refute_7 17 rfl rfl)
theorem dX3_refute_184 : decode cX3_refute 184 = .ok (.goto (-27), 3) := dk_167 255 229 (dk_at dksX3_refute_7 20 rfl rfl)
theorem dX3_refute_187 : decode cX3_refute 187 = .ok (.aload_n 0, 1) := dk_42 (dk_at dksX3_refute_7 23 rfl rfl)
theorem dX3_refute_188 : decode cX3_refute 188 = .ok (.iconst 0, 1) := dk_3 (dk_at dksX3_refute_8 0 rfl rfl)
theorem dX3_refute_189 : decode cX3_refute 189 = .ok (.iload_n 1, 1) := dk_27 (dk_at dksX3_refute_8 1 rfl rfl)
theorem dX3_refute_190 : decode cX3_refute 190 = .ok (.invokevirtual 210, 3) := dk_182 0 210 (dk_at dksX3_refute_8 2 rfl rfl)
theorem dX3_refute_193 : decode cX3_refute 193 = .ok (.ifCond .ne 5, 3) := dk_154 0 5 (dk_at dksX3_refute_8 5 rfl rfl)
theorem dX3_refute_196 : decode cX3_refute 196 = .ok (.iload_n 1, 1) := dk_27 (dk_at dksX3_refute_8 8 rfl rfl)
theorem dX3_refute_197 : decode cX3_refute 197 = .ok (.ireturn, 1) := dk_172 (dk_at dksX3_refute_8 9 rfl rfl)
theorem dX3_refute_198 : decode cX3_refute 198 = .ok (.aload_n 0, 1) := dk_42 (dk_at dksX3_refute_8 10 rfl rfl)
theorem dX3_refute_199 : decode cX3_refute 199 = .ok (.getfield 7, 3) := dk_180 0 7 (dk_at dksX3_refute_8 11 rfl rfl)
theorem dX3_refute_202 : decode cX3_refute 202 = .ok (.bipush 15, 2) := dk_16 15 (dk_at dksX3_refute_8 14 rfl rfl)
theorem dX3_refute_204 : decode cX3_refute 204 = .ok (.aload_n 0, 1) := dk_42 (dk_at dksX3_refute_8 16 rfl rfl)
theorem dX3_refute_205 : decode cX3_refute 205 = .ok (.getfield 50, 3) := dk_180 0 50 (dk_at dksX3_refute_8 17 rfl rfl)
theorem dX3_refute_208 : decode cX3_refute 208 = .ok (.iload_n 1, 1) := dk_27 (dk_at dksX3_refute_8 20 rfl rfl)
theorem dX3_refute_209 : decode cX3_refute 209 = .ok (.iconst 1, 1) := dk_4 (dk_at dksX3_refute_8 21 rfl rfl)
theorem dX3_refute_210 : decode cX3_refute 210 = .ok (.iadd, 1) := dk_96 (dk_at dksX3_refute_8 22 rfl rfl)
theorem dX3_refute_211 : decode cX3_refute 211 = .ok (.iaload, 1) := dk_46 (dk_at dksX3_refute_8 23 rfl rfl)
theorem dX3_refute_212 : decode cX3_refute 212 = .ok (.aload_n 0, 1) := dk_42 (dk_at dksX3_refute_9 0 rfl rfl)
theorem dX3_refute_213 : decode cX3_refute 213 = .ok (.getfield 50, 3) := dk_180 0 50 (dk_at dksX3_refute_9 1 rfl rfl)
theorem dX3_refute_216 : decode cX3_refute 216 = .ok (.iload_n 1, 1) := dk_27 (dk_at dksX3_refute_9 4 rfl rfl)
theorem dX3_refute_217 : decode cX3_refute 217 = .ok (.iaload, 1) := dk_46 (dk_at dksX3_refute_9 5 rfl rfl)
theorem dX3_refute_218 : decode cX3_refute 218 = .ok (.if_icmp .ne 7, 3) := dk_160 0 7 (dk_at dksX3_refute_9 6 rfl rfl)
theorem dX3_refute_221 : decode cX3_refute 221 = .ok (.iconst 1, 1) := dk_4 (dk_at dksX3_refute_9 9 rfl rfl)
theorem dX3_refute_222 : decode cX3_refute 222 = .ok (.goto 10, 3) := dk_167 0 10 (dk_at dksX3_refute_9 10 rfl rfl)
theorem dX3_refute_225 : decode cX3_refute 225 = .ok (.aload_n 0, 1) := dk_42 (dk_at dksX3_refute_9 13 rfl rfl)
theorem dX3_refute_226 : decode cX3_refute 226 = .ok (.getfield 7, 3) := dk_180 0 7 (dk_at dksX3_refute_9 14 rfl rfl)
theorem dX3_refute_229 : decode cX3_refute 229 = .ok (.bipush 15, 2) := dk_16 15 (dk_at dksX3_refute_9 17 rfl rfl)
theorem dX3_refute_231 : decode cX3_refute 231 = .ok (.iaload, 1) := dk_46 (dk_at dksX3_refute_9 19 rfl rfl)
theorem dX3_refute_232 : decode cX3_refute 232 = .ok (.iastore, 1) := dk_79 (dk_at dksX3_refute_9 20 rfl rfl)
theorem dX3_refute_233 : decode cX3_refute 233 = .ok (.iinc 1 1, 3) := dk_132 1 1 (dk_at dksX3_refute_9 21 rfl rfl)
theorem dX3_refute_236 : decode cX3_refute 236 = .ok (.goto (-98), 3) := dk_167 255 158 (dk_at dksX3_refute_10 0 rfl rfl)
theorem dX3_refute_239 : decode cX3_refute 239 = .ok (.aload_n 0, 1) := dk_42 (dk_at dksX3_refute_10 3 rfl rfl)
theorem dX3_refute_240 : decode cX3_refute 240 = .ok (.getfield 217, 3) := dk_180 0 217 (dk_at dksX3_refute_10 4 rfl rfl)
theorem dX3_refute_243 : decode cX3_refute 243 = .ok (.ireturn, 1) := dk_172 (dk_at dksX3_refute_10 7 rfl rfl)
abbrev cX3_startsText : ByteArray := prog_13_method_71_code
def yX3_startsText : MethodName := ⟨RX3, "startsText", "()V"⟩
def dkwX3_startsText_0 : List UInt8 := [42, 42, 180, 0, 192, 181, 0, 242, 42, 3, 181, 0, 192, 42, 3, 181, 0, 233, 42, 3, 181, 0, 220, 177]
abbrev dktX3_startsText_0 : List UInt8 := dkwX3_startsText_0 ++ []
theorem dksX3_startsText_0 : cX3_startsText.data.toList.drop 0 = dktX3_startsText_0 := by decide +kernel
theorem dX3_startsText_0 : decode cX3_startsText 0 = .ok (.aload_n 0, 1) := dk_42 (dk_at dksX3_startsText_0 0 rfl rfl)
theorem dX3_startsText_1 : decode cX3_startsText 1 = .ok (.aload_n 0, 1) := dk_42 (dk_at dksX3_startsText_0 1 rfl rfl)
theorem dX3_startsText_2 : decode cX3_startsText 2 = .ok (.getfield 192, 3) := dk_180 0 192 (dk_at dksX3_startsText_0 2 rfl rfl)
theorem dX3_startsText_5 : decode cX3_startsText 5 = .ok (.putfield 242, 3) := dk_181 0 242 (dk_at dksX3_startsText_0 5 rfl rfl)
theorem dX3_startsText_8 : decode cX3_startsText 8 = .ok (.aload_n 0, 1) := dk_42 (dk_at dksX3_startsText_0 8 rfl rfl)
theorem dX3_startsText_9 : decode cX3_startsText 9 = .ok (.iconst 0, 1) := dk_3 (dk_at dksX3_startsText_0 9 rfl rfl)
theorem dX3_startsText_10 : decode cX3_startsText 10 = .ok (.putfield 192, 3) := dk_181 0 192 (dk_at dksX3_startsText_0 10 rfl rfl)
theorem dX3_startsText_13 : decode cX3_startsText 13 = .ok (.aload_n 0, 1) := dk_42 (dk_at dksX3_startsText_0 13 rfl rfl)
theorem dX3_startsText_14 : decode cX3_startsText 14 = .ok (.iconst 0, 1) := dk_3 (dk_at dksX3_startsText_0 14 rfl rfl)
theorem dX3_startsText_15 : decode cX3_startsText 15 = .ok (.putfield 233, 3) := dk_181 0 233 (dk_at dksX3_startsText_0 15 rfl rfl)
theorem dX3_startsText_18 : decode cX3_startsText 18 = .ok (.aload_n 0, 1) := dk_42 (dk_at dksX3_startsText_0 18 rfl rfl)
theorem dX3_startsText_19 : decode cX3_startsText 19 = .ok (.iconst 0, 1) := dk_3 (dk_at dksX3_startsText_0 19 rfl rfl)
theorem dX3_startsText_20 : decode cX3_startsText 20 = .ok (.putfield 220, 3) := dk_181 0 220 (dk_at dksX3_startsText_0 20 rfl rfl)
theorem dX3_startsText_23 : decode cX3_startsText 23 = .ok (.return_, 1) := dk_177 (dk_at dksX3_startsText_0 23 rfl rfl)
abbrev cX3_here : ByteArray := prog_13_method_72_code
def yX3_here : MethodName := ⟨RX3, "here", "()I"⟩
def dkwX3_here_3 : List UInt8 := [180, 0, 233, 51, 17, 0, 255, 126, 167, 0, 4, 2, 172]
abbrev dktX3_here_3 : List UInt8 := dkwX3_here_3 ++ []
def dkwX3_here_2 : List UInt8 := [181, 0, 233, 167, 255, 207, 42, 180, 0, 233, 42, 180, 0, 242, 162, 0, 19, 42, 180, 0, 53, 42]
abbrev dktX3_here_2 : List UInt8 := dkwX3_here_2 ++ dktX3_here_3
def dkwX3_here_1 : List UInt8 := [159, 0, 17, 42, 180, 0, 53, 42, 180, 0, 233, 51, 16, 10, 160, 0, 16, 42, 89, 180, 0, 233, 4, 96]
abbrev dktX3_here_1 : List UInt8 := dkwX3_here_1 ++ dktX3_here_2
def dkwX3_here_0 : List UInt8 := [42, 180, 0, 233, 42, 180, 0, 242, 162, 0, 44, 42, 180, 0, 53, 42, 180, 0, 233, 51, 16, 32]
abbrev dktX3_here_0 : List UInt8 := dkwX3_here_0 ++ dktX3_here_1
theorem dksX3_here_0 : cX3_here.data.toList.drop 0 = dktX3_here_0 := by decide +kernel
theorem dksX3_here_1 : cX3_here.data.toList.drop 22 = dktX3_here_1 := dk_seg dksX3_here_0 22 rfl rfl
theorem dksX3_here_2 : cX3_here.data.toList.drop 46 = dktX3_here_2 := dk_seg dksX3_here_1 24 rfl rfl
theorem dksX3_here_3 : cX3_here.data.toList.drop 68 = dktX3_here_3 := dk_seg dksX3_here_2 22 rfl rfl
theorem dX3_here_0 : decode cX3_here 0 = .ok (.aload_n 0, 1) := dk_42 (dk_at dksX3_here_0 0 rfl rfl)
theorem dX3_here_1 : decode cX3_here 1 = .ok (.getfield 233, 3) := dk_180 0 233 (dk_at dksX3_here_0 1 rfl rfl)
theorem dX3_here_4 : decode cX3_here 4 = .ok (.aload_n 0, 1) := dk_42 (dk_at dksX3_here_0 4 rfl rfl)
theorem dX3_here_5 : decode cX3_here 5 = .ok (.getfield 242, 3) := dk_180 0 242 (dk_at dksX3_here_0 5 rfl rfl)
theorem dX3_here_8 : decode cX3_here 8 = .ok (.if_icmp .ge 44, 3) := dk_162 0 44 (dk_at dksX3_here_0 8 rfl rfl)
theorem dX3_here_11 : decode cX3_here 11 = .ok (.aload_n 0, 1) := dk_42 (dk_at dksX3_here_0 11 rfl rfl)
theorem dX3_here_12 : decode cX3_here 12 = .ok (.getfield 53, 3) := dk_180 0 53 (dk_at dksX3_here_0 12 rfl rfl)
theorem dX3_here_15 : decode cX3_here 15 = .ok (.aload_n 0, 1) := dk_42 (dk_at dksX3_here_0 15 rfl rfl)
theorem dX3_here_16 : decode cX3_here 16 = .ok (.getfield 233, 3) := dk_180 0 233 (dk_at dksX3_here_0 16 rfl rfl)
theorem dX3_here_19 : decode cX3_here 19 = .ok (.baload, 1) := dk_51 (dk_at dksX3_here_0 19 rfl rfl)
theorem dX3_here_20 : decode cX3_here 20 = .ok (.bipush 32, 2) := dk_16 32 (dk_at dksX3_here_0 20 rfl rfl)
theorem dX3_here_22 : decode cX3_here 22 = .ok (.if_icmp .eq 17, 3) := dk_159 0 17 (dk_at dksX3_here_1 0 rfl rfl)
theorem dX3_here_25 : decode cX3_here 25 = .ok (.aload_n 0, 1) := dk_42 (dk_at dksX3_here_1 3 rfl rfl)
theorem dX3_here_26 : decode cX3_here 26 = .ok (.getfield 53, 3) := dk_180 0 53 (dk_at dksX3_here_1 4 rfl rfl)
theorem dX3_here_29 : decode cX3_here 29 = .ok (.aload_n 0, 1) := dk_42 (dk_at dksX3_here_1 7 rfl rfl)
theorem dX3_here_30 : decode cX3_here 30 = .ok (.getfield 233, 3) := dk_180 0 233 (dk_at dksX3_here_1 8 rfl rfl)
theorem dX3_here_33 : decode cX3_here 33 = .ok (.baload, 1) := dk_51 (dk_at dksX3_here_1 11 rfl rfl)
theorem dX3_here_34 : decode cX3_here 34 = .ok (.bipush 10, 2) := dk_16 10 (dk_at dksX3_here_1 12 rfl rfl)
theorem dX3_here_36 : decode cX3_here 36 = .ok (.if_icmp .ne 16, 3) := dk_160 0 16 (dk_at dksX3_here_1 14 rfl rfl)
theorem dX3_here_39 : decode cX3_here 39 = .ok (.aload_n 0, 1) := dk_42 (dk_at dksX3_here_1 17 rfl rfl)
theorem dX3_here_40 : decode cX3_here 40 = .ok (.dup, 1) := dk_89 (dk_at dksX3_here_1 18 rfl rfl)
theorem dX3_here_41 : decode cX3_here 41 = .ok (.getfield 233, 3) := dk_180 0 233 (dk_at dksX3_here_1 19 rfl rfl)
theorem dX3_here_44 : decode cX3_here 44 = .ok (.iconst 1, 1) := dk_4 (dk_at dksX3_here_1 22 rfl rfl)
theorem dX3_here_45 : decode cX3_here 45 = .ok (.iadd, 1) := dk_96 (dk_at dksX3_here_1 23 rfl rfl)
theorem dX3_here_46 : decode cX3_here 46 = .ok (.putfield 233, 3) := dk_181 0 233 (dk_at dksX3_here_2 0 rfl rfl)
theorem dX3_here_49 : decode cX3_here 49 = .ok (.goto (-49), 3) := dk_167 255 207 (dk_at dksX3_here_2 3 rfl rfl)
theorem dX3_here_52 : decode cX3_here 52 = .ok (.aload_n 0, 1) := dk_42 (dk_at dksX3_here_2 6 rfl rfl)
theorem dX3_here_53 : decode cX3_here 53 = .ok (.getfield 233, 3) := dk_180 0 233 (dk_at dksX3_here_2 7 rfl rfl)
theorem dX3_here_56 : decode cX3_here 56 = .ok (.aload_n 0, 1) := dk_42 (dk_at dksX3_here_2 10 rfl rfl)
theorem dX3_here_57 : decode cX3_here 57 = .ok (.getfield 242, 3) := dk_180 0 242 (dk_at dksX3_here_2 11 rfl rfl)
theorem dX3_here_60 : decode cX3_here 60 = .ok (.if_icmp .ge 19, 3) := dk_162 0 19 (dk_at dksX3_here_2 14 rfl rfl)
theorem dX3_here_63 : decode cX3_here 63 = .ok (.aload_n 0, 1) := dk_42 (dk_at dksX3_here_2 17 rfl rfl)
theorem dX3_here_64 : decode cX3_here 64 = .ok (.getfield 53, 3) := dk_180 0 53 (dk_at dksX3_here_2 18 rfl rfl)
theorem dX3_here_67 : decode cX3_here 67 = .ok (.aload_n 0, 1) := dk_42 (dk_at dksX3_here_2 21 rfl rfl)
theorem dX3_here_68 : decode cX3_here 68 = .ok (.getfield 233, 3) := dk_180 0 233 (dk_at dksX3_here_3 0 rfl rfl)
theorem dX3_here_71 : decode cX3_here 71 = .ok (.baload, 1) := dk_51 (dk_at dksX3_here_3 3 rfl rfl)
theorem dX3_here_72 : decode cX3_here 72 = .ok (.sipush 255, 3) := dk_17 0 255 (dk_at dksX3_here_3 4 rfl rfl)
theorem dX3_here_75 : decode cX3_here 75 = .ok (.iand, 1) := dk_126 (dk_at dksX3_here_3 7 rfl rfl)
theorem dX3_here_76 : decode cX3_here 76 = .ok (.goto 4, 3) := dk_167 0 4 (dk_at dksX3_here_3 8 rfl rfl)
theorem dX3_here_79 : decode cX3_here 79 = .ok (.iconst (-1), 1) := dk_2 (dk_at dksX3_here_3 11 rfl rfl)
theorem dX3_here_80 : decode cX3_here 80 = .ok (.ireturn, 1) := dk_172 (dk_at dksX3_here_3 12 rfl rfl)
abbrev cX3_clearsTold : ByteArray := prog_13_method_76_code
def yX3_clearsTold : MethodName := ⟨RX3, "clearsTold", "()V"⟩
def dkwX3_clearsTold_0 : List UInt8 := [3, 60, 27, 16, 30, 163, 0, 16, 42, 180, 0, 57, 27, 3, 84, 132, 1, 1, 167, 255, 240, 177]
abbrev dktX3_clearsTold_0 : List UInt8 := dkwX3_clearsTold_0 ++ []
theorem dksX3_clearsTold_0 : cX3_clearsTold.data.toList.drop 0 = dktX3_clearsTold_0 := by decide +kernel
theorem dX3_clearsTold_0 : decode cX3_clearsTold 0 = .ok (.iconst 0, 1) := dk_3 (dk_at dksX3_clearsTold_0 0 rfl rfl)
theorem dX3_clearsTold_1 : decode cX3_clearsTold 1 = .ok (.istore_n 1, 1) := dk_60 (dk_at dksX3_clearsTold_0 1 rfl rfl)
theorem dX3_clearsTold_2 : decode cX3_clearsTold 2 = .ok (.iload_n 1, 1) := dk_27 (dk_at dksX3_clearsTold_0 2 rfl rfl)
theorem dX3_clearsTold_3 : decode cX3_clearsTold 3 = .ok (.bipush 30, 2) := dk_16 30 (dk_at dksX3_clearsTold_0 3 rfl rfl)
theorem dX3_clearsTold_5 : decode cX3_clearsTold 5 = .ok (.if_icmp .gt 16, 3) := dk_163 0 16 (dk_at dksX3_clearsTold_0 5 rfl rfl)
theorem dX3_clearsTold_8 : decode cX3_clearsTold 8 = .ok (.aload_n 0, 1) := dk_42 (dk_at dksX3_clearsTold_0 8 rfl rfl)
theorem dX3_clearsTold_9 : decode cX3_clearsTold 9 = .ok (.getfield 57, 3) := dk_180 0 57 (dk_at dksX3_clearsTold_0 9 rfl rfl)
theorem dX3_clearsTold_12 : decode cX3_clearsTold 12 = .ok (.iload_n 1, 1) := dk_27 (dk_at dksX3_clearsTold_0 12 rfl rfl)
theorem dX3_clearsTold_13 : decode cX3_clearsTold 13 = .ok (.iconst 0, 1) := dk_3 (dk_at dksX3_clearsTold_0 13 rfl rfl)
theorem dX3_clearsTold_14 : decode cX3_clearsTold 14 = .ok (.bastore, 1) := dk_84 (dk_at dksX3_clearsTold_0 14 rfl rfl)
theorem dX3_clearsTold_15 : decode cX3_clearsTold 15 = .ok (.iinc 1 1, 3) := dk_132 1 1 (dk_at dksX3_clearsTold_0 15 rfl rfl)
theorem dX3_clearsTold_18 : decode cX3_clearsTold 18 = .ok (.goto (-16), 3) := dk_167 255 240 (dk_at dksX3_clearsTold_0 18 rfl rfl)
theorem dX3_clearsTold_21 : decode cX3_clearsTold 21 = .ok (.return_, 1) := dk_177 (dk_at dksX3_clearsTold_0 21 rfl rfl)
abbrev cX3_lit : ByteArray := prog_13_method_77_code
def yX3_lit : MethodName := ⟨RX3, "lit", "(ZZ)I"⟩
def dkwX3_lit_6 : List UInt8 := [153, 0, 9, 21, 5, 116, 167, 0, 5, 21, 5, 172]
abbrev dktX3_lit_6 : List UInt8 := dkwX3_lit_6 ++ []
def dkwX3_lit_5 : List UInt8 := [21, 4, 182, 0, 248, 42, 180, 0, 220, 153, 0, 5, 3, 172, 42, 180, 0, 57, 21, 5, 4, 84, 29]
abbrev dktX3_lit_5 : List UInt8 := dkwX3_lit_5 ++ dktX3_lit_6
def dkwX3_lit_4 : List UInt8 := [153, 0, 10, 42, 5, 21, 4, 182, 0, 248, 42, 180, 0, 220, 154, 0, 14, 28, 153, 0, 10, 42, 6]
abbrev dktX3_lit_4 : List UInt8 := dkwX3_lit_4 ++ dktX3_lit_5
def dkwX3_lit_3 : List UInt8 := [154, 0, 33, 42, 21, 5, 182, 0, 75, 153, 0, 17, 27, 153, 0, 20, 42, 180, 0, 57, 21, 5, 51]
abbrev dktX3_lit_3 : List UInt8 := dkwX3_lit_3 ++ dktX3_lit_4
def dkwX3_lit_2 : List UInt8 := [181, 0, 233, 42, 182, 0, 223, 87, 42, 180, 0, 233, 54, 4, 42, 182, 0, 251, 54, 5, 42, 180, 0, 220]
abbrev dktX3_lit_2 : List UInt8 := dkwX3_lit_2 ++ dktX3_lit_3
def dkwX3_lit_1 : List UInt8 := [6, 42, 180, 0, 233, 182, 0, 248, 42, 89, 180, 0, 233, 29, 153, 0, 7, 4, 167, 0, 4, 3, 96]
abbrev dktX3_lit_1 : List UInt8 := dkwX3_lit_1 ++ dktX3_lit_2
def dkwX3_lit_0 : List UInt8 := [42, 182, 0, 223, 16, 45, 160, 0, 7, 4, 167, 0, 4, 3, 62, 29, 153, 0, 16, 28, 153, 0, 12, 42]
abbrev dktX3_lit_0 : List UInt8 := dkwX3_lit_0 ++ dktX3_lit_1
theorem dksX3_lit_0 : cX3_lit.data.toList.drop 0 = dktX3_lit_0 := by decide +kernel
theorem dksX3_lit_1 : cX3_lit.data.toList.drop 24 = dktX3_lit_1 := dk_seg dksX3_lit_0 24 rfl rfl
theorem dksX3_lit_2 : cX3_lit.data.toList.drop 47 = dktX3_lit_2 := dk_seg dksX3_lit_1 23 rfl rfl
theorem dksX3_lit_3 : cX3_lit.data.toList.drop 71 = dktX3_lit_3 := dk_seg dksX3_lit_2 24 rfl rfl
theorem dksX3_lit_4 : cX3_lit.data.toList.drop 94 = dktX3_lit_4 := dk_seg dksX3_lit_3 23 rfl rfl
theorem dksX3_lit_5 : cX3_lit.data.toList.drop 117 = dktX3_lit_5 := dk_seg dksX3_lit_4 23 rfl rfl
theorem dksX3_lit_6 : cX3_lit.data.toList.drop 140 = dktX3_lit_6 := dk_seg dksX3_lit_5 23 rfl rfl
theorem dX3_lit_0 : decode cX3_lit 0 = .ok (.aload_n 0, 1) := dk_42 (dk_at dksX3_lit_0 0 rfl rfl)
theorem dX3_lit_1 : decode cX3_lit 1 = .ok (.invokevirtual 223, 3) := dk_182 0 223 (dk_at dksX3_lit_0 1 rfl rfl)
theorem dX3_lit_4 : decode cX3_lit 4 = .ok (.bipush 45, 2) := dk_16 45 (dk_at dksX3_lit_0 4 rfl rfl)
theorem dX3_lit_6 : decode cX3_lit 6 = .ok (.if_icmp .ne 7, 3) := dk_160 0 7 (dk_at dksX3_lit_0 6 rfl rfl)
theorem dX3_lit_9 : decode cX3_lit 9 = .ok (.iconst 1, 1) := dk_4 (dk_at dksX3_lit_0 9 rfl rfl)
theorem dX3_lit_10 : decode cX3_lit 10 = .ok (.goto 4, 3) := dk_167 0 4 (dk_at dksX3_lit_0 10 rfl rfl)
theorem dX3_lit_13 : decode cX3_lit 13 = .ok (.iconst 0, 1) := dk_3 (dk_at dksX3_lit_0 13 rfl rfl)
theorem dX3_lit_14 : decode cX3_lit 14 = .ok (.istore_n 3, 1) := dk_62 (dk_at dksX3_lit_0 14 rfl rfl)
theorem dX3_lit_15 : decode cX3_lit 15 = .ok (.iload_n 3, 1) := dk_29 (dk_at dksX3_lit_0 15 rfl rfl)
theorem dX3_lit_16 : decode cX3_lit 16 = .ok (.ifCond .eq 16, 3) := dk_153 0 16 (dk_at dksX3_lit_0 16 rfl rfl)
theorem dX3_lit_19 : decode cX3_lit 19 = .ok (.iload_n 2, 1) := dk_28 (dk_at dksX3_lit_0 19 rfl rfl)
theorem dX3_lit_20 : decode cX3_lit 20 = .ok (.ifCond .eq 12, 3) := dk_153 0 12 (dk_at dksX3_lit_0 20 rfl rfl)
theorem dX3_lit_23 : decode cX3_lit 23 = .ok (.aload_n 0, 1) := dk_42 (dk_at dksX3_lit_0 23 rfl rfl)
theorem dX3_lit_24 : decode cX3_lit 24 = .ok (.iconst 3, 1) := dk_6 (dk_at dksX3_lit_1 0 rfl rfl)
theorem dX3_lit_25 : decode cX3_lit 25 = .ok (.aload_n 0, 1) := dk_42 (dk_at dksX3_lit_1 1 rfl rfl)
theorem dX3_lit_26 : decode cX3_lit 26 = .ok (.getfield 233, 3) := dk_180 0 233 (dk_at dksX3_lit_1 2 rfl rfl)
theorem dX3_lit_29 : decode cX3_lit 29 = .ok (.invokevirtual 248, 3) := dk_182 0 248 (dk_at dksX3_lit_1 5 rfl rfl)
theorem dX3_lit_32 : decode cX3_lit 32 = .ok (.aload_n 0, 1) := dk_42 (dk_at dksX3_lit_1 8 rfl rfl)
theorem dX3_lit_33 : decode cX3_lit 33 = .ok (.dup, 1) := dk_89 (dk_at dksX3_lit_1 9 rfl rfl)
theorem dX3_lit_34 : decode cX3_lit 34 = .ok (.getfield 233, 3) := dk_180 0 233 (dk_at dksX3_lit_1 10 rfl rfl)
theorem dX3_lit_37 : decode cX3_lit 37 = .ok (.iload_n 3, 1) := dk_29 (dk_at dksX3_lit_1 13 rfl rfl)
theorem dX3_lit_38 : decode cX3_lit 38 = .ok (.ifCond .eq 7, 3) := dk_153 0 7 (dk_at dksX3_lit_1 14 rfl rfl)
theorem dX3_lit_41 : decode cX3_lit 41 = .ok (.iconst 1, 1) := dk_4 (dk_at dksX3_lit_1 17 rfl rfl)
theorem dX3_lit_42 : decode cX3_lit 42 = .ok (.goto 4, 3) := dk_167 0 4 (dk_at dksX3_lit_1 18 rfl rfl)
theorem dX3_lit_45 : decode cX3_lit 45 = .ok (.iconst 0, 1) := dk_3 (dk_at dksX3_lit_1 21 rfl rfl)
theorem dX3_lit_46 : decode cX3_lit 46 = .ok (.iadd, 1) := dk_96 (dk_at dksX3_lit_1 22 rfl rfl)
theorem dX3_lit_47 : decode cX3_lit 47 = .ok (.putfield 233, 3) := dk_181 0 233 (dk_at dksX3_lit_2 0 rfl rfl)
theorem dX3_lit_50 : decode cX3_lit 50 = .ok (.aload_n 0, 1) := dk_42 (dk_at dksX3_lit_2 3 rfl rfl)
theorem dX3_lit_51 : decode cX3_lit 51 = .ok (.invokevirtual 223, 3) := dk_182 0 223 (dk_at dksX3_lit_2 4 rfl rfl)
theorem dX3_lit_54 : decode cX3_lit 54 = .ok (.pop, 1) := dk_87 (dk_at dksX3_lit_2 7 rfl rfl)
theorem dX3_lit_55 : decode cX3_lit 55 = .ok (.aload_n 0, 1) := dk_42 (dk_at dksX3_lit_2 8 rfl rfl)
theorem dX3_lit_56 : decode cX3_lit 56 = .ok (.getfield 233, 3) := dk_180 0 233 (dk_at dksX3_lit_2 9 rfl rfl)
theorem dX3_lit_59 : decode cX3_lit 59 = .ok (.istore 4, 2) := dk_54 4 (dk_at dksX3_lit_2 12 rfl rfl)
theorem dX3_lit_61 : decode cX3_lit 61 = .ok (.aload_n 0, 1) := dk_42 (dk_at dksX3_lit_2 14 rfl rfl)
theorem dX3_lit_62 : decode cX3_lit 62 = .ok (.invokevirtual 251, 3) := dk_182 0 251 (dk_at dksX3_lit_2 15 rfl rfl)
theorem dX3_lit_65 : decode cX3_lit 65 = .ok (.istore 5, 2) := dk_54 5 (dk_at dksX3_lit_2 18 rfl rfl)
theorem dX3_lit_67 : decode cX3_lit 67 = .ok (.aload_n 0, 1) := dk_42 (dk_at dksX3_lit_2 20 rfl rfl)
theorem dX3_lit_68 : decode cX3_lit 68 = .ok (.getfield 220, 3) := dk_180 0 220 (dk_at dksX3_lit_2 21 rfl rfl)
theorem dX3_lit_71 : decode cX3_lit 71 = .ok (.ifCond .ne 33, 3) := dk_154 0 33 (dk_at dksX3_lit_3 0 rfl rfl)
theorem dX3_lit_74 : decode cX3_lit 74 = .ok (.aload_n 0, 1) := dk_42 (dk_at dksX3_lit_3 3 rfl rfl)
theorem dX3_lit_75 : decode cX3_lit 75 = .ok (.iload 5, 2) := dk_21 5 (dk_at dksX3_lit_3 4 rfl rfl)
theorem dX3_lit_77 : decode cX3_lit 77 = .ok (.invokevirtual 75, 3) := dk_182 0 75 (dk_at dksX3_lit_3 6 rfl rfl)
theorem dX3_lit_80 : decode cX3_lit 80 = .ok (.ifCond .eq 17, 3) := dk_153 0 17 (dk_at dksX3_lit_3 9 rfl rfl)
theorem dX3_lit_83 : decode cX3_lit 83 = .ok (.iload_n 1, 1) := dk_27 (dk_at dksX3_lit_3 12 rfl rfl)
theorem dX3_lit_84 : decode cX3_lit 84 = .ok (.ifCond .eq 20, 3) := dk_153 0 20 (dk_at dksX3_lit_3 13 rfl rfl)
theorem dX3_lit_87 : decode cX3_lit 87 = .ok (.aload_n 0, 1) := dk_42 (dk_at dksX3_lit_3 16 rfl rfl)
theorem dX3_lit_88 : decode cX3_lit 88 = .ok (.getfield 57, 3) := dk_180 0 57 (dk_at dksX3_lit_3 17 rfl rfl)
theorem dX3_lit_91 : decode cX3_lit 91 = .ok (.iload 5, 2) := dk_21 5 (dk_at dksX3_lit_3 20 rfl rfl)
theorem dX3_lit_93 : decode cX3_lit 93 = .ok (.baload, 1) := dk_51 (dk_at dksX3_lit_3 22 rfl rfl)
theorem dX3_lit_94 : decode cX3_lit 94 = .ok (.ifCond .eq 10, 3) := dk_153 0 10 (dk_at dksX3_lit_4 0 rfl rfl)
theorem dX3_lit_97 : decode cX3_lit 97 = .ok (.aload_n 0, 1) := dk_42 (dk_at dksX3_lit_4 3 rfl rfl)
theorem dX3_lit_98 : decode cX3_lit 98 = .ok (.iconst 2, 1) := dk_5 (dk_at dksX3_lit_4 4 rfl rfl)
theorem dX3_lit_99 : decode cX3_lit 99 = .ok (.iload 4, 2) := dk_21 4 (dk_at dksX3_lit_4 5 rfl rfl)
theorem dX3_lit_101 : decode cX3_lit 101 = .ok (.invokevirtual 248, 3) := dk_182 0 248 (dk_at dksX3_lit_4 7 rfl rfl)
theorem dX3_lit_104 : decode cX3_lit 104 = .ok (.aload_n 0, 1) := dk_42 (dk_at dksX3_lit_4 10 rfl rfl)
theorem dX3_lit_105 : decode cX3_lit 105 = .ok (.getfield 220, 3) := dk_180 0 220 (dk_at dksX3_lit_4 11 rfl rfl)
theorem dX3_lit_108 : decode cX3_lit 108 = .ok (.ifCond .ne 14, 3) := dk_154 0 14 (dk_at dksX3_lit_4 14 rfl rfl)
theorem dX3_lit_111 : decode cX3_lit 111 = .ok (.iload_n 2, 1) := dk_28 (dk_at dksX3_lit_4 17 rfl rfl)
theorem dX3_lit_112 : decode cX3_lit 112 = .ok (.ifCond .eq 10, 3) := dk_153 0 10 (dk_at dksX3_lit_4 18 rfl rfl)
theorem dX3_lit_115 : decode cX3_lit 115 = .ok (.aload_n 0, 1) := dk_42 (dk_at dksX3_lit_4 21 rfl rfl)
theorem dX3_lit_116 : decode cX3_lit 116 = .ok (.iconst 3, 1) := dk_6 (dk_at dksX3_lit_4 22 rfl rfl)
theorem dX3_lit_117 : decode cX3_lit 117 = .ok (.iload 4, 2) := dk_21 4 (dk_at dksX3_lit_5 0 rfl rfl)
theorem dX3_lit_119 : decode cX3_lit 119 = .ok (.invokevirtual 248, 3) := dk_182 0 248 (dk_at dksX3_lit_5 2 rfl rfl)
theorem dX3_lit_122 : decode cX3_lit 122 = .ok (.aload_n 0, 1) := dk_42 (dk_at dksX3_lit_5 5 rfl rfl)
theorem dX3_lit_123 : decode cX3_lit 123 = .ok (.getfield 220, 3) := dk_180 0 220 (dk_at dksX3_lit_5 6 rfl rfl)
theorem dX3_lit_126 : decode cX3_lit 126 = .ok (.ifCond .eq 5, 3) := dk_153 0 5 (dk_at dksX3_lit_5 9 rfl rfl)
theorem dX3_lit_129 : decode cX3_lit 129 = .ok (.iconst 0, 1) := dk_3 (dk_at dksX3_lit_5 12 rfl rfl)
theorem dX3_lit_130 : decode cX3_lit 130 = .ok (.ireturn, 1) := dk_172 (dk_at dksX3_lit_5 13 rfl rfl)
theorem dX3_lit_131 : decode cX3_lit 131 = .ok (.aload_n 0, 1) := dk_42 (dk_at dksX3_lit_5 14 rfl rfl)
theorem dX3_lit_132 : decode cX3_lit 132 = .ok (.getfield 57, 3) := dk_180 0 57 (dk_at dksX3_lit_5 15 rfl rfl)
theorem dX3_lit_135 : decode cX3_lit 135 = .ok (.iload 5, 2) := dk_21 5 (dk_at dksX3_lit_5 18 rfl rfl)
theorem dX3_lit_137 : decode cX3_lit 137 = .ok (.iconst 1, 1) := dk_4 (dk_at dksX3_lit_5 20 rfl rfl)
theorem dX3_lit_138 : decode cX3_lit 138 = .ok (.bastore, 1) := dk_84 (dk_at dksX3_lit_5 21 rfl rfl)
theorem dX3_lit_139 : decode cX3_lit 139 = .ok (.iload_n 3, 1) := dk_29 (dk_at dksX3_lit_5 22 rfl rfl)
theorem dX3_lit_140 : decode cX3_lit 140 = .ok (.ifCond .eq 9, 3) := dk_153 0 9 (dk_at dksX3_lit_6 0 rfl rfl)
theorem dX3_lit_143 : decode cX3_lit 143 = .ok (.iload 5, 2) := dk_21 5 (dk_at dksX3_lit_6 3 rfl rfl)
theorem dX3_lit_145 : decode cX3_lit 145 = .ok (.ineg, 1) := dk_116 (dk_at dksX3_lit_6 5 rfl rfl)
theorem dX3_lit_146 : decode cX3_lit 146 = .ok (.goto 5, 3) := dk_167 0 5 (dk_at dksX3_lit_6 6 rfl rfl)
theorem dX3_lit_149 : decode cX3_lit 149 = .ok (.iload 5, 2) := dk_21 5 (dk_at dksX3_lit_6 9 rfl rfl)
theorem dX3_lit_151 : decode cX3_lit 151 = .ok (.ireturn, 1) := dk_172 (dk_at dksX3_lit_6 11 rfl rfl)
abbrev cX3_fails : ByteArray := prog_13_method_73_code
def yX3_fails : MethodName := ⟨RX3, "fails", "(II)V"⟩
def dkwX3_fails_0 : List UInt8 := [42, 180, 0, 220, 154, 0, 13, 42, 27, 16, 8, 28, 104, 96, 181, 0, 220, 177]
abbrev dktX3_fails_0 : List UInt8 := dkwX3_fails_0 ++ []
theorem dksX3_fails_0 : cX3_fails.data.toList.drop 0 = dktX3_fails_0 := by decide +kernel
theorem dX3_fails_0 : decode cX3_fails 0 = .ok (.aload_n 0, 1) := dk_42 (dk_at dksX3_fails_0 0 rfl rfl)
theorem dX3_fails_1 : decode cX3_fails 1 = .ok (.getfield 220, 3) := dk_180 0 220 (dk_at dksX3_fails_0 1 rfl rfl)
theorem dX3_fails_4 : decode cX3_fails 4 = .ok (.ifCond .ne 13, 3) := dk_154 0 13 (dk_at dksX3_fails_0 4 rfl rfl)
theorem dX3_fails_7 : decode cX3_fails 7 = .ok (.aload_n 0, 1) := dk_42 (dk_at dksX3_fails_0 7 rfl rfl)
theorem dX3_fails_8 : decode cX3_fails 8 = .ok (.iload_n 1, 1) := dk_27 (dk_at dksX3_fails_0 8 rfl rfl)
theorem dX3_fails_9 : decode cX3_fails 9 = .ok (.bipush 8, 2) := dk_16 8 (dk_at dksX3_fails_0 9 rfl rfl)
theorem dX3_fails_11 : decode cX3_fails 11 = .ok (.iload_n 2, 1) := dk_28 (dk_at dksX3_fails_0 11 rfl rfl)
theorem dX3_fails_12 : decode cX3_fails 12 = .ok (.imul, 1) := dk_104 (dk_at dksX3_fails_0 12 rfl rfl)
theorem dX3_fails_13 : decode cX3_fails 13 = .ok (.iadd, 1) := dk_96 (dk_at dksX3_fails_0 13 rfl rfl)
theorem dX3_fails_14 : decode cX3_fails 14 = .ok (.putfield 220, 3) := dk_181 0 220 (dk_at dksX3_fails_0 14 rfl rfl)
theorem dX3_fails_17 : decode cX3_fails 17 = .ok (.return_, 1) := dk_177 (dk_at dksX3_fails_0 17 rfl rfl)
abbrev cX3_number : ByteArray := prog_13_method_75_code
def yX3_number : MethodName := ⟨RX3, "number", "()I"⟩
def dkwX3_number_4 : List UInt8 := [180, 0, 233, 28, 100, 4, 5, 184, 0, 67, 154, 0, 9, 42, 4, 28, 182, 0, 248, 29, 172]
abbrev dktX3_number_4 : List UInt8 := dkwX3_number_4 ++ []
def dkwX3_number_3 : List UInt8 := [16, 48, 100, 167, 0, 4, 29, 62, 42, 89, 180, 0, 233, 4, 96, 181, 0, 233, 167, 255, 180, 42]
abbrev dktX3_number_3 : List UInt8 := dkwX3_number_3 ++ dktX3_number_4
def dkwX3_number_2 : List UInt8 := [180, 0, 233, 28, 100, 5, 162, 0, 23, 16, 10, 29, 104, 42, 180, 0, 53, 42, 180, 0, 233, 51, 96]
abbrev dktX3_number_2 : List UInt8 := dkwX3_number_2 ++ dktX3_number_3
def dkwX3_number_1 : List UInt8 := [162, 0, 67, 42, 180, 0, 53, 42, 180, 0, 233, 51, 16, 48, 16, 57, 184, 0, 67, 153, 0, 48, 42]
abbrev dktX3_number_1 : List UInt8 := dkwX3_number_1 ++ dktX3_number_2
def dkwX3_number_0 : List UInt8 := [42, 182, 0, 245, 60, 42, 180, 0, 233, 61, 3, 62, 27, 153, 0, 78, 42, 180, 0, 233, 42, 180, 0, 242]
abbrev dktX3_number_0 : List UInt8 := dkwX3_number_0 ++ dktX3_number_1
theorem dksX3_number_0 : cX3_number.data.toList.drop 0 = dktX3_number_0 := by decide +kernel
theorem dksX3_number_1 : cX3_number.data.toList.drop 24 = dktX3_number_1 := dk_seg dksX3_number_0 24 rfl rfl
theorem dksX3_number_2 : cX3_number.data.toList.drop 47 = dktX3_number_2 := dk_seg dksX3_number_1 23 rfl rfl
theorem dksX3_number_3 : cX3_number.data.toList.drop 70 = dktX3_number_3 := dk_seg dksX3_number_2 23 rfl rfl
theorem dksX3_number_4 : cX3_number.data.toList.drop 92 = dktX3_number_4 := dk_seg dksX3_number_3 22 rfl rfl
theorem dX3_number_0 : decode cX3_number 0 = .ok (.aload_n 0, 1) := dk_42 (dk_at dksX3_number_0 0 rfl rfl)
theorem dX3_number_1 : decode cX3_number 1 = .ok (.invokevirtual 245, 3) := dk_182 0 245 (dk_at dksX3_number_0 1 rfl rfl)
theorem dX3_number_4 : decode cX3_number 4 = .ok (.istore_n 1, 1) := dk_60 (dk_at dksX3_number_0 4 rfl rfl)
theorem dX3_number_5 : decode cX3_number 5 = .ok (.aload_n 0, 1) := dk_42 (dk_at dksX3_number_0 5 rfl rfl)
theorem dX3_number_6 : decode cX3_number 6 = .ok (.getfield 233, 3) := dk_180 0 233 (dk_at dksX3_number_0 6 rfl rfl)
theorem dX3_number_9 : decode cX3_number 9 = .ok (.istore_n 2, 1) := dk_61 (dk_at dksX3_number_0 9 rfl rfl)
theorem dX3_number_10 : decode cX3_number 10 = .ok (.iconst 0, 1) := dk_3 (dk_at dksX3_number_0 10 rfl rfl)
theorem dX3_number_11 : decode cX3_number 11 = .ok (.istore_n 3, 1) := dk_62 (dk_at dksX3_number_0 11 rfl rfl)
theorem dX3_number_12 : decode cX3_number 12 = .ok (.iload_n 1, 1) := dk_27 (dk_at dksX3_number_0 12 rfl rfl)
theorem dX3_number_13 : decode cX3_number 13 = .ok (.ifCond .eq 78, 3) := dk_153 0 78 (dk_at dksX3_number_0 13 rfl rfl)
theorem dX3_number_16 : decode cX3_number 16 = .ok (.aload_n 0, 1) := dk_42 (dk_at dksX3_number_0 16 rfl rfl)
theorem dX3_number_17 : decode cX3_number 17 = .ok (.getfield 233, 3) := dk_180 0 233 (dk_at dksX3_number_0 17 rfl rfl)
theorem dX3_number_20 : decode cX3_number 20 = .ok (.aload_n 0, 1) := dk_42 (dk_at dksX3_number_0 20 rfl rfl)
theorem dX3_number_21 : decode cX3_number 21 = .ok (.getfield 242, 3) := dk_180 0 242 (dk_at dksX3_number_0 21 rfl rfl)
theorem dX3_number_24 : decode cX3_number 24 = .ok (.if_icmp .ge 67, 3) := dk_162 0 67 (dk_at dksX3_number_1 0 rfl rfl)
theorem dX3_number_27 : decode cX3_number 27 = .ok (.aload_n 0, 1) := dk_42 (dk_at dksX3_number_1 3 rfl rfl)
theorem dX3_number_28 : decode cX3_number 28 = .ok (.getfield 53, 3) := dk_180 0 53 (dk_at dksX3_number_1 4 rfl rfl)
theorem dX3_number_31 : decode cX3_number 31 = .ok (.aload_n 0, 1) := dk_42 (dk_at dksX3_number_1 7 rfl rfl)
theorem dX3_number_32 : decode cX3_number 32 = .ok (.getfield 233, 3) := dk_180 0 233 (dk_at dksX3_number_1 8 rfl rfl)
theorem dX3_number_35 : decode cX3_number 35 = .ok (.baload, 1) := dk_51 (dk_at dksX3_number_1 11 rfl rfl)
theorem dX3_number_36 : decode cX3_number 36 = .ok (.bipush 48, 2) := dk_16 48 (dk_at dksX3_number_1 12 rfl rfl)
theorem dX3_number_38 : decode cX3_number 38 = .ok (.bipush 57, 2) := dk_16 57 (dk_at dksX3_number_1 14 rfl rfl)
theorem dX3_number_40 : decode cX3_number 40 = .ok (.invokestatic 67, 3) := dk_184 0 67 (dk_at dksX3_number_1 16 rfl rfl)
theorem dX3_number_43 : decode cX3_number 43 = .ok (.ifCond .eq 48, 3) := dk_153 0 48 (dk_at dksX3_number_1 19 rfl rfl)
theorem dX3_number_46 : decode cX3_number 46 = .ok (.aload_n 0, 1) := dk_42 (dk_at dksX3_number_1 22 rfl rfl)
theorem dX3_number_47 : decode cX3_number 47 = .ok (.getfield 233, 3) := dk_180 0 233 (dk_at dksX3_number_2 0 rfl rfl)
theorem dX3_number_50 : decode cX3_number 50 = .ok (.iload_n 2, 1) := dk_28 (dk_at dksX3_number_2 3 rfl rfl)
theorem dX3_number_51 : decode cX3_number 51 = .ok (.isub, 1) := dk_100 (dk_at dksX3_number_2 4 rfl rfl)
theorem dX3_number_52 : decode cX3_number 52 = .ok (.iconst 2, 1) := dk_5 (dk_at dksX3_number_2 5 rfl rfl)
theorem dX3_number_53 : decode cX3_number 53 = .ok (.if_icmp .ge 23, 3) := dk_162 0 23 (dk_at dksX3_number_2 6 rfl rfl)
theorem dX3_number_56 : decode cX3_number 56 = .ok (.bipush 10, 2) := dk_16 10 (dk_at dksX3_number_2 9 rfl rfl)
theorem dX3_number_58 : decode cX3_number 58 = .ok (.iload_n 3, 1) := dk_29 (dk_at dksX3_number_2 11 rfl rfl)
theorem dX3_number_59 : decode cX3_number 59 = .ok (.imul, 1) := dk_104 (dk_at dksX3_number_2 12 rfl rfl)
theorem dX3_number_60 : decode cX3_number 60 = .ok (.aload_n 0, 1) := dk_42 (dk_at dksX3_number_2 13 rfl rfl)
theorem dX3_number_61 : decode cX3_number 61 = .ok (.getfield 53, 3) := dk_180 0 53 (dk_at dksX3_number_2 14 rfl rfl)
theorem dX3_number_64 : decode cX3_number 64 = .ok (.aload_n 0, 1) := dk_42 (dk_at dksX3_number_2 17 rfl rfl)
theorem dX3_number_65 : decode cX3_number 65 = .ok (.getfield 233, 3) := dk_180 0 233 (dk_at dksX3_number_2 18 rfl rfl)
theorem dX3_number_68 : decode cX3_number 68 = .ok (.baload, 1) := dk_51 (dk_at dksX3_number_2 21 rfl rfl)
theorem dX3_number_69 : decode cX3_number 69 = .ok (.iadd, 1) := dk_96 (dk_at dksX3_number_2 22 rfl rfl)
theorem dX3_number_70 : decode cX3_number 70 = .ok (.bipush 48, 2) := dk_16 48 (dk_at dksX3_number_3 0 rfl rfl)
theorem dX3_number_72 : decode cX3_number 72 = .ok (.isub, 1) := dk_100 (dk_at dksX3_number_3 2 rfl rfl)
theorem dX3_number_73 : decode cX3_number 73 = .ok (.goto 4, 3) := dk_167 0 4 (dk_at dksX3_number_3 3 rfl rfl)
theorem dX3_number_76 : decode cX3_number 76 = .ok (.iload_n 3, 1) := dk_29 (dk_at dksX3_number_3 6 rfl rfl)
theorem dX3_number_77 : decode cX3_number 77 = .ok (.istore_n 3, 1) := dk_62 (dk_at dksX3_number_3 7 rfl rfl)
theorem dX3_number_78 : decode cX3_number 78 = .ok (.aload_n 0, 1) := dk_42 (dk_at dksX3_number_3 8 rfl rfl)
theorem dX3_number_79 : decode cX3_number 79 = .ok (.dup, 1) := dk_89 (dk_at dksX3_number_3 9 rfl rfl)
theorem dX3_number_80 : decode cX3_number 80 = .ok (.getfield 233, 3) := dk_180 0 233 (dk_at dksX3_number_3 10 rfl rfl)
theorem dX3_number_83 : decode cX3_number 83 = .ok (.iconst 1, 1) := dk_4 (dk_at dksX3_number_3 13 rfl rfl)
theorem dX3_number_84 : decode cX3_number 84 = .ok (.iadd, 1) := dk_96 (dk_at dksX3_number_3 14 rfl rfl)
theorem dX3_number_85 : decode cX3_number 85 = .ok (.putfield 233, 3) := dk_181 0 233 (dk_at dksX3_number_3 15 rfl rfl)
theorem dX3_number_88 : decode cX3_number 88 = .ok (.goto (-76), 3) := dk_167 255 180 (dk_at dksX3_number_3 18 rfl rfl)
theorem dX3_number_91 : decode cX3_number 91 = .ok (.aload_n 0, 1) := dk_42 (dk_at dksX3_number_3 21 rfl rfl)
theorem dX3_number_92 : decode cX3_number 92 = .ok (.getfield 233, 3) := dk_180 0 233 (dk_at dksX3_number_4 0 rfl rfl)
theorem dX3_number_95 : decode cX3_number 95 = .ok (.iload_n 2, 1) := dk_28 (dk_at dksX3_number_4 3 rfl rfl)
theorem dX3_number_96 : decode cX3_number 96 = .ok (.isub, 1) := dk_100 (dk_at dksX3_number_4 4 rfl rfl)
theorem dX3_number_97 : decode cX3_number 97 = .ok (.iconst 1, 1) := dk_4 (dk_at dksX3_number_4 5 rfl rfl)
theorem dX3_number_98 : decode cX3_number 98 = .ok (.iconst 2, 1) := dk_5 (dk_at dksX3_number_4 6 rfl rfl)
theorem dX3_number_99 : decode cX3_number 99 = .ok (.invokestatic 67, 3) := dk_184 0 67 (dk_at dksX3_number_4 7 rfl rfl)
theorem dX3_number_102 : decode cX3_number 102 = .ok (.ifCond .ne 9, 3) := dk_154 0 9 (dk_at dksX3_number_4 10 rfl rfl)
theorem dX3_number_105 : decode cX3_number 105 = .ok (.aload_n 0, 1) := dk_42 (dk_at dksX3_number_4 13 rfl rfl)
theorem dX3_number_106 : decode cX3_number 106 = .ok (.iconst 1, 1) := dk_4 (dk_at dksX3_number_4 14 rfl rfl)
theorem dX3_number_107 : decode cX3_number 107 = .ok (.iload_n 2, 1) := dk_28 (dk_at dksX3_number_4 15 rfl rfl)
theorem dX3_number_108 : decode cX3_number 108 = .ok (.invokevirtual 248, 3) := dk_182 0 248 (dk_at dksX3_number_4 16 rfl rfl)
theorem dX3_number_111 : decode cX3_number 111 = .ok (.iload_n 3, 1) := dk_29 (dk_at dksX3_number_4 19 rfl rfl)
theorem dX3_number_112 : decode cX3_number 112 = .ok (.ireturn, 1) := dk_172 (dk_at dksX3_number_4 20 rfl rfl)
abbrev cX3_isDigit : ByteArray := prog_13_method_74_code
def yX3_isDigit : MethodName := ⟨RX3, "isDigit", "()Z"⟩
def dkwX3_isDigit_0 : List UInt8 := [42, 182, 0, 223, 16, 48, 16, 57, 184, 0, 67, 172]
abbrev dktX3_isDigit_0 : List UInt8 := dkwX3_isDigit_0 ++ []
theorem dksX3_isDigit_0 : cX3_isDigit.data.toList.drop 0 = dktX3_isDigit_0 := by decide +kernel
theorem dX3_isDigit_0 : decode cX3_isDigit 0 = .ok (.aload_n 0, 1) := dk_42 (dk_at dksX3_isDigit_0 0 rfl rfl)
theorem dX3_isDigit_1 : decode cX3_isDigit 1 = .ok (.invokevirtual 223, 3) := dk_182 0 223 (dk_at dksX3_isDigit_0 1 rfl rfl)
theorem dX3_isDigit_4 : decode cX3_isDigit 4 = .ok (.bipush 48, 2) := dk_16 48 (dk_at dksX3_isDigit_0 4 rfl rfl)
theorem dX3_isDigit_6 : decode cX3_isDigit 6 = .ok (.bipush 57, 2) := dk_16 57 (dk_at dksX3_isDigit_0 6 rfl rfl)
theorem dX3_isDigit_8 : decode cX3_isDigit 8 = .ok (.invokestatic 67, 3) := dk_184 0 67 (dk_at dksX3_isDigit_0 8 rfl rfl)
theorem dX3_isDigit_11 : decode cX3_isDigit 11 = .ok (.ireturn, 1) := dk_172 (dk_at dksX3_isDigit_0 11 rfl rfl)
abbrev cX3_closed : ByteArray := prog_13_method_64_code
def yX3_closed : MethodName := ⟨RX3, "closed", "()I"⟩
def dkwX3_closed_0 : List UInt8 := [42, 3, 181, 0, 63, 42, 180, 0, 7, 16, 15, 46, 172]
abbrev dktX3_closed_0 : List UInt8 := dkwX3_closed_0 ++ []
theorem dksX3_closed_0 : cX3_closed.data.toList.drop 0 = dktX3_closed_0 := by decide +kernel
theorem dX3_closed_0 : decode cX3_closed 0 = .ok (.aload_n 0, 1) := dk_42 (dk_at dksX3_closed_0 0 rfl rfl)
theorem dX3_closed_1 : decode cX3_closed 1 = .ok (.iconst 0, 1) := dk_3 (dk_at dksX3_closed_0 1 rfl rfl)
theorem dX3_closed_2 : decode cX3_closed 2 = .ok (.putfield 63, 3) := dk_181 0 63 (dk_at dksX3_closed_0 2 rfl rfl)
theorem dX3_closed_5 : decode cX3_closed 5 = .ok (.aload_n 0, 1) := dk_42 (dk_at dksX3_closed_0 5 rfl rfl)
theorem dX3_closed_6 : decode cX3_closed 6 = .ok (.getfield 7, 3) := dk_180 0 7 (dk_at dksX3_closed_0 6 rfl rfl)
theorem dX3_closed_9 : decode cX3_closed 9 = .ok (.bipush 15, 2) := dk_16 15 (dk_at dksX3_closed_0 9 rfl rfl)
theorem dX3_closed_11 : decode cX3_closed 11 = .ok (.iaload, 1) := dk_46 (dk_at dksX3_closed_0 11 rfl rfl)
theorem dX3_closed_12 : decode cX3_closed 12 = .ok (.ireturn, 1) := dk_172 (dk_at dksX3_closed_0 12 rfl rfl)
abbrev cX3_models : ByteArray := prog_13_method_66_code
def yX3_models : MethodName := ⟨RX3, "models", "()I"⟩
def dkwX3_models_2 : List UInt8 := [96, 60, 132, 2, 1, 167, 255, 225, 27, 172]
abbrev dktX3_models_2 : List UInt8 := dkwX3_models_2 ++ []
def dkwX3_models_1 : List UInt8 := [42, 180, 0, 7, 3, 46, 120, 162, 0, 25, 27, 42, 28, 182, 0, 236, 153, 0, 7, 4, 167, 0, 4, 3]
abbrev dktX3_models_1 : List UInt8 := dkwX3_models_1 ++ dktX3_models_2
def dkwX3_models_0 : List UInt8 := [42, 3, 181, 0, 63, 42, 180, 0, 7, 3, 46, 16, 12, 164, 0, 5, 2, 172, 3, 60, 3, 61, 28, 4]
abbrev dktX3_models_0 : List UInt8 := dkwX3_models_0 ++ dktX3_models_1
theorem dksX3_models_0 : cX3_models.data.toList.drop 0 = dktX3_models_0 := by decide +kernel
theorem dksX3_models_1 : cX3_models.data.toList.drop 24 = dktX3_models_1 := dk_seg dksX3_models_0 24 rfl rfl
theorem dksX3_models_2 : cX3_models.data.toList.drop 48 = dktX3_models_2 := dk_seg dksX3_models_1 24 rfl rfl
theorem dX3_models_0 : decode cX3_models 0 = .ok (.aload_n 0, 1) := dk_42 (dk_at dksX3_models_0 0 rfl rfl)
theorem dX3_models_1 : decode cX3_models 1 = .ok (.iconst 0, 1) := dk_3 (dk_at dksX3_models_0 1 rfl rfl)
theorem dX3_models_2 : decode cX3_models 2 = .ok (.putfield 63, 3) := dk_181 0 63 (dk_at dksX3_models_0 2 rfl rfl)
theorem dX3_models_5 : decode cX3_models 5 = .ok (.aload_n 0, 1) := dk_42 (dk_at dksX3_models_0 5 rfl rfl)
theorem dX3_models_6 : decode cX3_models 6 = .ok (.getfield 7, 3) := dk_180 0 7 (dk_at dksX3_models_0 6 rfl rfl)
theorem dX3_models_9 : decode cX3_models 9 = .ok (.iconst 0, 1) := dk_3 (dk_at dksX3_models_0 9 rfl rfl)
theorem dX3_models_10 : decode cX3_models 10 = .ok (.iaload, 1) := dk_46 (dk_at dksX3_models_0 10 rfl rfl)
theorem dX3_models_11 : decode cX3_models 11 = .ok (.bipush 12, 2) := dk_16 12 (dk_at dksX3_models_0 11 rfl rfl)
theorem dX3_models_13 : decode cX3_models 13 = .ok (.if_icmp .le 5, 3) := dk_164 0 5 (dk_at dksX3_models_0 13 rfl rfl)
theorem dX3_models_16 : decode cX3_models 16 = .ok (.iconst (-1), 1) := dk_2 (dk_at dksX3_models_0 16 rfl rfl)
theorem dX3_models_17 : decode cX3_models 17 = .ok (.ireturn, 1) := dk_172 (dk_at dksX3_models_0 17 rfl rfl)
theorem dX3_models_18 : decode cX3_models 18 = .ok (.iconst 0, 1) := dk_3 (dk_at dksX3_models_0 18 rfl rfl)
theorem dX3_models_19 : decode cX3_models 19 = .ok (.istore_n 1, 1) := dk_60 (dk_at dksX3_models_0 19 rfl rfl)
theorem dX3_models_20 : decode cX3_models 20 = .ok (.iconst 0, 1) := dk_3 (dk_at dksX3_models_0 20 rfl rfl)
theorem dX3_models_21 : decode cX3_models 21 = .ok (.istore_n 2, 1) := dk_61 (dk_at dksX3_models_0 21 rfl rfl)
theorem dX3_models_22 : decode cX3_models 22 = .ok (.iload_n 2, 1) := dk_28 (dk_at dksX3_models_0 22 rfl rfl)
theorem dX3_models_23 : decode cX3_models 23 = .ok (.iconst 1, 1) := dk_4 (dk_at dksX3_models_0 23 rfl rfl)
theorem dX3_models_24 : decode cX3_models 24 = .ok (.aload_n 0, 1) := dk_42 (dk_at dksX3_models_1 0 rfl rfl)
theorem dX3_models_25 : decode cX3_models 25 = .ok (.getfield 7, 3) := dk_180 0 7 (dk_at dksX3_models_1 1 rfl rfl)
theorem dX3_models_28 : decode cX3_models 28 = .ok (.iconst 0, 1) := dk_3 (dk_at dksX3_models_1 4 rfl rfl)
theorem dX3_models_29 : decode cX3_models 29 = .ok (.iaload, 1) := dk_46 (dk_at dksX3_models_1 5 rfl rfl)
theorem dX3_models_30 : decode cX3_models 30 = .ok (.ishl, 1) := dk_120 (dk_at dksX3_models_1 6 rfl rfl)
theorem dX3_models_31 : decode cX3_models 31 = .ok (.if_icmp .ge 25, 3) := dk_162 0 25 (dk_at dksX3_models_1 7 rfl rfl)
theorem dX3_models_34 : decode cX3_models 34 = .ok (.iload_n 1, 1) := dk_27 (dk_at dksX3_models_1 10 rfl rfl)
theorem dX3_models_35 : decode cX3_models 35 = .ok (.aload_n 0, 1) := dk_42 (dk_at dksX3_models_1 11 rfl rfl)
theorem dX3_models_36 : decode cX3_models 36 = .ok (.iload_n 2, 1) := dk_28 (dk_at dksX3_models_1 12 rfl rfl)
theorem dX3_models_37 : decode cX3_models 37 = .ok (.invokevirtual 236, 3) := dk_182 0 236 (dk_at dksX3_models_1 13 rfl rfl)
theorem dX3_models_40 : decode cX3_models 40 = .ok (.ifCond .eq 7, 3) := dk_153 0 7 (dk_at dksX3_models_1 16 rfl rfl)
theorem dX3_models_43 : decode cX3_models 43 = .ok (.iconst 1, 1) := dk_4 (dk_at dksX3_models_1 19 rfl rfl)
theorem dX3_models_44 : decode cX3_models 44 = .ok (.goto 4, 3) := dk_167 0 4 (dk_at dksX3_models_1 20 rfl rfl)
theorem dX3_models_47 : decode cX3_models 47 = .ok (.iconst 0, 1) := dk_3 (dk_at dksX3_models_1 23 rfl rfl)
theorem dX3_models_48 : decode cX3_models 48 = .ok (.iadd, 1) := dk_96 (dk_at dksX3_models_2 0 rfl rfl)
theorem dX3_models_49 : decode cX3_models 49 = .ok (.istore_n 1, 1) := dk_60 (dk_at dksX3_models_2 1 rfl rfl)
theorem dX3_models_50 : decode cX3_models 50 = .ok (.iinc 2 1, 3) := dk_132 2 1 (dk_at dksX3_models_2 2 rfl rfl)
theorem dX3_models_53 : decode cX3_models 53 = .ok (.goto (-31), 3) := dk_167 255 225 (dk_at dksX3_models_2 5 rfl rfl)
theorem dX3_models_56 : decode cX3_models 56 = .ok (.iload_n 1, 1) := dk_27 (dk_at dksX3_models_2 8 rfl rfl)
theorem dX3_models_57 : decode cX3_models 57 = .ok (.ireturn, 1) := dk_172 (dk_at dksX3_models_2 9 rfl rfl)
abbrev cX3_isModel : ByteArray := prog_13_method_65_code
def yX3_isModel : MethodName := ⟨RX3, "isModel", "(I)Z"⟩
def dkwX3_isModel_4 : List UInt8 := [172, 132, 2, 1, 167, 255, 159, 4, 172]
abbrev dktX3_isModel_4 : List UInt8 := dkwX3_isModel_4 ++ []
def dkwX3_isModel_3 : List UInt8 := [167, 0, 4, 3, 160, 0, 7, 4, 167, 0, 4, 3, 62, 132, 4, 1, 167, 255, 190, 29, 154, 0, 5, 3]
abbrev dktX3_isModel_3 : List UInt8 := dkwX3_isModel_3 ++ dktX3_isModel_4
def dkwX3_isModel_2 : List UInt8 := [122, 4, 126, 4, 160, 0, 7, 4, 167, 0, 4, 3, 42, 28, 21, 4, 182, 0, 108, 158, 0, 7, 4]
abbrev dktX3_isModel_2 : List UInt8 := dkwX3_isModel_2 ++ dktX3_isModel_3
def dkwX3_isModel_1 : List UInt8 := [28, 182, 0, 99, 162, 0, 62, 29, 154, 0, 58, 27, 42, 28, 21, 4, 182, 0, 108, 184, 0, 71, 4, 100]
abbrev dktX3_isModel_1 : List UInt8 := dkwX3_isModel_1 ++ dktX3_isModel_2
def dkwX3_isModel_0 : List UInt8 := [3, 61, 28, 42, 180, 0, 7, 4, 46, 162, 0, 93, 42, 28, 182, 0, 93, 62, 3, 54, 4, 21, 4, 42]
abbrev dktX3_isModel_0 : List UInt8 := dkwX3_isModel_0 ++ dktX3_isModel_1
theorem dksX3_isModel_0 : cX3_isModel.data.toList.drop 0 = dktX3_isModel_0 := by decide +kernel
theorem dksX3_isModel_1 : cX3_isModel.data.toList.drop 24 = dktX3_isModel_1 := dk_seg dksX3_isModel_0 24 rfl rfl
theorem dksX3_isModel_2 : cX3_isModel.data.toList.drop 48 = dktX3_isModel_2 := dk_seg dksX3_isModel_1 24 rfl rfl
theorem dksX3_isModel_3 : cX3_isModel.data.toList.drop 71 = dktX3_isModel_3 := dk_seg dksX3_isModel_2 23 rfl rfl
theorem dksX3_isModel_4 : cX3_isModel.data.toList.drop 95 = dktX3_isModel_4 := dk_seg dksX3_isModel_3 24 rfl rfl
theorem dX3_isModel_0 : decode cX3_isModel 0 = .ok (.iconst 0, 1) := dk_3 (dk_at dksX3_isModel_0 0 rfl rfl)
theorem dX3_isModel_1 : decode cX3_isModel 1 = .ok (.istore_n 2, 1) := dk_61 (dk_at dksX3_isModel_0 1 rfl rfl)
theorem dX3_isModel_2 : decode cX3_isModel 2 = .ok (.iload_n 2, 1) := dk_28 (dk_at dksX3_isModel_0 2 rfl rfl)
theorem dX3_isModel_3 : decode cX3_isModel 3 = .ok (.aload_n 0, 1) := dk_42 (dk_at dksX3_isModel_0 3 rfl rfl)
theorem dX3_isModel_4 : decode cX3_isModel 4 = .ok (.getfield 7, 3) := dk_180 0 7 (dk_at dksX3_isModel_0 4 rfl rfl)
theorem dX3_isModel_7 : decode cX3_isModel 7 = .ok (.iconst 1, 1) := dk_4 (dk_at dksX3_isModel_0 7 rfl rfl)
theorem dX3_isModel_8 : decode cX3_isModel 8 = .ok (.iaload, 1) := dk_46 (dk_at dksX3_isModel_0 8 rfl rfl)
theorem dX3_isModel_9 : decode cX3_isModel 9 = .ok (.if_icmp .ge 93, 3) := dk_162 0 93 (dk_at dksX3_isModel_0 9 rfl rfl)
theorem dX3_isModel_12 : decode cX3_isModel 12 = .ok (.aload_n 0, 1) := dk_42 (dk_at dksX3_isModel_0 12 rfl rfl)
theorem dX3_isModel_13 : decode cX3_isModel 13 = .ok (.iload_n 2, 1) := dk_28 (dk_at dksX3_isModel_0 13 rfl rfl)
theorem dX3_isModel_14 : decode cX3_isModel 14 = .ok (.invokevirtual 93, 3) := dk_182 0 93 (dk_at dksX3_isModel_0 14 rfl rfl)
theorem dX3_isModel_17 : decode cX3_isModel 17 = .ok (.istore_n 3, 1) := dk_62 (dk_at dksX3_isModel_0 17 rfl rfl)
theorem dX3_isModel_18 : decode cX3_isModel 18 = .ok (.iconst 0, 1) := dk_3 (dk_at dksX3_isModel_0 18 rfl rfl)
theorem dX3_isModel_19 : decode cX3_isModel 19 = .ok (.istore 4, 2) := dk_54 4 (dk_at dksX3_isModel_0 19 rfl rfl)
theorem dX3_isModel_21 : decode cX3_isModel 21 = .ok (.iload 4, 2) := dk_21 4 (dk_at dksX3_isModel_0 21 rfl rfl)
theorem dX3_isModel_23 : decode cX3_isModel 23 = .ok (.aload_n 0, 1) := dk_42 (dk_at dksX3_isModel_0 23 rfl rfl)
theorem dX3_isModel_24 : decode cX3_isModel 24 = .ok (.iload_n 2, 1) := dk_28 (dk_at dksX3_isModel_1 0 rfl rfl)
theorem dX3_isModel_25 : decode cX3_isModel 25 = .ok (.invokevirtual 99, 3) := dk_182 0 99 (dk_at dksX3_isModel_1 1 rfl rfl)
theorem dX3_isModel_28 : decode cX3_isModel 28 = .ok (.if_icmp .ge 62, 3) := dk_162 0 62 (dk_at dksX3_isModel_1 4 rfl rfl)
theorem dX3_isModel_31 : decode cX3_isModel 31 = .ok (.iload_n 3, 1) := dk_29 (dk_at dksX3_isModel_1 7 rfl rfl)
theorem dX3_isModel_32 : decode cX3_isModel 32 = .ok (.ifCond .ne 58, 3) := dk_154 0 58 (dk_at dksX3_isModel_1 8 rfl rfl)
theorem dX3_isModel_35 : decode cX3_isModel 35 = .ok (.iload_n 1, 1) := dk_27 (dk_at dksX3_isModel_1 11 rfl rfl)
theorem dX3_isModel_36 : decode cX3_isModel 36 = .ok (.aload_n 0, 1) := dk_42 (dk_at dksX3_isModel_1 12 rfl rfl)
theorem dX3_isModel_37 : decode cX3_isModel 37 = .ok (.iload_n 2, 1) := dk_28 (dk_at dksX3_isModel_1 13 rfl rfl)
theorem dX3_isModel_38 : decode cX3_isModel 38 = .ok (.iload 4, 2) := dk_21 4 (dk_at dksX3_isModel_1 14 rfl rfl)
theorem dX3_isModel_40 : decode cX3_isModel 40 = .ok (.invokevirtual 108, 3) := dk_182 0 108 (dk_at dksX3_isModel_1 16 rfl rfl)
theorem dX3_isModel_43 : decode cX3_isModel 43 = .ok (.invokestatic 71, 3) := dk_184 0 71 (dk_at dksX3_isModel_1 19 rfl rfl)
theorem dX3_isModel_46 : decode cX3_isModel 46 = .ok (.iconst 1, 1) := dk_4 (dk_at dksX3_isModel_1 22 rfl rfl)
theorem dX3_isModel_47 : decode cX3_isModel 47 = .ok (.isub, 1) := dk_100 (dk_at dksX3_isModel_1 23 rfl rfl)
theorem dX3_isModel_48 : decode cX3_isModel 48 = .ok (.ishr, 1) := dk_122 (dk_at dksX3_isModel_2 0 rfl rfl)
theorem dX3_isModel_49 : decode cX3_isModel 49 = .ok (.iconst 1, 1) := dk_4 (dk_at dksX3_isModel_2 1 rfl rfl)
theorem dX3_isModel_50 : decode cX3_isModel 50 = .ok (.iand, 1) := dk_126 (dk_at dksX3_isModel_2 2 rfl rfl)
theorem dX3_isModel_51 : decode cX3_isModel 51 = .ok (.iconst 1, 1) := dk_4 (dk_at dksX3_isModel_2 3 rfl rfl)
theorem dX3_isModel_52 : decode cX3_isModel 52 = .ok (.if_icmp .ne 7, 3) := dk_160 0 7 (dk_at dksX3_isModel_2 4 rfl rfl)
theorem dX3_isModel_55 : decode cX3_isModel 55 = .ok (.iconst 1, 1) := dk_4 (dk_at dksX3_isModel_2 7 rfl rfl)
theorem dX3_isModel_56 : decode cX3_isModel 56 = .ok (.goto 4, 3) := dk_167 0 4 (dk_at dksX3_isModel_2 8 rfl rfl)
theorem dX3_isModel_59 : decode cX3_isModel 59 = .ok (.iconst 0, 1) := dk_3 (dk_at dksX3_isModel_2 11 rfl rfl)
theorem dX3_isModel_60 : decode cX3_isModel 60 = .ok (.aload_n 0, 1) := dk_42 (dk_at dksX3_isModel_2 12 rfl rfl)
theorem dX3_isModel_61 : decode cX3_isModel 61 = .ok (.iload_n 2, 1) := dk_28 (dk_at dksX3_isModel_2 13 rfl rfl)
theorem dX3_isModel_62 : decode cX3_isModel 62 = .ok (.iload 4, 2) := dk_21 4 (dk_at dksX3_isModel_2 14 rfl rfl)
theorem dX3_isModel_64 : decode cX3_isModel 64 = .ok (.invokevirtual 108, 3) := dk_182 0 108 (dk_at dksX3_isModel_2 16 rfl rfl)
theorem dX3_isModel_67 : decode cX3_isModel 67 = .ok (.ifCond .le 7, 3) := dk_158 0 7 (dk_at dksX3_isModel_2 19 rfl rfl)
theorem dX3_isModel_70 : decode cX3_isModel 70 = .ok (.iconst 1, 1) := dk_4 (dk_at dksX3_isModel_2 22 rfl rfl)
theorem dX3_isModel_71 : decode cX3_isModel 71 = .ok (.goto 4, 3) := dk_167 0 4 (dk_at dksX3_isModel_3 0 rfl rfl)
theorem dX3_isModel_74 : decode cX3_isModel 74 = .ok (.iconst 0, 1) := dk_3 (dk_at dksX3_isModel_3 3 rfl rfl)
theorem dX3_isModel_75 : decode cX3_isModel 75 = .ok (.if_icmp .ne 7, 3) := dk_160 0 7 (dk_at dksX3_isModel_3 4 rfl rfl)
theorem dX3_isModel_78 : decode cX3_isModel 78 = .ok (.iconst 1, 1) := dk_4 (dk_at dksX3_isModel_3 7 rfl rfl)
theorem dX3_isModel_79 : decode cX3_isModel 79 = .ok (.goto 4, 3) := dk_167 0 4 (dk_at dksX3_isModel_3 8 rfl rfl)
theorem dX3_isModel_82 : decode cX3_isModel 82 = .ok (.iconst 0, 1) := dk_3 (dk_at dksX3_isModel_3 11 rfl rfl)
theorem dX3_isModel_83 : decode cX3_isModel 83 = .ok (.istore_n 3, 1) := dk_62 (dk_at dksX3_isModel_3 12 rfl rfl)
theorem dX3_isModel_84 : decode cX3_isModel 84 = .ok (.iinc 4 1, 3) := dk_132 4 1 (dk_at dksX3_isModel_3 13 rfl rfl)
theorem dX3_isModel_87 : decode cX3_isModel 87 = .ok (.goto (-66), 3) := dk_167 255 190 (dk_at dksX3_isModel_3 16 rfl rfl)
theorem dX3_isModel_90 : decode cX3_isModel 90 = .ok (.iload_n 3, 1) := dk_29 (dk_at dksX3_isModel_3 19 rfl rfl)
theorem dX3_isModel_91 : decode cX3_isModel 91 = .ok (.ifCond .ne 5, 3) := dk_154 0 5 (dk_at dksX3_isModel_3 20 rfl rfl)
theorem dX3_isModel_94 : decode cX3_isModel 94 = .ok (.iconst 0, 1) := dk_3 (dk_at dksX3_isModel_3 23 rfl rfl)
theorem dX3_isModel_95 : decode cX3_isModel 95 = .ok (.ireturn, 1) := dk_172 (dk_at dksX3_isModel_4 0 rfl rfl)
theorem dX3_isModel_96 : decode cX3_isModel 96 = .ok (.iinc 2 1, 3) := dk_132 2 1 (dk_at dksX3_isModel_4 1 rfl rfl)
theorem dX3_isModel_99 : decode cX3_isModel 99 = .ok (.goto (-97), 3) := dk_167 255 159 (dk_at dksX3_isModel_4 4 rfl rfl)
theorem dX3_isModel_102 : decode cX3_isModel 102 = .ok (.iconst 1, 1) := dk_4 (dk_at dksX3_isModel_4 7 rfl rfl)
theorem dX3_isModel_103 : decode cX3_isModel 103 = .ok (.ireturn, 1) := dk_172 (dk_at dksX3_isModel_4 8 rfl rfl)
abbrev cX3_fixed : ByteArray := prog_13_method_67_code
def yX3_fixed : MethodName := ⟨RX3, "fixed", "(Z)I"⟩
def dkwX3_fixed_3 : List UInt8 := [2, 130, 126, 62, 132, 5, 1, 167, 255, 216, 21, 4, 153, 0, 7, 29, 167, 0, 4, 2, 172]
abbrev dktX3_fixed_3 : List UInt8 := dkwX3_fixed_3 ++ []
def dkwX3_fixed_2 : List UInt8 := [182, 0, 236, 154, 0, 6, 167, 0, 22, 4, 54, 4, 29, 27, 153, 0, 8, 21, 5, 167, 0, 7, 21, 5]
abbrev dktX3_fixed_2 : List UInt8 := dkwX3_fixed_2 ++ dktX3_fixed_3
def dkwX3_fixed_1 : List UInt8 := [46, 120, 4, 100, 61, 28, 62, 3, 54, 4, 3, 54, 5, 21, 5, 28, 163, 0, 40, 42, 21, 5]
abbrev dktX3_fixed_1 : List UInt8 := dkwX3_fixed_1 ++ dktX3_fixed_2
def dkwX3_fixed_0 : List UInt8 := [42, 3, 181, 0, 63, 42, 180, 0, 7, 3, 46, 16, 12, 164, 0, 5, 2, 172, 4, 42, 180, 0, 7, 3]
abbrev dktX3_fixed_0 : List UInt8 := dkwX3_fixed_0 ++ dktX3_fixed_1
theorem dksX3_fixed_0 : cX3_fixed.data.toList.drop 0 = dktX3_fixed_0 := by decide +kernel
theorem dksX3_fixed_1 : cX3_fixed.data.toList.drop 24 = dktX3_fixed_1 := dk_seg dksX3_fixed_0 24 rfl rfl
theorem dksX3_fixed_2 : cX3_fixed.data.toList.drop 46 = dktX3_fixed_2 := dk_seg dksX3_fixed_1 22 rfl rfl
theorem dksX3_fixed_3 : cX3_fixed.data.toList.drop 70 = dktX3_fixed_3 := dk_seg dksX3_fixed_2 24 rfl rfl
theorem dX3_fixed_0 : decode cX3_fixed 0 = .ok (.aload_n 0, 1) := dk_42 (dk_at dksX3_fixed_0 0 rfl rfl)
theorem dX3_fixed_1 : decode cX3_fixed 1 = .ok (.iconst 0, 1) := dk_3 (dk_at dksX3_fixed_0 1 rfl rfl)
theorem dX3_fixed_2 : decode cX3_fixed 2 = .ok (.putfield 63, 3) := dk_181 0 63 (dk_at dksX3_fixed_0 2 rfl rfl)
theorem dX3_fixed_5 : decode cX3_fixed 5 = .ok (.aload_n 0, 1) := dk_42 (dk_at dksX3_fixed_0 5 rfl rfl)
theorem dX3_fixed_6 : decode cX3_fixed 6 = .ok (.getfield 7, 3) := dk_180 0 7 (dk_at dksX3_fixed_0 6 rfl rfl)
theorem dX3_fixed_9 : decode cX3_fixed 9 = .ok (.iconst 0, 1) := dk_3 (dk_at dksX3_fixed_0 9 rfl rfl)
theorem dX3_fixed_10 : decode cX3_fixed 10 = .ok (.iaload, 1) := dk_46 (dk_at dksX3_fixed_0 10 rfl rfl)
theorem dX3_fixed_11 : decode cX3_fixed 11 = .ok (.bipush 12, 2) := dk_16 12 (dk_at dksX3_fixed_0 11 rfl rfl)
theorem dX3_fixed_13 : decode cX3_fixed 13 = .ok (.if_icmp .le 5, 3) := dk_164 0 5 (dk_at dksX3_fixed_0 13 rfl rfl)
theorem dX3_fixed_16 : decode cX3_fixed 16 = .ok (.iconst (-1), 1) := dk_2 (dk_at dksX3_fixed_0 16 rfl rfl)
theorem dX3_fixed_17 : decode cX3_fixed 17 = .ok (.ireturn, 1) := dk_172 (dk_at dksX3_fixed_0 17 rfl rfl)
theorem dX3_fixed_18 : decode cX3_fixed 18 = .ok (.iconst 1, 1) := dk_4 (dk_at dksX3_fixed_0 18 rfl rfl)
theorem dX3_fixed_19 : decode cX3_fixed 19 = .ok (.aload_n 0, 1) := dk_42 (dk_at dksX3_fixed_0 19 rfl rfl)
theorem dX3_fixed_20 : decode cX3_fixed 20 = .ok (.getfield 7, 3) := dk_180 0 7 (dk_at dksX3_fixed_0 20 rfl rfl)
theorem dX3_fixed_23 : decode cX3_fixed 23 = .ok (.iconst 0, 1) := dk_3 (dk_at dksX3_fixed_0 23 rfl rfl)
theorem dX3_fixed_24 : decode cX3_fixed 24 = .ok (.iaload, 1) := dk_46 (dk_at dksX3_fixed_1 0 rfl rfl)
theorem dX3_fixed_25 : decode cX3_fixed 25 = .ok (.ishl, 1) := dk_120 (dk_at dksX3_fixed_1 1 rfl rfl)
theorem dX3_fixed_26 : decode cX3_fixed 26 = .ok (.iconst 1, 1) := dk_4 (dk_at dksX3_fixed_1 2 rfl rfl)
theorem dX3_fixed_27 : decode cX3_fixed 27 = .ok (.isub, 1) := dk_100 (dk_at dksX3_fixed_1 3 rfl rfl)
theorem dX3_fixed_28 : decode cX3_fixed 28 = .ok (.istore_n 2, 1) := dk_61 (dk_at dksX3_fixed_1 4 rfl rfl)
theorem dX3_fixed_29 : decode cX3_fixed 29 = .ok (.iload_n 2, 1) := dk_28 (dk_at dksX3_fixed_1 5 rfl rfl)
theorem dX3_fixed_30 : decode cX3_fixed 30 = .ok (.istore_n 3, 1) := dk_62 (dk_at dksX3_fixed_1 6 rfl rfl)
theorem dX3_fixed_31 : decode cX3_fixed 31 = .ok (.iconst 0, 1) := dk_3 (dk_at dksX3_fixed_1 7 rfl rfl)
theorem dX3_fixed_32 : decode cX3_fixed 32 = .ok (.istore 4, 2) := dk_54 4 (dk_at dksX3_fixed_1 8 rfl rfl)
theorem dX3_fixed_34 : decode cX3_fixed 34 = .ok (.iconst 0, 1) := dk_3 (dk_at dksX3_fixed_1 10 rfl rfl)
theorem dX3_fixed_35 : decode cX3_fixed 35 = .ok (.istore 5, 2) := dk_54 5 (dk_at dksX3_fixed_1 11 rfl rfl)
theorem dX3_fixed_37 : decode cX3_fixed 37 = .ok (.iload 5, 2) := dk_21 5 (dk_at dksX3_fixed_1 13 rfl rfl)
theorem dX3_fixed_39 : decode cX3_fixed 39 = .ok (.iload_n 2, 1) := dk_28 (dk_at dksX3_fixed_1 15 rfl rfl)
theorem dX3_fixed_40 : decode cX3_fixed 40 = .ok (.if_icmp .gt 40, 3) := dk_163 0 40 (dk_at dksX3_fixed_1 16 rfl rfl)
theorem dX3_fixed_43 : decode cX3_fixed 43 = .ok (.aload_n 0, 1) := dk_42 (dk_at dksX3_fixed_1 19 rfl rfl)
theorem dX3_fixed_44 : decode cX3_fixed 44 = .ok (.iload 5, 2) := dk_21 5 (dk_at dksX3_fixed_1 20 rfl rfl)
theorem dX3_fixed_46 : decode cX3_fixed 46 = .ok (.invokevirtual 236, 3) := dk_182 0 236 (dk_at dksX3_fixed_2 0 rfl rfl)
theorem dX3_fixed_49 : decode cX3_fixed 49 = .ok (.ifCond .ne 6, 3) := dk_154 0 6 (dk_at dksX3_fixed_2 3 rfl rfl)
theorem dX3_fixed_52 : decode cX3_fixed 52 = .ok (.goto 22, 3) := dk_167 0 22 (dk_at dksX3_fixed_2 6 rfl rfl)
theorem dX3_fixed_55 : decode cX3_fixed 55 = .ok (.iconst 1, 1) := dk_4 (dk_at dksX3_fixed_2 9 rfl rfl)
theorem dX3_fixed_56 : decode cX3_fixed 56 = .ok (.istore 4, 2) := dk_54 4 (dk_at dksX3_fixed_2 10 rfl rfl)
theorem dX3_fixed_58 : decode cX3_fixed 58 = .ok (.iload_n 3, 1) := dk_29 (dk_at dksX3_fixed_2 12 rfl rfl)
theorem dX3_fixed_59 : decode cX3_fixed 59 = .ok (.iload_n 1, 1) := dk_27 (dk_at dksX3_fixed_2 13 rfl rfl)
theorem dX3_fixed_60 : decode cX3_fixed 60 = .ok (.ifCond .eq 8, 3) := dk_153 0 8 (dk_at dksX3_fixed_2 14 rfl rfl)
theorem dX3_fixed_63 : decode cX3_fixed 63 = .ok (.iload 5, 2) := dk_21 5 (dk_at dksX3_fixed_2 17 rfl rfl)
theorem dX3_fixed_65 : decode cX3_fixed 65 = .ok (.goto 7, 3) := dk_167 0 7 (dk_at dksX3_fixed_2 19 rfl rfl)
theorem dX3_fixed_68 : decode cX3_fixed 68 = .ok (.iload 5, 2) := dk_21 5 (dk_at dksX3_fixed_2 22 rfl rfl)
theorem dX3_fixed_70 : decode cX3_fixed 70 = .ok (.iconst (-1), 1) := dk_2 (dk_at dksX3_fixed_3 0 rfl rfl)
theorem dX3_fixed_71 : decode cX3_fixed 71 = .ok (.ixor, 1) := dk_130 (dk_at dksX3_fixed_3 1 rfl rfl)
theorem dX3_fixed_72 : decode cX3_fixed 72 = .ok (.iand, 1) := dk_126 (dk_at dksX3_fixed_3 2 rfl rfl)
theorem dX3_fixed_73 : decode cX3_fixed 73 = .ok (.istore_n 3, 1) := dk_62 (dk_at dksX3_fixed_3 3 rfl rfl)
theorem dX3_fixed_74 : decode cX3_fixed 74 = .ok (.iinc 5 1, 3) := dk_132 5 1 (dk_at dksX3_fixed_3 4 rfl rfl)
theorem dX3_fixed_77 : decode cX3_fixed 77 = .ok (.goto (-40), 3) := dk_167 255 216 (dk_at dksX3_fixed_3 7 rfl rfl)
theorem dX3_fixed_80 : decode cX3_fixed 80 = .ok (.iload 4, 2) := dk_21 4 (dk_at dksX3_fixed_3 10 rfl rfl)
theorem dX3_fixed_82 : decode cX3_fixed 82 = .ok (.ifCond .eq 7, 3) := dk_153 0 7 (dk_at dksX3_fixed_3 12 rfl rfl)
theorem dX3_fixed_85 : decode cX3_fixed 85 = .ok (.iload_n 3, 1) := dk_29 (dk_at dksX3_fixed_3 15 rfl rfl)
theorem dX3_fixed_86 : decode cX3_fixed 86 = .ok (.goto 4, 3) := dk_167 0 4 (dk_at dksX3_fixed_3 16 rfl rfl)
theorem dX3_fixed_89 : decode cX3_fixed 89 = .ok (.iconst (-1), 1) := dk_2 (dk_at dksX3_fixed_3 19 rfl rfl)
theorem dX3_fixed_90 : decode cX3_fixed 90 = .ok (.ireturn, 1) := dk_172 (dk_at dksX3_fixed_3 20 rfl rfl)
abbrev cX3_feed : ByteArray := prog_13_method_69_code
def yX3_feed : MethodName := ⟨RX3, "feed", "(IIIII)I"⟩
def dkwX3_feed_2 : List UInt8 := [182, 0, 239, 42, 180, 0, 192, 172]
abbrev dktX3_feed_2 : List UInt8 := dkwX3_feed_2 ++ []
def dkwX3_feed_1 : List UInt8 := [182, 0, 239, 42, 28, 182, 0, 239, 42, 29, 182, 0, 239, 42, 21, 4, 182, 0, 239, 42, 21, 5]
abbrev dktX3_feed_1 : List UInt8 := dkwX3_feed_1 ++ dktX3_feed_2
def dkwX3_feed_0 : List UInt8 := [42, 3, 181, 0, 63, 42, 180, 0, 192, 16, 20, 96, 17, 1, 144, 164, 0, 5, 2, 172, 42, 27]
abbrev dktX3_feed_0 : List UInt8 := dkwX3_feed_0 ++ dktX3_feed_1
theorem dksX3_feed_0 : cX3_feed.data.toList.drop 0 = dktX3_feed_0 := by decide +kernel
theorem dksX3_feed_1 : cX3_feed.data.toList.drop 22 = dktX3_feed_1 := dk_seg dksX3_feed_0 22 rfl rfl
theorem dksX3_feed_2 : cX3_feed.data.toList.drop 44 = dktX3_feed_2 := dk_seg dksX3_feed_1 22 rfl rfl
theorem dX3_feed_0 : decode cX3_feed 0 = .ok (.aload_n 0, 1) := dk_42 (dk_at dksX3_feed_0 0 rfl rfl)
theorem dX3_feed_1 : decode cX3_feed 1 = .ok (.iconst 0, 1) := dk_3 (dk_at dksX3_feed_0 1 rfl rfl)
theorem dX3_feed_2 : decode cX3_feed 2 = .ok (.putfield 63, 3) := dk_181 0 63 (dk_at dksX3_feed_0 2 rfl rfl)
theorem dX3_feed_5 : decode cX3_feed 5 = .ok (.aload_n 0, 1) := dk_42 (dk_at dksX3_feed_0 5 rfl rfl)
theorem dX3_feed_6 : decode cX3_feed 6 = .ok (.getfield 192, 3) := dk_180 0 192 (dk_at dksX3_feed_0 6 rfl rfl)
theorem dX3_feed_9 : decode cX3_feed 9 = .ok (.bipush 20, 2) := dk_16 20 (dk_at dksX3_feed_0 9 rfl rfl)
theorem dX3_feed_11 : decode cX3_feed 11 = .ok (.iadd, 1) := dk_96 (dk_at dksX3_feed_0 11 rfl rfl)
theorem dX3_feed_12 : decode cX3_feed 12 = .ok (.sipush 400, 3) := dk_17 1 144 (dk_at dksX3_feed_0 12 rfl rfl)
theorem dX3_feed_15 : decode cX3_feed 15 = .ok (.if_icmp .le 5, 3) := dk_164 0 5 (dk_at dksX3_feed_0 15 rfl rfl)
theorem dX3_feed_18 : decode cX3_feed 18 = .ok (.iconst (-1), 1) := dk_2 (dk_at dksX3_feed_0 18 rfl rfl)
theorem dX3_feed_19 : decode cX3_feed 19 = .ok (.ireturn, 1) := dk_172 (dk_at dksX3_feed_0 19 rfl rfl)
theorem dX3_feed_20 : decode cX3_feed 20 = .ok (.aload_n 0, 1) := dk_42 (dk_at dksX3_feed_0 20 rfl rfl)
theorem dX3_feed_21 : decode cX3_feed 21 = .ok (.iload_n 1, 1) := dk_27 (dk_at dksX3_feed_0 21 rfl rfl)
theorem dX3_feed_22 : decode cX3_feed 22 = .ok (.invokevirtual 239, 3) := dk_182 0 239 (dk_at dksX3_feed_1 0 rfl rfl)
theorem dX3_feed_25 : decode cX3_feed 25 = .ok (.aload_n 0, 1) := dk_42 (dk_at dksX3_feed_1 3 rfl rfl)
theorem dX3_feed_26 : decode cX3_feed 26 = .ok (.iload_n 2, 1) := dk_28 (dk_at dksX3_feed_1 4 rfl rfl)
theorem dX3_feed_27 : decode cX3_feed 27 = .ok (.invokevirtual 239, 3) := dk_182 0 239 (dk_at dksX3_feed_1 5 rfl rfl)
theorem dX3_feed_30 : decode cX3_feed 30 = .ok (.aload_n 0, 1) := dk_42 (dk_at dksX3_feed_1 8 rfl rfl)
theorem dX3_feed_31 : decode cX3_feed 31 = .ok (.iload_n 3, 1) := dk_29 (dk_at dksX3_feed_1 9 rfl rfl)
theorem dX3_feed_32 : decode cX3_feed 32 = .ok (.invokevirtual 239, 3) := dk_182 0 239 (dk_at dksX3_feed_1 10 rfl rfl)
theorem dX3_feed_35 : decode cX3_feed 35 = .ok (.aload_n 0, 1) := dk_42 (dk_at dksX3_feed_1 13 rfl rfl)
theorem dX3_feed_36 : decode cX3_feed 36 = .ok (.iload 4, 2) := dk_21 4 (dk_at dksX3_feed_1 14 rfl rfl)
theorem dX3_feed_38 : decode cX3_feed 38 = .ok (.invokevirtual 239, 3) := dk_182 0 239 (dk_at dksX3_feed_1 16 rfl rfl)
theorem dX3_feed_41 : decode cX3_feed 41 = .ok (.aload_n 0, 1) := dk_42 (dk_at dksX3_feed_1 19 rfl rfl)
theorem dX3_feed_42 : decode cX3_feed 42 = .ok (.iload 5, 2) := dk_21 5 (dk_at dksX3_feed_1 20 rfl rfl)
theorem dX3_feed_44 : decode cX3_feed 44 = .ok (.invokevirtual 239, 3) := dk_182 0 239 (dk_at dksX3_feed_2 0 rfl rfl)
theorem dX3_feed_47 : decode cX3_feed 47 = .ok (.aload_n 0, 1) := dk_42 (dk_at dksX3_feed_2 3 rfl rfl)
theorem dX3_feed_48 : decode cX3_feed 48 = .ok (.getfield 192, 3) := dk_180 0 192 (dk_at dksX3_feed_2 4 rfl rfl)
theorem dX3_feed_51 : decode cX3_feed 51 = .ok (.ireturn, 1) := dk_172 (dk_at dksX3_feed_2 7 rfl rfl)
abbrev cX3_put : ByteArray := prog_13_method_68_code
def yX3_put : MethodName := ⟨RX3, "put", "(I)V"⟩
def dkwX3_put_1 : List UInt8 := [180, 0, 192, 4, 96, 181, 0, 192, 132, 2, 248, 167, 255, 226, 177]
abbrev dktX3_put_1 : List UInt8 := dkwX3_put_1 ++ []
def dkwX3_put_0 : List UInt8 := [16, 24, 61, 28, 155, 0, 32, 42, 180, 0, 53, 42, 180, 0, 192, 27, 28, 122, 145, 84, 42, 89]
abbrev dktX3_put_0 : List UInt8 := dkwX3_put_0 ++ dktX3_put_1
theorem dksX3_put_0 : cX3_put.data.toList.drop 0 = dktX3_put_0 := by decide +kernel
theorem dksX3_put_1 : cX3_put.data.toList.drop 22 = dktX3_put_1 := dk_seg dksX3_put_0 22 rfl rfl
theorem dX3_put_0 : decode cX3_put 0 = .ok (.bipush 24, 2) := dk_16 24 (dk_at dksX3_put_0 0 rfl rfl)
theorem dX3_put_2 : decode cX3_put 2 = .ok (.istore_n 2, 1) := dk_61 (dk_at dksX3_put_0 2 rfl rfl)
theorem dX3_put_3 : decode cX3_put 3 = .ok (.iload_n 2, 1) := dk_28 (dk_at dksX3_put_0 3 rfl rfl)
theorem dX3_put_4 : decode cX3_put 4 = .ok (.ifCond .lt 32, 3) := dk_155 0 32 (dk_at dksX3_put_0 4 rfl rfl)
theorem dX3_put_7 : decode cX3_put 7 = .ok (.aload_n 0, 1) := dk_42 (dk_at dksX3_put_0 7 rfl rfl)
theorem dX3_put_8 : decode cX3_put 8 = .ok (.getfield 53, 3) := dk_180 0 53 (dk_at dksX3_put_0 8 rfl rfl)
theorem dX3_put_11 : decode cX3_put 11 = .ok (.aload_n 0, 1) := dk_42 (dk_at dksX3_put_0 11 rfl rfl)
theorem dX3_put_12 : decode cX3_put 12 = .ok (.getfield 192, 3) := dk_180 0 192 (dk_at dksX3_put_0 12 rfl rfl)
theorem dX3_put_15 : decode cX3_put 15 = .ok (.iload_n 1, 1) := dk_27 (dk_at dksX3_put_0 15 rfl rfl)
theorem dX3_put_16 : decode cX3_put 16 = .ok (.iload_n 2, 1) := dk_28 (dk_at dksX3_put_0 16 rfl rfl)
theorem dX3_put_17 : decode cX3_put 17 = .ok (.ishr, 1) := dk_122 (dk_at dksX3_put_0 17 rfl rfl)
theorem dX3_put_18 : decode cX3_put 18 = .ok (.i2b, 1) := dk_145 (dk_at dksX3_put_0 18 rfl rfl)
theorem dX3_put_19 : decode cX3_put 19 = .ok (.bastore, 1) := dk_84 (dk_at dksX3_put_0 19 rfl rfl)
theorem dX3_put_20 : decode cX3_put 20 = .ok (.aload_n 0, 1) := dk_42 (dk_at dksX3_put_0 20 rfl rfl)
theorem dX3_put_21 : decode cX3_put 21 = .ok (.dup, 1) := dk_89 (dk_at dksX3_put_0 21 rfl rfl)
theorem dX3_put_22 : decode cX3_put 22 = .ok (.getfield 192, 3) := dk_180 0 192 (dk_at dksX3_put_1 0 rfl rfl)
theorem dX3_put_25 : decode cX3_put 25 = .ok (.iconst 1, 1) := dk_4 (dk_at dksX3_put_1 3 rfl rfl)
theorem dX3_put_26 : decode cX3_put 26 = .ok (.iadd, 1) := dk_96 (dk_at dksX3_put_1 4 rfl rfl)
theorem dX3_put_27 : decode cX3_put 27 = .ok (.putfield 192, 3) := dk_181 0 192 (dk_at dksX3_put_1 5 rfl rfl)
theorem dX3_put_30 : decode cX3_put 30 = .ok (.iinc 2 (-8), 3) := dk_132 2 248 (dk_at dksX3_put_1 8 rfl rfl)
theorem dX3_put_33 : decode cX3_put 33 = .ok (.goto (-30), 3) := dk_167 255 226 (dk_at dksX3_put_1 11 rfl rfl)
theorem dX3_put_36 : decode cX3_put 36 = .ok (.return_, 1) := dk_177 (dk_at dksX3_put_1 14 rfl rfl)
abbrev cX3_end : ByteArray := prog_13_method_70_code
def yX3_end : MethodName := ⟨RX3, "end", "(I)Z"⟩
def dkwX3_end_1 : List UInt8 := [4, 172]
abbrev dktX3_end_1 : List UInt8 := dkwX3_end_1 ++ []
def dkwX3_end_0 : List UInt8 := [42, 3, 181, 0, 63, 27, 3, 42, 180, 0, 192, 184, 0, 67, 154, 0, 5, 3, 172, 42, 27, 181, 0, 192]
abbrev dktX3_end_0 : List UInt8 := dkwX3_end_0 ++ dktX3_end_1
theorem dksX3_end_0 : cX3_end.data.toList.drop 0 = dktX3_end_0 := by decide +kernel
theorem dksX3_end_1 : cX3_end.data.toList.drop 24 = dktX3_end_1 := dk_seg dksX3_end_0 24 rfl rfl
theorem dX3_end_0 : decode cX3_end 0 = .ok (.aload_n 0, 1) := dk_42 (dk_at dksX3_end_0 0 rfl rfl)
theorem dX3_end_1 : decode cX3_end 1 = .ok (.iconst 0, 1) := dk_3 (dk_at dksX3_end_0 1 rfl rfl)
theorem dX3_end_2 : decode cX3_end 2 = .ok (.putfield 63, 3) := dk_181 0 63 (dk_at dksX3_end_0 2 rfl rfl)
theorem dX3_end_5 : decode cX3_end 5 = .ok (.iload_n 1, 1) := dk_27 (dk_at dksX3_end_0 5 rfl rfl)
theorem dX3_end_6 : decode cX3_end 6 = .ok (.iconst 0, 1) := dk_3 (dk_at dksX3_end_0 6 rfl rfl)
theorem dX3_end_7 : decode cX3_end 7 = .ok (.aload_n 0, 1) := dk_42 (dk_at dksX3_end_0 7 rfl rfl)
theorem dX3_end_8 : decode cX3_end 8 = .ok (.getfield 192, 3) := dk_180 0 192 (dk_at dksX3_end_0 8 rfl rfl)
theorem dX3_end_11 : decode cX3_end 11 = .ok (.invokestatic 67, 3) := dk_184 0 67 (dk_at dksX3_end_0 11 rfl rfl)
theorem dX3_end_14 : decode cX3_end 14 = .ok (.ifCond .ne 5, 3) := dk_154 0 5 (dk_at dksX3_end_0 14 rfl rfl)
theorem dX3_end_17 : decode cX3_end 17 = .ok (.iconst 0, 1) := dk_3 (dk_at dksX3_end_0 17 rfl rfl)
theorem dX3_end_18 : decode cX3_end 18 = .ok (.ireturn, 1) := dk_172 (dk_at dksX3_end_0 18 rfl rfl)
theorem dX3_end_19 : decode cX3_end 19 = .ok (.aload_n 0, 1) := dk_42 (dk_at dksX3_end_0 19 rfl rfl)
theorem dX3_end_20 : decode cX3_end 20 = .ok (.iload_n 1, 1) := dk_27 (dk_at dksX3_end_0 20 rfl rfl)
theorem dX3_end_21 : decode cX3_end 21 = .ok (.putfield 192, 3) := dk_181 0 192 (dk_at dksX3_end_0 21 rfl rfl)
theorem dX3_end_24 : decode cX3_end 24 = .ok (.iconst 1, 1) := dk_4 (dk_at dksX3_end_1 0 rfl rfl)
theorem dX3_end_25 : decode cX3_end 25 = .ok (.ireturn, 1) := dk_172 (dk_at dksX3_end_1 1 rfl rfl)
abbrev cX3_tell : ByteArray := prog_13_method_86_code
def yX3_tell : MethodName := ⟨RX3, "tell", "()I"⟩
def dkwX3_tell_4 : List UInt8 := [132, 2, 1, 167, 255, 234, 2, 172]
abbrev dktX3_tell_4 : List UInt8 := dkwX3_tell_4 ++ []
def dkwX3_tell_3 : List UInt8 := [27, 172, 3, 61, 28, 17, 52, 14, 162, 0, 21, 42, 180, 0, 7, 28, 42, 180, 0, 13, 28, 46, 79]
abbrev dktX3_tell_3 : List UInt8 := dkwX3_tell_3 ++ dktX3_tell_4
def dkwX3_tell_2 : List UInt8 := [182, 0, 223, 2, 159, 0, 13, 42, 182, 1, 30, 132, 1, 1, 167, 255, 234, 42, 180, 0, 220, 154, 0, 5]
abbrev dktX3_tell_2 : List UInt8 := dkwX3_tell_2 ++ dktX3_tell_3
def dkwX3_tell_1 : List UInt8 := [180, 0, 7, 27, 46, 79, 132, 1, 1, 167, 255, 234, 3, 60, 42, 180, 0, 220, 154, 0, 21, 42]
abbrev dktX3_tell_1 : List UInt8 := dkwX3_tell_1 ++ dktX3_tell_2
def dkwX3_tell_0 : List UInt8 := [42, 3, 181, 0, 63, 42, 182, 0, 214, 3, 60, 27, 17, 52, 14, 162, 0, 21, 42, 180, 0, 13, 27, 42]
abbrev dktX3_tell_0 : List UInt8 := dkwX3_tell_0 ++ dktX3_tell_1
theorem dksX3_tell_0 : cX3_tell.data.toList.drop 0 = dktX3_tell_0 := by decide +kernel
theorem dksX3_tell_1 : cX3_tell.data.toList.drop 24 = dktX3_tell_1 := dk_seg dksX3_tell_0 24 rfl rfl
theorem dksX3_tell_2 : cX3_tell.data.toList.drop 46 = dktX3_tell_2 := dk_seg dksX3_tell_1 22 rfl rfl
theorem dksX3_tell_3 : cX3_tell.data.toList.drop 70 = dktX3_tell_3 := dk_seg dksX3_tell_2 24 rfl rfl
theorem dksX3_tell_4 : cX3_tell.data.toList.drop 93 = dktX3_tell_4 := dk_seg dksX3_tell_3 23 rfl rfl
theorem dX3_tell_0 : decode cX3_tell 0 = .ok (.aload_n 0, 1) := dk_42 (dk_at dksX3_tell_0 0 rfl rfl)
theorem dX3_tell_1 : decode cX3_tell 1 = .ok (.iconst 0, 1) := dk_3 (dk_at dksX3_tell_0 1 rfl rfl)
theorem dX3_tell_2 : decode cX3_tell 2 = .ok (.putfield 63, 3) := dk_181 0 63 (dk_at dksX3_tell_0 2 rfl rfl)
theorem dX3_tell_5 : decode cX3_tell 5 = .ok (.aload_n 0, 1) := dk_42 (dk_at dksX3_tell_0 5 rfl rfl)
theorem dX3_tell_6 : decode cX3_tell 6 = .ok (.invokevirtual 214, 3) := dk_182 0 214 (dk_at dksX3_tell_0 6 rfl rfl)
theorem dX3_tell_9 : decode cX3_tell 9 = .ok (.iconst 0, 1) := dk_3 (dk_at dksX3_tell_0 9 rfl rfl)
theorem dX3_tell_10 : decode cX3_tell 10 = .ok (.istore_n 1, 1) := dk_60 (dk_at dksX3_tell_0 10 rfl rfl)
theorem dX3_tell_11 : decode cX3_tell 11 = .ok (.iload_n 1, 1) := dk_27 (dk_at dksX3_tell_0 11 rfl rfl)
theorem dX3_tell_12 : decode cX3_tell 12 = .ok (.sipush 13326, 3) := dk_17 52 14 (dk_at dksX3_tell_0 12 rfl rfl)
theorem dX3_tell_15 : decode cX3_tell 15 = .ok (.if_icmp .ge 21, 3) := dk_162 0 21 (dk_at dksX3_tell_0 15 rfl rfl)
theorem dX3_tell_18 : decode cX3_tell 18 = .ok (.aload_n 0, 1) := dk_42 (dk_at dksX3_tell_0 18 rfl rfl)
theorem dX3_tell_19 : decode cX3_tell 19 = .ok (.getfield 13, 3) := dk_180 0 13 (dk_at dksX3_tell_0 19 rfl rfl)
theorem dX3_tell_22 : decode cX3_tell 22 = .ok (.iload_n 1, 1) := dk_27 (dk_at dksX3_tell_0 22 rfl rfl)
theorem dX3_tell_23 : decode cX3_tell 23 = .ok (.aload_n 0, 1) := dk_42 (dk_at dksX3_tell_0 23 rfl rfl)
theorem dX3_tell_24 : decode cX3_tell 24 = .ok (.getfield 7, 3) := dk_180 0 7 (dk_at dksX3_tell_1 0 rfl rfl)
theorem dX3_tell_27 : decode cX3_tell 27 = .ok (.iload_n 1, 1) := dk_27 (dk_at dksX3_tell_1 3 rfl rfl)
theorem dX3_tell_28 : decode cX3_tell 28 = .ok (.iaload, 1) := dk_46 (dk_at dksX3_tell_1 4 rfl rfl)
theorem dX3_tell_29 : decode cX3_tell 29 = .ok (.iastore, 1) := dk_79 (dk_at dksX3_tell_1 5 rfl rfl)
theorem dX3_tell_30 : decode cX3_tell 30 = .ok (.iinc 1 1, 3) := dk_132 1 1 (dk_at dksX3_tell_1 6 rfl rfl)
theorem dX3_tell_33 : decode cX3_tell 33 = .ok (.goto (-22), 3) := dk_167 255 234 (dk_at dksX3_tell_1 9 rfl rfl)
theorem dX3_tell_36 : decode cX3_tell 36 = .ok (.iconst 0, 1) := dk_3 (dk_at dksX3_tell_1 12 rfl rfl)
theorem dX3_tell_37 : decode cX3_tell 37 = .ok (.istore_n 1, 1) := dk_60 (dk_at dksX3_tell_1 13 rfl rfl)
theorem dX3_tell_38 : decode cX3_tell 38 = .ok (.aload_n 0, 1) := dk_42 (dk_at dksX3_tell_1 14 rfl rfl)
theorem dX3_tell_39 : decode cX3_tell 39 = .ok (.getfield 220, 3) := dk_180 0 220 (dk_at dksX3_tell_1 15 rfl rfl)
theorem dX3_tell_42 : decode cX3_tell 42 = .ok (.ifCond .ne 21, 3) := dk_154 0 21 (dk_at dksX3_tell_1 18 rfl rfl)
theorem dX3_tell_45 : decode cX3_tell 45 = .ok (.aload_n 0, 1) := dk_42 (dk_at dksX3_tell_1 21 rfl rfl)
theorem dX3_tell_46 : decode cX3_tell 46 = .ok (.invokevirtual 223, 3) := dk_182 0 223 (dk_at dksX3_tell_2 0 rfl rfl)
theorem dX3_tell_49 : decode cX3_tell 49 = .ok (.iconst (-1), 1) := dk_2 (dk_at dksX3_tell_2 3 rfl rfl)
theorem dX3_tell_50 : decode cX3_tell 50 = .ok (.if_icmp .eq 13, 3) := dk_159 0 13 (dk_at dksX3_tell_2 4 rfl rfl)
theorem dX3_tell_53 : decode cX3_tell 53 = .ok (.aload_n 0, 1) := dk_42 (dk_at dksX3_tell_2 7 rfl rfl)
theorem dX3_tell_54 : decode cX3_tell 54 = .ok (.invokevirtual 286, 3) := dk_182 1 30 (dk_at dksX3_tell_2 8 rfl rfl)
theorem dX3_tell_57 : decode cX3_tell 57 = .ok (.iinc 1 1, 3) := dk_132 1 1 (dk_at dksX3_tell_2 11 rfl rfl)
theorem dX3_tell_60 : decode cX3_tell 60 = .ok (.goto (-22), 3) := dk_167 255 234 (dk_at dksX3_tell_2 14 rfl rfl)
theorem dX3_tell_63 : decode cX3_tell 63 = .ok (.aload_n 0, 1) := dk_42 (dk_at dksX3_tell_2 17 rfl rfl)
theorem dX3_tell_64 : decode cX3_tell 64 = .ok (.getfield 220, 3) := dk_180 0 220 (dk_at dksX3_tell_2 18 rfl rfl)
theorem dX3_tell_67 : decode cX3_tell 67 = .ok (.ifCond .ne 5, 3) := dk_154 0 5 (dk_at dksX3_tell_2 21 rfl rfl)
theorem dX3_tell_70 : decode cX3_tell 70 = .ok (.iload_n 1, 1) := dk_27 (dk_at dksX3_tell_3 0 rfl rfl)
theorem dX3_tell_71 : decode cX3_tell 71 = .ok (.ireturn, 1) := dk_172 (dk_at dksX3_tell_3 1 rfl rfl)
theorem dX3_tell_72 : decode cX3_tell 72 = .ok (.iconst 0, 1) := dk_3 (dk_at dksX3_tell_3 2 rfl rfl)
theorem dX3_tell_73 : decode cX3_tell 73 = .ok (.istore_n 2, 1) := dk_61 (dk_at dksX3_tell_3 3 rfl rfl)
theorem dX3_tell_74 : decode cX3_tell 74 = .ok (.iload_n 2, 1) := dk_28 (dk_at dksX3_tell_3 4 rfl rfl)
theorem dX3_tell_75 : decode cX3_tell 75 = .ok (.sipush 13326, 3) := dk_17 52 14 (dk_at dksX3_tell_3 5 rfl rfl)
theorem dX3_tell_78 : decode cX3_tell 78 = .ok (.if_icmp .ge 21, 3) := dk_162 0 21 (dk_at dksX3_tell_3 8 rfl rfl)
theorem dX3_tell_81 : decode cX3_tell 81 = .ok (.aload_n 0, 1) := dk_42 (dk_at dksX3_tell_3 11 rfl rfl)
theorem dX3_tell_82 : decode cX3_tell 82 = .ok (.getfield 7, 3) := dk_180 0 7 (dk_at dksX3_tell_3 12 rfl rfl)
theorem dX3_tell_85 : decode cX3_tell 85 = .ok (.iload_n 2, 1) := dk_28 (dk_at dksX3_tell_3 15 rfl rfl)
theorem dX3_tell_86 : decode cX3_tell 86 = .ok (.aload_n 0, 1) := dk_42 (dk_at dksX3_tell_3 16 rfl rfl)
theorem dX3_tell_87 : decode cX3_tell 87 = .ok (.getfield 13, 3) := dk_180 0 13 (dk_at dksX3_tell_3 17 rfl rfl)
theorem dX3_tell_90 : decode cX3_tell 90 = .ok (.iload_n 2, 1) := dk_28 (dk_at dksX3_tell_3 20 rfl rfl)
theorem dX3_tell_91 : decode cX3_tell 91 = .ok (.iaload, 1) := dk_46 (dk_at dksX3_tell_3 21 rfl rfl)
theorem dX3_tell_92 : decode cX3_tell 92 = .ok (.iastore, 1) := dk_79 (dk_at dksX3_tell_3 22 rfl rfl)
theorem dX3_tell_93 : decode cX3_tell 93 = .ok (.iinc 2 1, 3) := dk_132 2 1 (dk_at dksX3_tell_4 0 rfl rfl)
theorem dX3_tell_96 : decode cX3_tell 96 = .ok (.goto (-22), 3) := dk_167 255 234 (dk_at dksX3_tell_4 3 rfl rfl)
theorem dX3_tell_99 : decode cX3_tell 99 = .ok (.iconst (-1), 1) := dk_2 (dk_at dksX3_tell_4 6 rfl rfl)
theorem dX3_tell_100 : decode cX3_tell 100 = .ok (.ireturn, 1) := dk_172 (dk_at dksX3_tell_4 7 rfl rfl)
abbrev cX3_statement : ByteArray := prog_13_method_85_code
def yX3_statement : MethodName := ⟨RX3, "statement", "()V"⟩
def dkwX3_statement_3 : List UInt8 := [182, 0, 248, 177]
abbrev dktX3_statement_3 : List UInt8 := dkwX3_statement_3 ++ []
def dkwX3_statement_2 : List UInt8 := [182, 1, 22, 167, 0, 24, 32, 20, 1, 25, 148, 154, 0, 10, 42, 182, 1, 27, 167, 0, 9, 42, 4, 27]
abbrev dktX3_statement_2 : List UInt8 := dkwX3_statement_2 ++ dktX3_statement_3
def dkwX3_statement_1 : List UInt8 := [20, 1, 15, 148, 154, 0, 10, 42, 182, 1, 17, 167, 0, 39, 32, 20, 1, 20, 148, 154, 0, 10, 42]
abbrev dktX3_statement_1 : List UInt8 := dkwX3_statement_1 ++ dktX3_statement_2
def dkwX3_statement_0 : List UInt8 := [42, 182, 1, 2, 153, 0, 8, 42, 182, 1, 8, 177, 42, 180, 0, 233, 60, 42, 182, 1, 11, 65, 32]
abbrev dktX3_statement_0 : List UInt8 := dkwX3_statement_0 ++ dktX3_statement_1
theorem dksX3_statement_0 : cX3_statement.data.toList.drop 0 = dktX3_statement_0 := by decide +kernel
theorem dksX3_statement_1 : cX3_statement.data.toList.drop 23 = dktX3_statement_1 := dk_seg dksX3_statement_0 23 rfl rfl
theorem dksX3_statement_2 : cX3_statement.data.toList.drop 46 = dktX3_statement_2 := dk_seg dksX3_statement_1 23 rfl rfl
theorem dksX3_statement_3 : cX3_statement.data.toList.drop 70 = dktX3_statement_3 := dk_seg dksX3_statement_2 24 rfl rfl
theorem dX3_statement_0 : decode cX3_statement 0 = .ok (.aload_n 0, 1) := dk_42 (dk_at dksX3_statement_0 0 rfl rfl)
theorem dX3_statement_1 : decode cX3_statement 1 = .ok (.invokevirtual 258, 3) := dk_182 1 2 (dk_at dksX3_statement_0 1 rfl rfl)
theorem dX3_statement_4 : decode cX3_statement 4 = .ok (.ifCond .eq 8, 3) := dk_153 0 8 (dk_at dksX3_statement_0 4 rfl rfl)
theorem dX3_statement_7 : decode cX3_statement 7 = .ok (.aload_n 0, 1) := dk_42 (dk_at dksX3_statement_0 7 rfl rfl)
theorem dX3_statement_8 : decode cX3_statement 8 = .ok (.invokevirtual 264, 3) := dk_182 1 8 (dk_at dksX3_statement_0 8 rfl rfl)
theorem dX3_statement_11 : decode cX3_statement 11 = .ok (.return_, 1) := dk_177 (dk_at dksX3_statement_0 11 rfl rfl)
theorem dX3_statement_12 : decode cX3_statement 12 = .ok (.aload_n 0, 1) := dk_42 (dk_at dksX3_statement_0 12 rfl rfl)
theorem dX3_statement_13 : decode cX3_statement 13 = .ok (.getfield 233, 3) := dk_180 0 233 (dk_at dksX3_statement_0 13 rfl rfl)
theorem dX3_statement_16 : decode cX3_statement 16 = .ok (.istore_n 1, 1) := dk_60 (dk_at dksX3_statement_0 16 rfl rfl)
theorem dX3_statement_17 : decode cX3_statement 17 = .ok (.aload_n 0, 1) := dk_42 (dk_at dksX3_statement_0 17 rfl rfl)
theorem dX3_statement_18 : decode cX3_statement 18 = .ok (.invokevirtual 267, 3) := dk_182 1 11 (dk_at dksX3_statement_0 18 rfl rfl)
theorem dX3_statement_21 : decode cX3_statement 21 = .ok (.lstore_n 2, 1) := dk_65 (dk_at dksX3_statement_0 21 rfl rfl)
theorem dX3_statement_22 : decode cX3_statement 22 = .ok (.lload_n 2, 1) := dk_32 (dk_at dksX3_statement_0 22 rfl rfl)
theorem dX3_statement_23 : decode cX3_statement 23 = .ok (.ldc2_w 271, 3) := dk_20 1 15 (dk_at dksX3_statement_1 0 rfl rfl)
theorem dX3_statement_26 : decode cX3_statement 26 = .ok (.lcmp, 1) := dk_148 (dk_at dksX3_statement_1 3 rfl rfl)
theorem dX3_statement_27 : decode cX3_statement 27 = .ok (.ifCond .ne 10, 3) := dk_154 0 10 (dk_at dksX3_statement_1 4 rfl rfl)
theorem dX3_statement_30 : decode cX3_statement 30 = .ok (.aload_n 0, 1) := dk_42 (dk_at dksX3_statement_1 7 rfl rfl)
theorem dX3_statement_31 : decode cX3_statement 31 = .ok (.invokevirtual 273, 3) := dk_182 1 17 (dk_at dksX3_statement_1 8 rfl rfl)
theorem dX3_statement_34 : decode cX3_statement 34 = .ok (.goto 39, 3) := dk_167 0 39 (dk_at dksX3_statement_1 11 rfl rfl)
theorem dX3_statement_37 : decode cX3_statement 37 = .ok (.lload_n 2, 1) := dk_32 (dk_at dksX3_statement_1 14 rfl rfl)
theorem dX3_statement_38 : decode cX3_statement 38 = .ok (.ldc2_w 276, 3) := dk_20 1 20 (dk_at dksX3_statement_1 15 rfl rfl)
theorem dX3_statement_41 : decode cX3_statement 41 = .ok (.lcmp, 1) := dk_148 (dk_at dksX3_statement_1 18 rfl rfl)
theorem dX3_statement_42 : decode cX3_statement 42 = .ok (.ifCond .ne 10, 3) := dk_154 0 10 (dk_at dksX3_statement_1 19 rfl rfl)
theorem dX3_statement_45 : decode cX3_statement 45 = .ok (.aload_n 0, 1) := dk_42 (dk_at dksX3_statement_1 22 rfl rfl)
theorem dX3_statement_46 : decode cX3_statement 46 = .ok (.invokevirtual 278, 3) := dk_182 1 22 (dk_at dksX3_statement_2 0 rfl rfl)
theorem dX3_statement_49 : decode cX3_statement 49 = .ok (.goto 24, 3) := dk_167 0 24 (dk_at dksX3_statement_2 3 rfl rfl)
theorem dX3_statement_52 : decode cX3_statement 52 = .ok (.lload_n 2, 1) := dk_32 (dk_at dksX3_statement_2 6 rfl rfl)
theorem dX3_statement_53 : decode cX3_statement 53 = .ok (.ldc2_w 281, 3) := dk_20 1 25 (dk_at dksX3_statement_2 7 rfl rfl)
theorem dX3_statement_56 : decode cX3_statement 56 = .ok (.lcmp, 1) := dk_148 (dk_at dksX3_statement_2 10 rfl rfl)
theorem dX3_statement_57 : decode cX3_statement 57 = .ok (.ifCond .ne 10, 3) := dk_154 0 10 (dk_at dksX3_statement_2 11 rfl rfl)
theorem dX3_statement_60 : decode cX3_statement 60 = .ok (.aload_n 0, 1) := dk_42 (dk_at dksX3_statement_2 14 rfl rfl)
theorem dX3_statement_61 : decode cX3_statement 61 = .ok (.invokevirtual 283, 3) := dk_182 1 27 (dk_at dksX3_statement_2 15 rfl rfl)
theorem dX3_statement_64 : decode cX3_statement 64 = .ok (.goto 9, 3) := dk_167 0 9 (dk_at dksX3_statement_2 18 rfl rfl)
theorem dX3_statement_67 : decode cX3_statement 67 = .ok (.aload_n 0, 1) := dk_42 (dk_at dksX3_statement_2 21 rfl rfl)
theorem dX3_statement_68 : decode cX3_statement 68 = .ok (.iconst 1, 1) := dk_4 (dk_at dksX3_statement_2 22 rfl rfl)
theorem dX3_statement_69 : decode cX3_statement 69 = .ok (.iload_n 1, 1) := dk_27 (dk_at dksX3_statement_2 23 rfl rfl)
theorem dX3_statement_70 : decode cX3_statement 70 = .ok (.invokevirtual 248, 3) := dk_182 0 248 (dk_at dksX3_statement_3 0 rfl rfl)
theorem dX3_statement_73 : decode cX3_statement 73 = .ok (.return_, 1) := dk_177 (dk_at dksX3_statement_3 3 rfl rfl)
abbrev cX3_isLit : ByteArray := prog_13_method_78_code
def yX3_isLit : MethodName := ⟨RX3, "isLit", "()Z"⟩
def dkwX3_isLit_0 : List UInt8 := [42, 182, 0, 223, 16, 45, 159, 0, 10, 42, 182, 0, 245, 153, 0, 7, 4, 167, 0, 4, 3, 172]
abbrev dktX3_isLit_0 : List UInt8 := dkwX3_isLit_0 ++ []
theorem dksX3_isLit_0 : cX3_isLit.data.toList.drop 0 = dktX3_isLit_0 := by decide +kernel
theorem dX3_isLit_0 : decode cX3_isLit 0 = .ok (.aload_n 0, 1) := dk_42 (dk_at dksX3_isLit_0 0 rfl rfl)
theorem dX3_isLit_1 : decode cX3_isLit 1 = .ok (.invokevirtual 223, 3) := dk_182 0 223 (dk_at dksX3_isLit_0 1 rfl rfl)
theorem dX3_isLit_4 : decode cX3_isLit 4 = .ok (.bipush 45, 2) := dk_16 45 (dk_at dksX3_isLit_0 4 rfl rfl)
theorem dX3_isLit_6 : decode cX3_isLit 6 = .ok (.if_icmp .eq 10, 3) := dk_159 0 10 (dk_at dksX3_isLit_0 6 rfl rfl)
theorem dX3_isLit_9 : decode cX3_isLit 9 = .ok (.aload_n 0, 1) := dk_42 (dk_at dksX3_isLit_0 9 rfl rfl)
theorem dX3_isLit_10 : decode cX3_isLit 10 = .ok (.invokevirtual 245, 3) := dk_182 0 245 (dk_at dksX3_isLit_0 10 rfl rfl)
theorem dX3_isLit_13 : decode cX3_isLit 13 = .ok (.ifCond .eq 7, 3) := dk_153 0 7 (dk_at dksX3_isLit_0 13 rfl rfl)
theorem dX3_isLit_16 : decode cX3_isLit 16 = .ok (.iconst 1, 1) := dk_4 (dk_at dksX3_isLit_0 16 rfl rfl)
theorem dX3_isLit_17 : decode cX3_isLit 17 = .ok (.goto 4, 3) := dk_167 0 4 (dk_at dksX3_isLit_0 17 rfl rfl)
theorem dX3_isLit_20 : decode cX3_isLit 20 = .ok (.iconst 0, 1) := dk_3 (dk_at dksX3_isLit_0 20 rfl rfl)
theorem dX3_isLit_21 : decode cX3_isLit 21 = .ok (.ireturn, 1) := dk_172 (dk_at dksX3_isLit_0 21 rfl rfl)
abbrev cX3_clauseTold : ByteArray := prog_13_method_81_code
def yX3_clauseTold : MethodName := ⟨RX3, "clauseTold", "()V"⟩
def dkwX3_clauseTold_5 : List UInt8 := [96, 21, 4, 96, 42, 180, 0, 60, 21, 4, 46, 79, 132, 4, 1, 167, 255, 224, 177]
abbrev dktX3_clauseTold_5 : List UInt8 := dkwX3_clauseTold_5 ++ []
def dkwX3_clauseTold_4 : List UInt8 := [182, 0, 89, 62, 3, 54, 4, 21, 4, 28, 162, 0, 32, 42, 180, 0, 7, 17, 5, 46, 16, 30, 29, 104]
abbrev dktX3_clauseTold_4 : List UInt8 := dkwX3_clauseTold_4 ++ dktX3_clauseTold_5
def dkwX3_clauseTold_3 : List UInt8 := [29, 79, 132, 2, 1, 167, 255, 200, 42, 182, 1, 5, 42, 180, 0, 220, 153, 0, 4, 177, 42, 3, 28]
abbrev dktX3_clauseTold_3 : List UInt8 := dkwX3_clauseTold_3 ++ dktX3_clauseTold_4
def dkwX3_clauseTold_2 : List UInt8 := [160, 0, 7, 4, 167, 0, 4, 3, 182, 0, 229, 62, 42, 180, 0, 220, 154, 0, 10, 42, 180, 0, 60, 28]
abbrev dktX3_clauseTold_2 : List UInt8 := dkwX3_clauseTold_2 ++ dktX3_clauseTold_3
def dkwX3_clauseTold_1 : List UInt8 := [154, 0, 55, 28, 153, 0, 10, 42, 182, 1, 2, 153, 0, 44, 42, 4, 27, 154, 0, 9, 28, 16, 8]
abbrev dktX3_clauseTold_1 : List UInt8 := dkwX3_clauseTold_1 ++ dktX3_clauseTold_2
def dkwX3_clauseTold_0 : List UInt8 := [42, 182, 0, 226, 42, 182, 0, 85, 154, 0, 7, 4, 167, 0, 4, 3, 60, 3, 61, 42, 180, 0, 220]
abbrev dktX3_clauseTold_0 : List UInt8 := dkwX3_clauseTold_0 ++ dktX3_clauseTold_1
theorem dksX3_clauseTold_0 : cX3_clauseTold.data.toList.drop 0 = dktX3_clauseTold_0 := by decide +kernel
theorem dksX3_clauseTold_1 : cX3_clauseTold.data.toList.drop 23 = dktX3_clauseTold_1 := dk_seg dksX3_clauseTold_0 23 rfl rfl
theorem dksX3_clauseTold_2 : cX3_clauseTold.data.toList.drop 46 = dktX3_clauseTold_2 := dk_seg dksX3_clauseTold_1 23 rfl rfl
theorem dksX3_clauseTold_3 : cX3_clauseTold.data.toList.drop 70 = dktX3_clauseTold_3 := dk_seg dksX3_clauseTold_2 24 rfl rfl
theorem dksX3_clauseTold_4 : cX3_clauseTold.data.toList.drop 93 = dktX3_clauseTold_4 := dk_seg dksX3_clauseTold_3 23 rfl rfl
theorem dksX3_clauseTold_5 : cX3_clauseTold.data.toList.drop 117 = dktX3_clauseTold_5 := dk_seg dksX3_clauseTold_4 24 rfl rfl
theorem dX3_clauseTold_0 : decode cX3_clauseTold 0 = .ok (.aload_n 0, 1) := dk_42 (dk_at dksX3_clauseTold_0 0 rfl rfl)
theorem dX3_clauseTold_1 : decode cX3_clauseTold 1 = .ok (.invokevirtual 226, 3) := dk_182 0 226 (dk_at dksX3_clauseTold_0 1 rfl rfl)
theorem dX3_clauseTold_4 : decode cX3_clauseTold 4 = .ok (.aload_n 0, 1) := dk_42 (dk_at dksX3_clauseTold_0 4 rfl rfl)
theorem dX3_clauseTold_5 : decode cX3_clauseTold 5 = .ok (.invokevirtual 85, 3) := dk_182 0 85 (dk_at dksX3_clauseTold_0 5 rfl rfl)
theorem dX3_clauseTold_8 : decode cX3_clauseTold 8 = .ok (.ifCond .ne 7, 3) := dk_154 0 7 (dk_at dksX3_clauseTold_0 8 rfl rfl)
theorem dX3_clauseTold_11 : decode cX3_clauseTold 11 = .ok (.iconst 1, 1) := dk_4 (dk_at dksX3_clauseTold_0 11 rfl rfl)
theorem dX3_clauseTold_12 : decode cX3_clauseTold 12 = .ok (.goto 4, 3) := dk_167 0 4 (dk_at dksX3_clauseTold_0 12 rfl rfl)
theorem dX3_clauseTold_15 : decode cX3_clauseTold 15 = .ok (.iconst 0, 1) := dk_3 (dk_at dksX3_clauseTold_0 15 rfl rfl)
theorem dX3_clauseTold_16 : decode cX3_clauseTold 16 = .ok (.istore_n 1, 1) := dk_60 (dk_at dksX3_clauseTold_0 16 rfl rfl)
theorem dX3_clauseTold_17 : decode cX3_clauseTold 17 = .ok (.iconst 0, 1) := dk_3 (dk_at dksX3_clauseTold_0 17 rfl rfl)
theorem dX3_clauseTold_18 : decode cX3_clauseTold 18 = .ok (.istore_n 2, 1) := dk_61 (dk_at dksX3_clauseTold_0 18 rfl rfl)
theorem dX3_clauseTold_19 : decode cX3_clauseTold 19 = .ok (.aload_n 0, 1) := dk_42 (dk_at dksX3_clauseTold_0 19 rfl rfl)
theorem dX3_clauseTold_20 : decode cX3_clauseTold 20 = .ok (.getfield 220, 3) := dk_180 0 220 (dk_at dksX3_clauseTold_0 20 rfl rfl)
theorem dX3_clauseTold_23 : decode cX3_clauseTold 23 = .ok (.ifCond .ne 55, 3) := dk_154 0 55 (dk_at dksX3_clauseTold_1 0 rfl rfl)
theorem dX3_clauseTold_26 : decode cX3_clauseTold 26 = .ok (.iload_n 2, 1) := dk_28 (dk_at dksX3_clauseTold_1 3 rfl rfl)
theorem dX3_clauseTold_27 : decode cX3_clauseTold 27 = .ok (.ifCond .eq 10, 3) := dk_153 0 10 (dk_at dksX3_clauseTold_1 4 rfl rfl)
theorem dX3_clauseTold_30 : decode cX3_clauseTold 30 = .ok (.aload_n 0, 1) := dk_42 (dk_at dksX3_clauseTold_1 7 rfl rfl)
theorem dX3_clauseTold_31 : decode cX3_clauseTold 31 = .ok (.invokevirtual 258, 3) := dk_182 1 2 (dk_at dksX3_clauseTold_1 8 rfl rfl)
theorem dX3_clauseTold_34 : decode cX3_clauseTold 34 = .ok (.ifCond .eq 44, 3) := dk_153 0 44 (dk_at dksX3_clauseTold_1 11 rfl rfl)
theorem dX3_clauseTold_37 : decode cX3_clauseTold 37 = .ok (.aload_n 0, 1) := dk_42 (dk_at dksX3_clauseTold_1 14 rfl rfl)
theorem dX3_clauseTold_38 : decode cX3_clauseTold 38 = .ok (.iconst 1, 1) := dk_4 (dk_at dksX3_clauseTold_1 15 rfl rfl)
theorem dX3_clauseTold_39 : decode cX3_clauseTold 39 = .ok (.iload_n 1, 1) := dk_27 (dk_at dksX3_clauseTold_1 16 rfl rfl)
theorem dX3_clauseTold_40 : decode cX3_clauseTold 40 = .ok (.ifCond .ne 9, 3) := dk_154 0 9 (dk_at dksX3_clauseTold_1 17 rfl rfl)
theorem dX3_clauseTold_43 : decode cX3_clauseTold 43 = .ok (.iload_n 2, 1) := dk_28 (dk_at dksX3_clauseTold_1 20 rfl rfl)
theorem dX3_clauseTold_44 : decode cX3_clauseTold 44 = .ok (.bipush 8, 2) := dk_16 8 (dk_at dksX3_clauseTold_1 21 rfl rfl)
theorem dX3_clauseTold_46 : decode cX3_clauseTold 46 = .ok (.if_icmp .ne 7, 3) := dk_160 0 7 (dk_at dksX3_clauseTold_2 0 rfl rfl)
theorem dX3_clauseTold_49 : decode cX3_clauseTold 49 = .ok (.iconst 1, 1) := dk_4 (dk_at dksX3_clauseTold_2 3 rfl rfl)
theorem dX3_clauseTold_50 : decode cX3_clauseTold 50 = .ok (.goto 4, 3) := dk_167 0 4 (dk_at dksX3_clauseTold_2 4 rfl rfl)
theorem dX3_clauseTold_53 : decode cX3_clauseTold 53 = .ok (.iconst 0, 1) := dk_3 (dk_at dksX3_clauseTold_2 7 rfl rfl)
theorem dX3_clauseTold_54 : decode cX3_clauseTold 54 = .ok (.invokevirtual 229, 3) := dk_182 0 229 (dk_at dksX3_clauseTold_2 8 rfl rfl)
theorem dX3_clauseTold_57 : decode cX3_clauseTold 57 = .ok (.istore_n 3, 1) := dk_62 (dk_at dksX3_clauseTold_2 11 rfl rfl)
theorem dX3_clauseTold_58 : decode cX3_clauseTold 58 = .ok (.aload_n 0, 1) := dk_42 (dk_at dksX3_clauseTold_2 12 rfl rfl)
theorem dX3_clauseTold_59 : decode cX3_clauseTold 59 = .ok (.getfield 220, 3) := dk_180 0 220 (dk_at dksX3_clauseTold_2 13 rfl rfl)
theorem dX3_clauseTold_62 : decode cX3_clauseTold 62 = .ok (.ifCond .ne 10, 3) := dk_154 0 10 (dk_at dksX3_clauseTold_2 16 rfl rfl)
theorem dX3_clauseTold_65 : decode cX3_clauseTold 65 = .ok (.aload_n 0, 1) := dk_42 (dk_at dksX3_clauseTold_2 19 rfl rfl)
theorem dX3_clauseTold_66 : decode cX3_clauseTold 66 = .ok (.getfield 60, 3) := dk_180 0 60 (dk_at dksX3_clauseTold_2 20 rfl rfl)
theorem dX3_clauseTold_69 : decode cX3_clauseTold 69 = .ok (.iload_n 2, 1) := dk_28 (dk_at dksX3_clauseTold_2 23 rfl rfl)
theorem dX3_clauseTold_70 : decode cX3_clauseTold 70 = .ok (.iload_n 3, 1) := dk_29 (dk_at dksX3_clauseTold_3 0 rfl rfl)
theorem dX3_clauseTold_71 : decode cX3_clauseTold 71 = .ok (.iastore, 1) := dk_79 (dk_at dksX3_clauseTold_3 1 rfl rfl)
theorem dX3_clauseTold_72 : decode cX3_clauseTold 72 = .ok (.iinc 2 1, 3) := dk_132 2 1 (dk_at dksX3_clauseTold_3 2 rfl rfl)
theorem dX3_clauseTold_75 : decode cX3_clauseTold 75 = .ok (.goto (-56), 3) := dk_167 255 200 (dk_at dksX3_clauseTold_3 5 rfl rfl)
theorem dX3_clauseTold_78 : decode cX3_clauseTold 78 = .ok (.aload_n 0, 1) := dk_42 (dk_at dksX3_clauseTold_3 8 rfl rfl)
theorem dX3_clauseTold_79 : decode cX3_clauseTold 79 = .ok (.invokevirtual 261, 3) := dk_182 1 5 (dk_at dksX3_clauseTold_3 9 rfl rfl)
theorem dX3_clauseTold_82 : decode cX3_clauseTold 82 = .ok (.aload_n 0, 1) := dk_42 (dk_at dksX3_clauseTold_3 12 rfl rfl)
theorem dX3_clauseTold_83 : decode cX3_clauseTold 83 = .ok (.getfield 220, 3) := dk_180 0 220 (dk_at dksX3_clauseTold_3 13 rfl rfl)
theorem dX3_clauseTold_86 : decode cX3_clauseTold 86 = .ok (.ifCond .eq 4, 3) := dk_153 0 4 (dk_at dksX3_clauseTold_3 16 rfl rfl)
theorem dX3_clauseTold_89 : decode cX3_clauseTold 89 = .ok (.return_, 1) := dk_177 (dk_at dksX3_clauseTold_3 19 rfl rfl)
theorem dX3_clauseTold_90 : decode cX3_clauseTold 90 = .ok (.aload_n 0, 1) := dk_42 (dk_at dksX3_clauseTold_3 20 rfl rfl)
theorem dX3_clauseTold_91 : decode cX3_clauseTold 91 = .ok (.iconst 0, 1) := dk_3 (dk_at dksX3_clauseTold_3 21 rfl rfl)
theorem dX3_clauseTold_92 : decode cX3_clauseTold 92 = .ok (.iload_n 2, 1) := dk_28 (dk_at dksX3_clauseTold_3 22 rfl rfl)
theorem dX3_clauseTold_93 : decode cX3_clauseTold 93 = .ok (.invokevirtual 89, 3) := dk_182 0 89 (dk_at dksX3_clauseTold_4 0 rfl rfl)
theorem dX3_clauseTold_96 : decode cX3_clauseTold 96 = .ok (.istore_n 3, 1) := dk_62 (dk_at dksX3_clauseTold_4 3 rfl rfl)
theorem dX3_clauseTold_97 : decode cX3_clauseTold 97 = .ok (.iconst 0, 1) := dk_3 (dk_at dksX3_clauseTold_4 4 rfl rfl)
theorem dX3_clauseTold_98 : decode cX3_clauseTold 98 = .ok (.istore 4, 2) := dk_54 4 (dk_at dksX3_clauseTold_4 5 rfl rfl)
theorem dX3_clauseTold_100 : decode cX3_clauseTold 100 = .ok (.iload 4, 2) := dk_21 4 (dk_at dksX3_clauseTold_4 7 rfl rfl)
theorem dX3_clauseTold_102 : decode cX3_clauseTold 102 = .ok (.iload_n 2, 1) := dk_28 (dk_at dksX3_clauseTold_4 9 rfl rfl)
theorem dX3_clauseTold_103 : decode cX3_clauseTold 103 = .ok (.if_icmp .ge 32, 3) := dk_162 0 32 (dk_at dksX3_clauseTold_4 10 rfl rfl)
theorem dX3_clauseTold_106 : decode cX3_clauseTold 106 = .ok (.aload_n 0, 1) := dk_42 (dk_at dksX3_clauseTold_4 13 rfl rfl)
theorem dX3_clauseTold_107 : decode cX3_clauseTold 107 = .ok (.getfield 7, 3) := dk_180 0 7 (dk_at dksX3_clauseTold_4 14 rfl rfl)
theorem dX3_clauseTold_110 : decode cX3_clauseTold 110 = .ok (.sipush 1326, 3) := dk_17 5 46 (dk_at dksX3_clauseTold_4 17 rfl rfl)
theorem dX3_clauseTold_113 : decode cX3_clauseTold 113 = .ok (.bipush 30, 2) := dk_16 30 (dk_at dksX3_clauseTold_4 20 rfl rfl)
theorem dX3_clauseTold_115 : decode cX3_clauseTold 115 = .ok (.iload_n 3, 1) := dk_29 (dk_at dksX3_clauseTold_4 22 rfl rfl)
theorem dX3_clauseTold_116 : decode cX3_clauseTold 116 = .ok (.imul, 1) := dk_104 (dk_at dksX3_clauseTold_4 23 rfl rfl)
theorem dX3_clauseTold_117 : decode cX3_clauseTold 117 = .ok (.iadd, 1) := dk_96 (dk_at dksX3_clauseTold_5 0 rfl rfl)
theorem dX3_clauseTold_118 : decode cX3_clauseTold 118 = .ok (.iload 4, 2) := dk_21 4 (dk_at dksX3_clauseTold_5 1 rfl rfl)
theorem dX3_clauseTold_120 : decode cX3_clauseTold 120 = .ok (.iadd, 1) := dk_96 (dk_at dksX3_clauseTold_5 3 rfl rfl)
theorem dX3_clauseTold_121 : decode cX3_clauseTold 121 = .ok (.aload_n 0, 1) := dk_42 (dk_at dksX3_clauseTold_5 4 rfl rfl)
theorem dX3_clauseTold_122 : decode cX3_clauseTold 122 = .ok (.getfield 60, 3) := dk_180 0 60 (dk_at dksX3_clauseTold_5 5 rfl rfl)
theorem dX3_clauseTold_125 : decode cX3_clauseTold 125 = .ok (.iload 4, 2) := dk_21 4 (dk_at dksX3_clauseTold_5 8 rfl rfl)
theorem dX3_clauseTold_127 : decode cX3_clauseTold 127 = .ok (.iaload, 1) := dk_46 (dk_at dksX3_clauseTold_5 10 rfl rfl)
theorem dX3_clauseTold_128 : decode cX3_clauseTold 128 = .ok (.iastore, 1) := dk_79 (dk_at dksX3_clauseTold_5 11 rfl rfl)
theorem dX3_clauseTold_129 : decode cX3_clauseTold 129 = .ok (.iinc 4 1, 3) := dk_132 4 1 (dk_at dksX3_clauseTold_5 12 rfl rfl)
theorem dX3_clauseTold_132 : decode cX3_clauseTold 132 = .ok (.goto (-32), 3) := dk_167 255 224 (dk_at dksX3_clauseTold_5 15 rfl rfl)
theorem dX3_clauseTold_135 : decode cX3_clauseTold 135 = .ok (.return_, 1) := dk_177 (dk_at dksX3_clauseTold_5 18 rfl rfl)
abbrev cX3_endsStatement : ByteArray := prog_13_method_80_code
def yX3_endsStatement : MethodName := ⟨RX3, "endsStatement", "()V"⟩
def dkwX3_endsStatement_1 : List UInt8 := [182, 0, 248, 42, 89, 180, 0, 233, 4, 96, 181, 0, 233, 177]
abbrev dktX3_endsStatement_1 : List UInt8 := dkwX3_endsStatement_1 ++ []
def dkwX3_endsStatement_0 : List UInt8 := [42, 180, 0, 220, 154, 0, 21, 42, 182, 0, 223, 16, 59, 159, 0, 12, 42, 4, 42, 180, 0, 233]
abbrev dktX3_endsStatement_0 : List UInt8 := dkwX3_endsStatement_0 ++ dktX3_endsStatement_1
theorem dksX3_endsStatement_0 : cX3_endsStatement.data.toList.drop 0 = dktX3_endsStatement_0 := by decide +kernel
theorem dksX3_endsStatement_1 : cX3_endsStatement.data.toList.drop 22 = dktX3_endsStatement_1 := dk_seg dksX3_endsStatement_0 22 rfl rfl
theorem dX3_endsStatement_0 : decode cX3_endsStatement 0 = .ok (.aload_n 0, 1) := dk_42 (dk_at dksX3_endsStatement_0 0 rfl rfl)
theorem dX3_endsStatement_1 : decode cX3_endsStatement 1 = .ok (.getfield 220, 3) := dk_180 0 220 (dk_at dksX3_endsStatement_0 1 rfl rfl)
theorem dX3_endsStatement_4 : decode cX3_endsStatement 4 = .ok (.ifCond .ne 21, 3) := dk_154 0 21 (dk_at dksX3_endsStatement_0 4 rfl rfl)
theorem dX3_endsStatement_7 : decode cX3_endsStatement 7 = .ok (.aload_n 0, 1) := dk_42 (dk_at dksX3_endsStatement_0 7 rfl rfl)
theorem dX3_endsStatement_8 : decode cX3_endsStatement 8 = .ok (.invokevirtual 223, 3) := dk_182 0 223 (dk_at dksX3_endsStatement_0 8 rfl rfl)
theorem dX3_endsStatement_11 : decode cX3_endsStatement 11 = .ok (.bipush 59, 2) := dk_16 59 (dk_at dksX3_endsStatement_0 11 rfl rfl)
theorem dX3_endsStatement_13 : decode cX3_endsStatement 13 = .ok (.if_icmp .eq 12, 3) := dk_159 0 12 (dk_at dksX3_endsStatement_0 13 rfl rfl)
theorem dX3_endsStatement_16 : decode cX3_endsStatement 16 = .ok (.aload_n 0, 1) := dk_42 (dk_at dksX3_endsStatement_0 16 rfl rfl)
theorem dX3_endsStatement_17 : decode cX3_endsStatement 17 = .ok (.iconst 1, 1) := dk_4 (dk_at dksX3_endsStatement_0 17 rfl rfl)
theorem dX3_endsStatement_18 : decode cX3_endsStatement 18 = .ok (.aload_n 0, 1) := dk_42 (dk_at dksX3_endsStatement_0 18 rfl rfl)
theorem dX3_endsStatement_19 : decode cX3_endsStatement 19 = .ok (.getfield 233, 3) := dk_180 0 233 (dk_at dksX3_endsStatement_0 19 rfl rfl)
theorem dX3_endsStatement_22 : decode cX3_endsStatement 22 = .ok (.invokevirtual 248, 3) := dk_182 0 248 (dk_at dksX3_endsStatement_1 0 rfl rfl)
theorem dX3_endsStatement_25 : decode cX3_endsStatement 25 = .ok (.aload_n 0, 1) := dk_42 (dk_at dksX3_endsStatement_1 3 rfl rfl)
theorem dX3_endsStatement_26 : decode cX3_endsStatement 26 = .ok (.dup, 1) := dk_89 (dk_at dksX3_endsStatement_1 4 rfl rfl)
theorem dX3_endsStatement_27 : decode cX3_endsStatement 27 = .ok (.getfield 233, 3) := dk_180 0 233 (dk_at dksX3_endsStatement_1 5 rfl rfl)
theorem dX3_endsStatement_30 : decode cX3_endsStatement 30 = .ok (.iconst 1, 1) := dk_4 (dk_at dksX3_endsStatement_1 8 rfl rfl)
theorem dX3_endsStatement_31 : decode cX3_endsStatement 31 = .ok (.iadd, 1) := dk_96 (dk_at dksX3_endsStatement_1 9 rfl rfl)
theorem dX3_endsStatement_32 : decode cX3_endsStatement 32 = .ok (.putfield 233, 3) := dk_181 0 233 (dk_at dksX3_endsStatement_1 10 rfl rfl)
theorem dX3_endsStatement_35 : decode cX3_endsStatement 35 = .ok (.return_, 1) := dk_177 (dk_at dksX3_endsStatement_1 13 rfl rfl)
abbrev cX3_word : ByteArray := prog_13_method_79_code
def yX3_word : MethodName := ⟨RX3, "word", "()J"⟩
def dkwX3_word_3 : List UInt8 := [101, 167, 0, 4, 9, 65, 42, 89, 180, 0, 233, 4, 96, 181, 0, 233, 167, 255, 180, 32, 173]
abbrev dktX3_word_3 : List UInt8 := dkwX3_word_3 ++ []
def dkwX3_word_2 : List UInt8 := [16, 7, 162, 0, 26, 20, 0, 254, 32, 105, 42, 180, 0, 53, 42, 180, 0, 233, 51, 133, 97, 20, 1, 0]
abbrev dktX3_word_2 : List UInt8 := dkwX3_word_2 ++ dktX3_word_3
def dkwX3_word_1 : List UInt8 := [180, 0, 53, 42, 180, 0, 233, 51, 16, 97, 16, 122, 184, 0, 67, 153, 0, 52, 42, 180, 0, 233, 27, 100]
abbrev dktX3_word_1 : List UInt8 := dkwX3_word_1 ++ dktX3_word_2
def dkwX3_word_0 : List UInt8 := [42, 182, 0, 223, 87, 42, 180, 0, 233, 60, 9, 65, 42, 180, 0, 233, 42, 180, 0, 242, 162, 0, 71, 42]
abbrev dktX3_word_0 : List UInt8 := dkwX3_word_0 ++ dktX3_word_1
theorem dksX3_word_0 : cX3_word.data.toList.drop 0 = dktX3_word_0 := by decide +kernel
theorem dksX3_word_1 : cX3_word.data.toList.drop 24 = dktX3_word_1 := dk_seg dksX3_word_0 24 rfl rfl
theorem dksX3_word_2 : cX3_word.data.toList.drop 48 = dktX3_word_2 := dk_seg dksX3_word_1 24 rfl rfl
theorem dksX3_word_3 : cX3_word.data.toList.drop 72 = dktX3_word_3 := dk_seg dksX3_word_2 24 rfl rfl
theorem dX3_word_0 : decode cX3_word 0 = .ok (.aload_n 0, 1) := dk_42 (dk_at dksX3_word_0 0 rfl rfl)
theorem dX3_word_1 : decode cX3_word 1 = .ok (.invokevirtual 223, 3) := dk_182 0 223 (dk_at dksX3_word_0 1 rfl rfl)
theorem dX3_word_4 : decode cX3_word 4 = .ok (.pop, 1) := dk_87 (dk_at dksX3_word_0 4 rfl rfl)
theorem dX3_word_5 : decode cX3_word 5 = .ok (.aload_n 0, 1) := dk_42 (dk_at dksX3_word_0 5 rfl rfl)
theorem dX3_word_6 : decode cX3_word 6 = .ok (.getfield 233, 3) := dk_180 0 233 (dk_at dksX3_word_0 6 rfl rfl)
theorem dX3_word_9 : decode cX3_word 9 = .ok (.istore_n 1, 1) := dk_60 (dk_at dksX3_word_0 9 rfl rfl)
theorem dX3_word_10 : decode cX3_word 10 = .ok (.lconst 0, 1) := dk_9 (dk_at dksX3_word_0 10 rfl rfl)
theorem dX3_word_11 : decode cX3_word 11 = .ok (.lstore_n 2, 1) := dk_65 (dk_at dksX3_word_0 11 rfl rfl)
theorem dX3_word_12 : decode cX3_word 12 = .ok (.aload_n 0, 1) := dk_42 (dk_at dksX3_word_0 12 rfl rfl)
theorem dX3_word_13 : decode cX3_word 13 = .ok (.getfield 233, 3) := dk_180 0 233 (dk_at dksX3_word_0 13 rfl rfl)
theorem dX3_word_16 : decode cX3_word 16 = .ok (.aload_n 0, 1) := dk_42 (dk_at dksX3_word_0 16 rfl rfl)
theorem dX3_word_17 : decode cX3_word 17 = .ok (.getfield 242, 3) := dk_180 0 242 (dk_at dksX3_word_0 17 rfl rfl)
theorem dX3_word_20 : decode cX3_word 20 = .ok (.if_icmp .ge 71, 3) := dk_162 0 71 (dk_at dksX3_word_0 20 rfl rfl)
theorem dX3_word_23 : decode cX3_word 23 = .ok (.aload_n 0, 1) := dk_42 (dk_at dksX3_word_0 23 rfl rfl)
theorem dX3_word_24 : decode cX3_word 24 = .ok (.getfield 53, 3) := dk_180 0 53 (dk_at dksX3_word_1 0 rfl rfl)
theorem dX3_word_27 : decode cX3_word 27 = .ok (.aload_n 0, 1) := dk_42 (dk_at dksX3_word_1 3 rfl rfl)
theorem dX3_word_28 : decode cX3_word 28 = .ok (.getfield 233, 3) := dk_180 0 233 (dk_at dksX3_word_1 4 rfl rfl)
theorem dX3_word_31 : decode cX3_word 31 = .ok (.baload, 1) := dk_51 (dk_at dksX3_word_1 7 rfl rfl)
theorem dX3_word_32 : decode cX3_word 32 = .ok (.bipush 97, 2) := dk_16 97 (dk_at dksX3_word_1 8 rfl rfl)
theorem dX3_word_34 : decode cX3_word 34 = .ok (.bipush 122, 2) := dk_16 122 (dk_at dksX3_word_1 10 rfl rfl)
theorem dX3_word_36 : decode cX3_word 36 = .ok (.invokestatic 67, 3) := dk_184 0 67 (dk_at dksX3_word_1 12 rfl rfl)
theorem dX3_word_39 : decode cX3_word 39 = .ok (.ifCond .eq 52, 3) := dk_153 0 52 (dk_at dksX3_word_1 15 rfl rfl)
theorem dX3_word_42 : decode cX3_word 42 = .ok (.aload_n 0, 1) := dk_42 (dk_at dksX3_word_1 18 rfl rfl)
theorem dX3_word_43 : decode cX3_word 43 = .ok (.getfield 233, 3) := dk_180 0 233 (dk_at dksX3_word_1 19 rfl rfl)
theorem dX3_word_46 : decode cX3_word 46 = .ok (.iload_n 1, 1) := dk_27 (dk_at dksX3_word_1 22 rfl rfl)
theorem dX3_word_47 : decode cX3_word 47 = .ok (.isub, 1) := dk_100 (dk_at dksX3_word_1 23 rfl rfl)
theorem dX3_word_48 : decode cX3_word 48 = .ok (.bipush 7, 2) := dk_16 7 (dk_at dksX3_word_2 0 rfl rfl)
theorem dX3_word_50 : decode cX3_word 50 = .ok (.if_icmp .ge 26, 3) := dk_162 0 26 (dk_at dksX3_word_2 2 rfl rfl)
theorem dX3_word_53 : decode cX3_word 53 = .ok (.ldc2_w 254, 3) := dk_20 0 254 (dk_at dksX3_word_2 5 rfl rfl)
theorem dX3_word_56 : decode cX3_word 56 = .ok (.lload_n 2, 1) := dk_32 (dk_at dksX3_word_2 8 rfl rfl)
theorem dX3_word_57 : decode cX3_word 57 = .ok (.lmul, 1) := dk_105 (dk_at dksX3_word_2 9 rfl rfl)
theorem dX3_word_58 : decode cX3_word 58 = .ok (.aload_n 0, 1) := dk_42 (dk_at dksX3_word_2 10 rfl rfl)
theorem dX3_word_59 : decode cX3_word 59 = .ok (.getfield 53, 3) := dk_180 0 53 (dk_at dksX3_word_2 11 rfl rfl)
theorem dX3_word_62 : decode cX3_word 62 = .ok (.aload_n 0, 1) := dk_42 (dk_at dksX3_word_2 14 rfl rfl)
theorem dX3_word_63 : decode cX3_word 63 = .ok (.getfield 233, 3) := dk_180 0 233 (dk_at dksX3_word_2 15 rfl rfl)
theorem dX3_word_66 : decode cX3_word 66 = .ok (.baload, 1) := dk_51 (dk_at dksX3_word_2 18 rfl rfl)
theorem dX3_word_67 : decode cX3_word 67 = .ok (.i2l, 1) := dk_133 (dk_at dksX3_word_2 19 rfl rfl)
theorem dX3_word_68 : decode cX3_word 68 = .ok (.ladd, 1) := dk_97 (dk_at dksX3_word_2 20 rfl rfl)
theorem dX3_word_69 : decode cX3_word 69 = .ok (.ldc2_w 256, 3) := dk_20 1 0 (dk_at dksX3_word_2 21 rfl rfl)
theorem dX3_word_72 : decode cX3_word 72 = .ok (.lsub, 1) := dk_101 (dk_at dksX3_word_3 0 rfl rfl)
theorem dX3_word_73 : decode cX3_word 73 = .ok (.goto 4, 3) := dk_167 0 4 (dk_at dksX3_word_3 1 rfl rfl)
theorem dX3_word_76 : decode cX3_word 76 = .ok (.lconst 0, 1) := dk_9 (dk_at dksX3_word_3 4 rfl rfl)
theorem dX3_word_77 : decode cX3_word 77 = .ok (.lstore_n 2, 1) := dk_65 (dk_at dksX3_word_3 5 rfl rfl)
theorem dX3_word_78 : decode cX3_word 78 = .ok (.aload_n 0, 1) := dk_42 (dk_at dksX3_word_3 6 rfl rfl)
theorem dX3_word_79 : decode cX3_word 79 = .ok (.dup, 1) := dk_89 (dk_at dksX3_word_3 7 rfl rfl)
theorem dX3_word_80 : decode cX3_word 80 = .ok (.getfield 233, 3) := dk_180 0 233 (dk_at dksX3_word_3 8 rfl rfl)
theorem dX3_word_83 : decode cX3_word 83 = .ok (.iconst 1, 1) := dk_4 (dk_at dksX3_word_3 11 rfl rfl)
theorem dX3_word_84 : decode cX3_word 84 = .ok (.iadd, 1) := dk_96 (dk_at dksX3_word_3 12 rfl rfl)
theorem dX3_word_85 : decode cX3_word 85 = .ok (.putfield 233, 3) := dk_181 0 233 (dk_at dksX3_word_3 13 rfl rfl)
theorem dX3_word_88 : decode cX3_word 88 = .ok (.goto (-76), 3) := dk_167 255 180 (dk_at dksX3_word_3 16 rfl rfl)
theorem dX3_word_91 : decode cX3_word 91 = .ok (.lload_n 2, 1) := dk_32 (dk_at dksX3_word_3 19 rfl rfl)
theorem dX3_word_92 : decode cX3_word 92 = .ok (.lreturn, 1) := dk_173 (dk_at dksX3_word_3 20 rfl rfl)
abbrev cX3_growTold : ByteArray := prog_13_method_84_code
def yX3_growTold : MethodName := ⟨RX3, "growTold", "()V"⟩
def dkwX3_growTold_1 : List UInt8 := [182, 0, 79, 2, 160, 0, 9, 42, 5, 27, 182, 0, 248, 42, 182, 1, 5, 177]
abbrev dktX3_growTold_1 : List UInt8 := dkwX3_growTold_1 ++ []
def dkwX3_growTold_0 : List UInt8 := [42, 182, 0, 223, 87, 42, 180, 0, 233, 60, 42, 182, 0, 251, 61, 42, 180, 0, 220, 154, 0, 18, 42, 28]
abbrev dktX3_growTold_0 : List UInt8 := dkwX3_growTold_0 ++ dktX3_growTold_1
theorem dksX3_growTold_0 : cX3_growTold.data.toList.drop 0 = dktX3_growTold_0 := by decide +kernel
theorem dksX3_growTold_1 : cX3_growTold.data.toList.drop 24 = dktX3_growTold_1 := dk_seg dksX3_growTold_0 24 rfl rfl
theorem dX3_growTold_0 : decode cX3_growTold 0 = .ok (.aload_n 0, 1) := dk_42 (dk_at dksX3_growTold_0 0 rfl rfl)
theorem dX3_growTold_1 : decode cX3_growTold 1 = .ok (.invokevirtual 223, 3) := dk_182 0 223 (dk_at dksX3_growTold_0 1 rfl rfl)
theorem dX3_growTold_4 : decode cX3_growTold 4 = .ok (.pop, 1) := dk_87 (dk_at dksX3_growTold_0 4 rfl rfl)
theorem dX3_growTold_5 : decode cX3_growTold 5 = .ok (.aload_n 0, 1) := dk_42 (dk_at dksX3_growTold_0 5 rfl rfl)
theorem dX3_growTold_6 : decode cX3_growTold 6 = .ok (.getfield 233, 3) := dk_180 0 233 (dk_at dksX3_growTold_0 6 rfl rfl)
theorem dX3_growTold_9 : decode cX3_growTold 9 = .ok (.istore_n 1, 1) := dk_60 (dk_at dksX3_growTold_0 9 rfl rfl)
theorem dX3_growTold_10 : decode cX3_growTold 10 = .ok (.aload_n 0, 1) := dk_42 (dk_at dksX3_growTold_0 10 rfl rfl)
theorem dX3_growTold_11 : decode cX3_growTold 11 = .ok (.invokevirtual 251, 3) := dk_182 0 251 (dk_at dksX3_growTold_0 11 rfl rfl)
theorem dX3_growTold_14 : decode cX3_growTold 14 = .ok (.istore_n 2, 1) := dk_61 (dk_at dksX3_growTold_0 14 rfl rfl)
theorem dX3_growTold_15 : decode cX3_growTold 15 = .ok (.aload_n 0, 1) := dk_42 (dk_at dksX3_growTold_0 15 rfl rfl)
theorem dX3_growTold_16 : decode cX3_growTold 16 = .ok (.getfield 220, 3) := dk_180 0 220 (dk_at dksX3_growTold_0 16 rfl rfl)
theorem dX3_growTold_19 : decode cX3_growTold 19 = .ok (.ifCond .ne 18, 3) := dk_154 0 18 (dk_at dksX3_growTold_0 19 rfl rfl)
theorem dX3_growTold_22 : decode cX3_growTold 22 = .ok (.aload_n 0, 1) := dk_42 (dk_at dksX3_growTold_0 22 rfl rfl)
theorem dX3_growTold_23 : decode cX3_growTold 23 = .ok (.iload_n 2, 1) := dk_28 (dk_at dksX3_growTold_0 23 rfl rfl)
theorem dX3_growTold_24 : decode cX3_growTold 24 = .ok (.invokevirtual 79, 3) := dk_182 0 79 (dk_at dksX3_growTold_1 0 rfl rfl)
theorem dX3_growTold_27 : decode cX3_growTold 27 = .ok (.iconst (-1), 1) := dk_2 (dk_at dksX3_growTold_1 3 rfl rfl)
theorem dX3_growTold_28 : decode cX3_growTold 28 = .ok (.if_icmp .ne 9, 3) := dk_160 0 9 (dk_at dksX3_growTold_1 4 rfl rfl)
theorem dX3_growTold_31 : decode cX3_growTold 31 = .ok (.aload_n 0, 1) := dk_42 (dk_at dksX3_growTold_1 7 rfl rfl)
theorem dX3_growTold_32 : decode cX3_growTold 32 = .ok (.iconst 2, 1) := dk_5 (dk_at dksX3_growTold_1 8 rfl rfl)
theorem dX3_growTold_33 : decode cX3_growTold 33 = .ok (.iload_n 1, 1) := dk_27 (dk_at dksX3_growTold_1 9 rfl rfl)
theorem dX3_growTold_34 : decode cX3_growTold 34 = .ok (.invokevirtual 248, 3) := dk_182 0 248 (dk_at dksX3_growTold_1 10 rfl rfl)
theorem dX3_growTold_37 : decode cX3_growTold 37 = .ok (.aload_n 0, 1) := dk_42 (dk_at dksX3_growTold_1 13 rfl rfl)
theorem dX3_growTold_38 : decode cX3_growTold 38 = .ok (.invokevirtual 261, 3) := dk_182 1 5 (dk_at dksX3_growTold_1 14 rfl rfl)
theorem dX3_growTold_41 : decode cX3_growTold 41 = .ok (.return_, 1) := dk_177 (dk_at dksX3_growTold_1 17 rfl rfl)
abbrev cX3_assumeTold : ByteArray := prog_13_method_82_code
def yX3_assumeTold : MethodName := ⟨RX3, "assumeTold", "()V"⟩
def dkwX3_assumeTold_4 : List UInt8 := [180, 0, 60, 28, 46, 79, 132, 2, 1, 167, 255, 233, 177]
abbrev dktX3_assumeTold_4 : List UInt8 := dkwX3_assumeTold_4 ++ []
def dkwX3_assumeTold_3 : List UInt8 := [42, 180, 0, 7, 6, 27, 79, 3, 61, 28, 27, 162, 0, 24, 42, 180, 0, 7, 16, 16, 28, 96, 42]
abbrev dktX3_assumeTold_3 : List UInt8 := dkwX3_assumeTold_3 ++ dktX3_assumeTold_4
def dkwX3_assumeTold_2 : List UInt8 := [180, 0, 60, 27, 28, 79, 132, 1, 1, 167, 255, 208, 42, 182, 1, 5, 42, 180, 0, 220, 153, 0, 4, 177]
abbrev dktX3_assumeTold_2 : List UInt8 := dkwX3_assumeTold_2 ++ dktX3_assumeTold_3
def dkwX3_assumeTold_1 : List UInt8 := [16, 8, 160, 0, 7, 4, 167, 0, 4, 3, 182, 0, 229, 61, 42, 180, 0, 220, 154, 0, 10, 42]
abbrev dktX3_assumeTold_1 : List UInt8 := dkwX3_assumeTold_1 ++ dktX3_assumeTold_2
def dkwX3_assumeTold_0 : List UInt8 := [42, 182, 0, 226, 3, 60, 42, 180, 0, 220, 154, 0, 47, 42, 182, 1, 2, 153, 0, 40, 42, 4, 27]
abbrev dktX3_assumeTold_0 : List UInt8 := dkwX3_assumeTold_0 ++ dktX3_assumeTold_1
theorem dksX3_assumeTold_0 : cX3_assumeTold.data.toList.drop 0 = dktX3_assumeTold_0 := by decide +kernel
theorem dksX3_assumeTold_1 : cX3_assumeTold.data.toList.drop 23 = dktX3_assumeTold_1 := dk_seg dksX3_assumeTold_0 23 rfl rfl
theorem dksX3_assumeTold_2 : cX3_assumeTold.data.toList.drop 45 = dktX3_assumeTold_2 := dk_seg dksX3_assumeTold_1 22 rfl rfl
theorem dksX3_assumeTold_3 : cX3_assumeTold.data.toList.drop 69 = dktX3_assumeTold_3 := dk_seg dksX3_assumeTold_2 24 rfl rfl
theorem dksX3_assumeTold_4 : cX3_assumeTold.data.toList.drop 92 = dktX3_assumeTold_4 := dk_seg dksX3_assumeTold_3 23 rfl rfl
theorem dX3_assumeTold_0 : decode cX3_assumeTold 0 = .ok (.aload_n 0, 1) := dk_42 (dk_at dksX3_assumeTold_0 0 rfl rfl)
theorem dX3_assumeTold_1 : decode cX3_assumeTold 1 = .ok (.invokevirtual 226, 3) := dk_182 0 226 (dk_at dksX3_assumeTold_0 1 rfl rfl)
theorem dX3_assumeTold_4 : decode cX3_assumeTold 4 = .ok (.iconst 0, 1) := dk_3 (dk_at dksX3_assumeTold_0 4 rfl rfl)
theorem dX3_assumeTold_5 : decode cX3_assumeTold 5 = .ok (.istore_n 1, 1) := dk_60 (dk_at dksX3_assumeTold_0 5 rfl rfl)
theorem dX3_assumeTold_6 : decode cX3_assumeTold 6 = .ok (.aload_n 0, 1) := dk_42 (dk_at dksX3_assumeTold_0 6 rfl rfl)
theorem dX3_assumeTold_7 : decode cX3_assumeTold 7 = .ok (.getfield 220, 3) := dk_180 0 220 (dk_at dksX3_assumeTold_0 7 rfl rfl)
theorem dX3_assumeTold_10 : decode cX3_assumeTold 10 = .ok (.ifCond .ne 47, 3) := dk_154 0 47 (dk_at dksX3_assumeTold_0 10 rfl rfl)
theorem dX3_assumeTold_13 : decode cX3_assumeTold 13 = .ok (.aload_n 0, 1) := dk_42 (dk_at dksX3_assumeTold_0 13 rfl rfl)
theorem dX3_assumeTold_14 : decode cX3_assumeTold 14 = .ok (.invokevirtual 258, 3) := dk_182 1 2 (dk_at dksX3_assumeTold_0 14 rfl rfl)
theorem dX3_assumeTold_17 : decode cX3_assumeTold 17 = .ok (.ifCond .eq 40, 3) := dk_153 0 40 (dk_at dksX3_assumeTold_0 17 rfl rfl)
theorem dX3_assumeTold_20 : decode cX3_assumeTold 20 = .ok (.aload_n 0, 1) := dk_42 (dk_at dksX3_assumeTold_0 20 rfl rfl)
theorem dX3_assumeTold_21 : decode cX3_assumeTold 21 = .ok (.iconst 1, 1) := dk_4 (dk_at dksX3_assumeTold_0 21 rfl rfl)
theorem dX3_assumeTold_22 : decode cX3_assumeTold 22 = .ok (.iload_n 1, 1) := dk_27 (dk_at dksX3_assumeTold_0 22 rfl rfl)
theorem dX3_assumeTold_23 : decode cX3_assumeTold 23 = .ok (.bipush 8, 2) := dk_16 8 (dk_at dksX3_assumeTold_1 0 rfl rfl)
theorem dX3_assumeTold_25 : decode cX3_assumeTold 25 = .ok (.if_icmp .ne 7, 3) := dk_160 0 7 (dk_at dksX3_assumeTold_1 2 rfl rfl)
theorem dX3_assumeTold_28 : decode cX3_assumeTold 28 = .ok (.iconst 1, 1) := dk_4 (dk_at dksX3_assumeTold_1 5 rfl rfl)
theorem dX3_assumeTold_29 : decode cX3_assumeTold 29 = .ok (.goto 4, 3) := dk_167 0 4 (dk_at dksX3_assumeTold_1 6 rfl rfl)
theorem dX3_assumeTold_32 : decode cX3_assumeTold 32 = .ok (.iconst 0, 1) := dk_3 (dk_at dksX3_assumeTold_1 9 rfl rfl)
theorem dX3_assumeTold_33 : decode cX3_assumeTold 33 = .ok (.invokevirtual 229, 3) := dk_182 0 229 (dk_at dksX3_assumeTold_1 10 rfl rfl)
theorem dX3_assumeTold_36 : decode cX3_assumeTold 36 = .ok (.istore_n 2, 1) := dk_61 (dk_at dksX3_assumeTold_1 13 rfl rfl)
theorem dX3_assumeTold_37 : decode cX3_assumeTold 37 = .ok (.aload_n 0, 1) := dk_42 (dk_at dksX3_assumeTold_1 14 rfl rfl)
theorem dX3_assumeTold_38 : decode cX3_assumeTold 38 = .ok (.getfield 220, 3) := dk_180 0 220 (dk_at dksX3_assumeTold_1 15 rfl rfl)
theorem dX3_assumeTold_41 : decode cX3_assumeTold 41 = .ok (.ifCond .ne 10, 3) := dk_154 0 10 (dk_at dksX3_assumeTold_1 18 rfl rfl)
theorem dX3_assumeTold_44 : decode cX3_assumeTold 44 = .ok (.aload_n 0, 1) := dk_42 (dk_at dksX3_assumeTold_1 21 rfl rfl)
theorem dX3_assumeTold_45 : decode cX3_assumeTold 45 = .ok (.getfield 60, 3) := dk_180 0 60 (dk_at dksX3_assumeTold_2 0 rfl rfl)
theorem dX3_assumeTold_48 : decode cX3_assumeTold 48 = .ok (.iload_n 1, 1) := dk_27 (dk_at dksX3_assumeTold_2 3 rfl rfl)
theorem dX3_assumeTold_49 : decode cX3_assumeTold 49 = .ok (.iload_n 2, 1) := dk_28 (dk_at dksX3_assumeTold_2 4 rfl rfl)
theorem dX3_assumeTold_50 : decode cX3_assumeTold 50 = .ok (.iastore, 1) := dk_79 (dk_at dksX3_assumeTold_2 5 rfl rfl)
theorem dX3_assumeTold_51 : decode cX3_assumeTold 51 = .ok (.iinc 1 1, 3) := dk_132 1 1 (dk_at dksX3_assumeTold_2 6 rfl rfl)
theorem dX3_assumeTold_54 : decode cX3_assumeTold 54 = .ok (.goto (-48), 3) := dk_167 255 208 (dk_at dksX3_assumeTold_2 9 rfl rfl)
theorem dX3_assumeTold_57 : decode cX3_assumeTold 57 = .ok (.aload_n 0, 1) := dk_42 (dk_at dksX3_assumeTold_2 12 rfl rfl)
theorem dX3_assumeTold_58 : decode cX3_assumeTold 58 = .ok (.invokevirtual 261, 3) := dk_182 1 5 (dk_at dksX3_assumeTold_2 13 rfl rfl)
theorem dX3_assumeTold_61 : decode cX3_assumeTold 61 = .ok (.aload_n 0, 1) := dk_42 (dk_at dksX3_assumeTold_2 16 rfl rfl)
theorem dX3_assumeTold_62 : decode cX3_assumeTold 62 = .ok (.getfield 220, 3) := dk_180 0 220 (dk_at dksX3_assumeTold_2 17 rfl rfl)
theorem dX3_assumeTold_65 : decode cX3_assumeTold 65 = .ok (.ifCond .eq 4, 3) := dk_153 0 4 (dk_at dksX3_assumeTold_2 20 rfl rfl)
theorem dX3_assumeTold_68 : decode cX3_assumeTold 68 = .ok (.return_, 1) := dk_177 (dk_at dksX3_assumeTold_2 23 rfl rfl)
theorem dX3_assumeTold_69 : decode cX3_assumeTold 69 = .ok (.aload_n 0, 1) := dk_42 (dk_at dksX3_assumeTold_3 0 rfl rfl)
theorem dX3_assumeTold_70 : decode cX3_assumeTold 70 = .ok (.getfield 7, 3) := dk_180 0 7 (dk_at dksX3_assumeTold_3 1 rfl rfl)
theorem dX3_assumeTold_73 : decode cX3_assumeTold 73 = .ok (.iconst 3, 1) := dk_6 (dk_at dksX3_assumeTold_3 4 rfl rfl)
theorem dX3_assumeTold_74 : decode cX3_assumeTold 74 = .ok (.iload_n 1, 1) := dk_27 (dk_at dksX3_assumeTold_3 5 rfl rfl)
theorem dX3_assumeTold_75 : decode cX3_assumeTold 75 = .ok (.iastore, 1) := dk_79 (dk_at dksX3_assumeTold_3 6 rfl rfl)
theorem dX3_assumeTold_76 : decode cX3_assumeTold 76 = .ok (.iconst 0, 1) := dk_3 (dk_at dksX3_assumeTold_3 7 rfl rfl)
theorem dX3_assumeTold_77 : decode cX3_assumeTold 77 = .ok (.istore_n 2, 1) := dk_61 (dk_at dksX3_assumeTold_3 8 rfl rfl)
theorem dX3_assumeTold_78 : decode cX3_assumeTold 78 = .ok (.iload_n 2, 1) := dk_28 (dk_at dksX3_assumeTold_3 9 rfl rfl)
theorem dX3_assumeTold_79 : decode cX3_assumeTold 79 = .ok (.iload_n 1, 1) := dk_27 (dk_at dksX3_assumeTold_3 10 rfl rfl)
theorem dX3_assumeTold_80 : decode cX3_assumeTold 80 = .ok (.if_icmp .ge 24, 3) := dk_162 0 24 (dk_at dksX3_assumeTold_3 11 rfl rfl)
theorem dX3_assumeTold_83 : decode cX3_assumeTold 83 = .ok (.aload_n 0, 1) := dk_42 (dk_at dksX3_assumeTold_3 14 rfl rfl)
theorem dX3_assumeTold_84 : decode cX3_assumeTold 84 = .ok (.getfield 7, 3) := dk_180 0 7 (dk_at dksX3_assumeTold_3 15 rfl rfl)
theorem dX3_assumeTold_87 : decode cX3_assumeTold 87 = .ok (.bipush 16, 2) := dk_16 16 (dk_at dksX3_assumeTold_3 18 rfl rfl)
theorem dX3_assumeTold_89 : decode cX3_assumeTold 89 = .ok (.iload_n 2, 1) := dk_28 (dk_at dksX3_assumeTold_3 20 rfl rfl)
theorem dX3_assumeTold_90 : decode cX3_assumeTold 90 = .ok (.iadd, 1) := dk_96 (dk_at dksX3_assumeTold_3 21 rfl rfl)
theorem dX3_assumeTold_91 : decode cX3_assumeTold 91 = .ok (.aload_n 0, 1) := dk_42 (dk_at dksX3_assumeTold_3 22 rfl rfl)
theorem dX3_assumeTold_92 : decode cX3_assumeTold 92 = .ok (.getfield 60, 3) := dk_180 0 60 (dk_at dksX3_assumeTold_4 0 rfl rfl)
theorem dX3_assumeTold_95 : decode cX3_assumeTold 95 = .ok (.iload_n 2, 1) := dk_28 (dk_at dksX3_assumeTold_4 3 rfl rfl)
theorem dX3_assumeTold_96 : decode cX3_assumeTold 96 = .ok (.iaload, 1) := dk_46 (dk_at dksX3_assumeTold_4 4 rfl rfl)
theorem dX3_assumeTold_97 : decode cX3_assumeTold 97 = .ok (.iastore, 1) := dk_79 (dk_at dksX3_assumeTold_4 5 rfl rfl)
theorem dX3_assumeTold_98 : decode cX3_assumeTold 98 = .ok (.iinc 2 1, 3) := dk_132 2 1 (dk_at dksX3_assumeTold_4 6 rfl rfl)
theorem dX3_assumeTold_101 : decode cX3_assumeTold 101 = .ok (.goto (-23), 3) := dk_167 255 233 (dk_at dksX3_assumeTold_4 9 rfl rfl)
theorem dX3_assumeTold_104 : decode cX3_assumeTold 104 = .ok (.return_, 1) := dk_177 (dk_at dksX3_assumeTold_4 12 rfl rfl)
abbrev cX3_phaseTold : ByteArray := prog_13_method_83_code
def yX3_phaseTold : MethodName := ⟨RX3, "phaseTold", "()V"⟩
def dkwX3_phaseTold_2 : List UInt8 := [158, 0, 7, 4, 167, 0, 4, 3, 79, 3, 60, 167, 255, 201, 42, 182, 1, 5, 177]
abbrev dktX3_phaseTold_2 : List UInt8 := dkwX3_phaseTold_2 ++ []
def dkwX3_phaseTold_1 : List UInt8 := [182, 0, 229, 61, 42, 180, 0, 220, 154, 0, 24, 42, 180, 0, 7, 16, 32, 28, 184, 0, 71, 96, 28]
abbrev dktX3_phaseTold_1 : List UInt8 := dkwX3_phaseTold_1 ++ dktX3_phaseTold_2
def dkwX3_phaseTold_0 : List UInt8 := [4, 60, 42, 180, 0, 220, 154, 0, 54, 27, 154, 0, 10, 42, 182, 1, 2, 153, 0, 43, 42, 3, 3]
abbrev dktX3_phaseTold_0 : List UInt8 := dkwX3_phaseTold_0 ++ dktX3_phaseTold_1
theorem dksX3_phaseTold_0 : cX3_phaseTold.data.toList.drop 0 = dktX3_phaseTold_0 := by decide +kernel
theorem dksX3_phaseTold_1 : cX3_phaseTold.data.toList.drop 23 = dktX3_phaseTold_1 := dk_seg dksX3_phaseTold_0 23 rfl rfl
theorem dksX3_phaseTold_2 : cX3_phaseTold.data.toList.drop 46 = dktX3_phaseTold_2 := dk_seg dksX3_phaseTold_1 23 rfl rfl
theorem dX3_phaseTold_0 : decode cX3_phaseTold 0 = .ok (.iconst 1, 1) := dk_4 (dk_at dksX3_phaseTold_0 0 rfl rfl)
theorem dX3_phaseTold_1 : decode cX3_phaseTold 1 = .ok (.istore_n 1, 1) := dk_60 (dk_at dksX3_phaseTold_0 1 rfl rfl)
theorem dX3_phaseTold_2 : decode cX3_phaseTold 2 = .ok (.aload_n 0, 1) := dk_42 (dk_at dksX3_phaseTold_0 2 rfl rfl)
theorem dX3_phaseTold_3 : decode cX3_phaseTold 3 = .ok (.getfield 220, 3) := dk_180 0 220 (dk_at dksX3_phaseTold_0 3 rfl rfl)
theorem dX3_phaseTold_6 : decode cX3_phaseTold 6 = .ok (.ifCond .ne 54, 3) := dk_154 0 54 (dk_at dksX3_phaseTold_0 6 rfl rfl)
theorem dX3_phaseTold_9 : decode cX3_phaseTold 9 = .ok (.iload_n 1, 1) := dk_27 (dk_at dksX3_phaseTold_0 9 rfl rfl)
theorem dX3_phaseTold_10 : decode cX3_phaseTold 10 = .ok (.ifCond .ne 10, 3) := dk_154 0 10 (dk_at dksX3_phaseTold_0 10 rfl rfl)
theorem dX3_phaseTold_13 : decode cX3_phaseTold 13 = .ok (.aload_n 0, 1) := dk_42 (dk_at dksX3_phaseTold_0 13 rfl rfl)
theorem dX3_phaseTold_14 : decode cX3_phaseTold 14 = .ok (.invokevirtual 258, 3) := dk_182 1 2 (dk_at dksX3_phaseTold_0 14 rfl rfl)
theorem dX3_phaseTold_17 : decode cX3_phaseTold 17 = .ok (.ifCond .eq 43, 3) := dk_153 0 43 (dk_at dksX3_phaseTold_0 17 rfl rfl)
theorem dX3_phaseTold_20 : decode cX3_phaseTold 20 = .ok (.aload_n 0, 1) := dk_42 (dk_at dksX3_phaseTold_0 20 rfl rfl)
theorem dX3_phaseTold_21 : decode cX3_phaseTold 21 = .ok (.iconst 0, 1) := dk_3 (dk_at dksX3_phaseTold_0 21 rfl rfl)
theorem dX3_phaseTold_22 : decode cX3_phaseTold 22 = .ok (.iconst 0, 1) := dk_3 (dk_at dksX3_phaseTold_0 22 rfl rfl)
theorem dX3_phaseTold_23 : decode cX3_phaseTold 23 = .ok (.invokevirtual 229, 3) := dk_182 0 229 (dk_at dksX3_phaseTold_1 0 rfl rfl)
theorem dX3_phaseTold_26 : decode cX3_phaseTold 26 = .ok (.istore_n 2, 1) := dk_61 (dk_at dksX3_phaseTold_1 3 rfl rfl)
theorem dX3_phaseTold_27 : decode cX3_phaseTold 27 = .ok (.aload_n 0, 1) := dk_42 (dk_at dksX3_phaseTold_1 4 rfl rfl)
theorem dX3_phaseTold_28 : decode cX3_phaseTold 28 = .ok (.getfield 220, 3) := dk_180 0 220 (dk_at dksX3_phaseTold_1 5 rfl rfl)
theorem dX3_phaseTold_31 : decode cX3_phaseTold 31 = .ok (.ifCond .ne 24, 3) := dk_154 0 24 (dk_at dksX3_phaseTold_1 8 rfl rfl)
theorem dX3_phaseTold_34 : decode cX3_phaseTold 34 = .ok (.aload_n 0, 1) := dk_42 (dk_at dksX3_phaseTold_1 11 rfl rfl)
theorem dX3_phaseTold_35 : decode cX3_phaseTold 35 = .ok (.getfield 7, 3) := dk_180 0 7 (dk_at dksX3_phaseTold_1 12 rfl rfl)
theorem dX3_phaseTold_38 : decode cX3_phaseTold 38 = .ok (.bipush 32, 2) := dk_16 32 (dk_at dksX3_phaseTold_1 15 rfl rfl)
theorem dX3_phaseTold_40 : decode cX3_phaseTold 40 = .ok (.iload_n 2, 1) := dk_28 (dk_at dksX3_phaseTold_1 17 rfl rfl)
theorem dX3_phaseTold_41 : decode cX3_phaseTold 41 = .ok (.invokestatic 71, 3) := dk_184 0 71 (dk_at dksX3_phaseTold_1 18 rfl rfl)
theorem dX3_phaseTold_44 : decode cX3_phaseTold 44 = .ok (.iadd, 1) := dk_96 (dk_at dksX3_phaseTold_1 21 rfl rfl)
theorem dX3_phaseTold_45 : decode cX3_phaseTold 45 = .ok (.iload_n 2, 1) := dk_28 (dk_at dksX3_phaseTold_1 22 rfl rfl)
theorem dX3_phaseTold_46 : decode cX3_phaseTold 46 = .ok (.ifCond .le 7, 3) := dk_158 0 7 (dk_at dksX3_phaseTold_2 0 rfl rfl)
theorem dX3_phaseTold_49 : decode cX3_phaseTold 49 = .ok (.iconst 1, 1) := dk_4 (dk_at dksX3_phaseTold_2 3 rfl rfl)
theorem dX3_phaseTold_50 : decode cX3_phaseTold 50 = .ok (.goto 4, 3) := dk_167 0 4 (dk_at dksX3_phaseTold_2 4 rfl rfl)
theorem dX3_phaseTold_53 : decode cX3_phaseTold 53 = .ok (.iconst 0, 1) := dk_3 (dk_at dksX3_phaseTold_2 7 rfl rfl)
theorem dX3_phaseTold_54 : decode cX3_phaseTold 54 = .ok (.iastore, 1) := dk_79 (dk_at dksX3_phaseTold_2 8 rfl rfl)
theorem dX3_phaseTold_55 : decode cX3_phaseTold 55 = .ok (.iconst 0, 1) := dk_3 (dk_at dksX3_phaseTold_2 9 rfl rfl)
theorem dX3_phaseTold_56 : decode cX3_phaseTold 56 = .ok (.istore_n 1, 1) := dk_60 (dk_at dksX3_phaseTold_2 10 rfl rfl)
theorem dX3_phaseTold_57 : decode cX3_phaseTold 57 = .ok (.goto (-55), 3) := dk_167 255 201 (dk_at dksX3_phaseTold_2 11 rfl rfl)
theorem dX3_phaseTold_60 : decode cX3_phaseTold 60 = .ok (.aload_n 0, 1) := dk_42 (dk_at dksX3_phaseTold_2 14 rfl rfl)
theorem dX3_phaseTold_61 : decode cX3_phaseTold 61 = .ok (.invokevirtual 261, 3) := dk_182 1 5 (dk_at dksX3_phaseTold_2 15 rfl rfl)
theorem dX3_phaseTold_64 : decode cX3_phaseTold 64 = .ok (.return_, 1) := dk_177 (dk_at dksX3_phaseTold_2 18 rfl rfl)
abbrev cX3_fault : ByteArray := prog_13_method_87_code
def yX3_fault : MethodName := ⟨RX3, "fault", "()I"⟩
def dkwX3_fault_0 : List UInt8 := [42, 3, 181, 0, 63, 42, 180, 0, 220, 172]
abbrev dktX3_fault_0 : List UInt8 := dkwX3_fault_0 ++ []
theorem dksX3_fault_0 : cX3_fault.data.toList.drop 0 = dktX3_fault_0 := by decide +kernel
theorem dX3_fault_0 : decode cX3_fault 0 = .ok (.aload_n 0, 1) := dk_42 (dk_at dksX3_fault_0 0 rfl rfl)
theorem dX3_fault_1 : decode cX3_fault 1 = .ok (.iconst 0, 1) := dk_3 (dk_at dksX3_fault_0 1 rfl rfl)
theorem dX3_fault_2 : decode cX3_fault 2 = .ok (.putfield 63, 3) := dk_181 0 63 (dk_at dksX3_fault_0 2 rfl rfl)
theorem dX3_fault_5 : decode cX3_fault 5 = .ok (.aload_n 0, 1) := dk_42 (dk_at dksX3_fault_0 5 rfl rfl)
theorem dX3_fault_6 : decode cX3_fault 6 = .ok (.getfield 220, 3) := dk_180 0 220 (dk_at dksX3_fault_0 6 rfl rfl)
theorem dX3_fault_9 : decode cX3_fault 9 = .ok (.ireturn, 1) := dk_172 (dk_at dksX3_fault_0 9 rfl rfl)
theorem q110 : (Jvm.Cond.initialized "LearntReasonsModel") ∈ lw_all := lw_g (lw_at lw_m1 6 rfl) rfl
theorem q459 : (Jvm.Cond.selects "LearntReasonsModel" ({ cls := "java/lang/Object", name := "getClass", desc := "()Ljava/lang/Class;" } : Jvm.MethodName) ({ cls := "java/lang/Object", name := "getClass", desc := "()Ljava/lang/Class;" } : Jvm.MethodName)) ∈ lw_all := lw_g (lw_at lw_m2 115 rfl) rfl
theorem q1481 : (Jvm.Cond.instantiable "LearntReasonsModel" (28 : Nat)) ∈ lw_all := lw_g (lw_at lw_m6 177 rfl) rfl
theorem q1483 : (Jvm.Cond.instanceMethod ({ cls := "LearntReasonsModel", name := "<init>", desc := "()V" } : Jvm.MethodName)) ∈ lw_all := lw_g (lw_at lw_m6 179 rfl) rfl
theorem q1484 : (Jvm.Cond.code ({ cls := "LearntReasonsModel", name := "<init>", desc := "()V" } : Jvm.MethodName) prog_13_method_1_code (1 : Nat) (Option.none : Option Jvm.ClassFile.FieldType)) ∈ lw_all := lw_g (lw_at lw_m6 180 rfl) rfl
theorem q1485 : (Jvm.Cond.methodLink "LearntReasonsModel" (1 : Nat) ({ cls := "java/lang/Object", name := "<init>", desc := "()V" } : Jvm.MethodName)) ∈ lw_all := lw_g (lw_at lw_m6 181 rfl) rfl
theorem q1486 : (Jvm.Cond.fieldLink "LearntReasonsModel" (63 : Nat) "LearntReasonsModel" "thrown" "I") ∈ lw_all := lw_g (lw_at lw_m6 182 rfl) rfl
theorem q1487 : (Jvm.Cond.fieldLink "LearntReasonsModel" (7 : Nat) "LearntReasonsModel" "row" "[I") ∈ lw_all := lw_g (lw_at lw_m6 183 rfl) rfl
theorem q1488 : (Jvm.Cond.fieldLink "LearntReasonsModel" (13 : Nat) "LearntReasonsModel" "before" "[I") ∈ lw_all := lw_g (lw_at lw_m6 184 rfl) rfl
theorem q1489 : (Jvm.Cond.fieldLink "LearntReasonsModel" (16 : Nat) "LearntReasonsModel" "kept" "[I") ∈ lw_all := lw_g (lw_at lw_m6 185 rfl) rfl
theorem q1490 : (Jvm.Cond.fieldLink "LearntReasonsModel" (19 : Nat) "LearntReasonsModel" "isKept" "[Z") ∈ lw_all := lw_g (lw_at lw_m6 186 rfl) rfl
theorem q1491 : (Jvm.Cond.fieldLink "LearntReasonsModel" (23 : Nat) "LearntReasonsModel" "is" "[I") ∈ lw_all := lw_g (lw_at lw_m6 187 rfl) rfl
theorem q1492 : (Jvm.Cond.fieldLink "LearntReasonsModel" (26 : Nat) "LearntReasonsModel" "levelOf" "[I") ∈ lw_all := lw_g (lw_at lw_m6 188 rfl) rfl
theorem q1493 : (Jvm.Cond.fieldLink "LearntReasonsModel" (29 : Nat) "LearntReasonsModel" "reason" "[I") ∈ lw_all := lw_g (lw_at lw_m6 189 rfl) rfl
theorem q1494 : (Jvm.Cond.fieldLink "LearntReasonsModel" (32 : Nat) "LearntReasonsModel" "placeOf" "[I") ∈ lw_all := lw_g (lw_at lw_m6 190 rfl) rfl
theorem q1495 : (Jvm.Cond.fieldLink "LearntReasonsModel" (35 : Nat) "LearntReasonsModel" "trail" "[I") ∈ lw_all := lw_g (lw_at lw_m6 191 rfl) rfl
theorem q1496 : (Jvm.Cond.fieldLink "LearntReasonsModel" (102 : Nat) "LearntReasonsModel" "trailed" "I") ∈ lw_all := lw_g (lw_at lw_m6 192 rfl) rfl
theorem q1497 : (Jvm.Cond.fieldLink "LearntReasonsModel" (105 : Nat) "LearntReasonsModel" "level" "I") ∈ lw_all := lw_g (lw_at lw_m6 193 rfl) rfl
theorem q1498 : (Jvm.Cond.fieldLink "LearntReasonsModel" (38 : Nat) "LearntReasonsModel" "isThere" "[Z") ∈ lw_all := lw_g (lw_at lw_m6 194 rfl) rfl
theorem q1499 : (Jvm.Cond.fieldLink "LearntReasonsModel" (41 : Nat) "LearntReasonsModel" "isSeen" "[Z") ∈ lw_all := lw_g (lw_at lw_m6 195 rfl) rfl
theorem q1500 : (Jvm.Cond.fieldLink "LearntReasonsModel" (44 : Nat) "LearntReasonsModel" "wasLeft" "[Z") ∈ lw_all := lw_g (lw_at lw_m6 196 rfl) rfl
theorem q1501 : (Jvm.Cond.fieldLink "LearntReasonsModel" (159 : Nat) "LearntReasonsModel" "conflicts" "I") ∈ lw_all := lw_g (lw_at lw_m6 197 rfl) rfl
theorem q1502 : (Jvm.Cond.fieldLink "LearntReasonsModel" (141 : Nat) "LearntReasonsModel" "sinceAnew" "I") ∈ lw_all := lw_g (lw_at lw_m6 198 rfl) rfl
theorem q1503 : (Jvm.Cond.fieldLink "LearntReasonsModel" (144 : Nat) "LearntReasonsModel" "anews" "I") ∈ lw_all := lw_g (lw_at lw_m6 199 rfl) rfl
theorem q1504 : (Jvm.Cond.fieldLink "LearntReasonsModel" (47 : Nat) "LearntReasonsModel" "readLiterals" "[I") ∈ lw_all := lw_g (lw_at lw_m6 200 rfl) rfl
theorem q1505 : (Jvm.Cond.fieldLink "LearntReasonsModel" (50 : Nat) "LearntReasonsModel" "readFrom" "[I") ∈ lw_all := lw_g (lw_at lw_m6 201 rfl) rfl
theorem q1506 : (Jvm.Cond.fieldLink "LearntReasonsModel" (217 : Nat) "LearntReasonsModel" "readMany" "I") ∈ lw_all := lw_g (lw_at lw_m6 202 rfl) rfl
theorem q1507 : (Jvm.Cond.fieldLink "LearntReasonsModel" (53 : Nat) "LearntReasonsModel" "tape" "[B") ∈ lw_all := lw_g (lw_at lw_m6 203 rfl) rfl
theorem q1508 : (Jvm.Cond.fieldLink "LearntReasonsModel" (192 : Nat) "LearntReasonsModel" "taped" "I") ∈ lw_all := lw_g (lw_at lw_m6 204 rfl) rfl
theorem q1509 : (Jvm.Cond.fieldLink "LearntReasonsModel" (242 : Nat) "LearntReasonsModel" "length" "I") ∈ lw_all := lw_g (lw_at lw_m6 205 rfl) rfl
theorem q1510 : (Jvm.Cond.fieldLink "LearntReasonsModel" (233 : Nat) "LearntReasonsModel" "place" "I") ∈ lw_all := lw_g (lw_at lw_m6 206 rfl) rfl
theorem q1511 : (Jvm.Cond.fieldLink "LearntReasonsModel" (220 : Nat) "LearntReasonsModel" "fault" "I") ∈ lw_all := lw_g (lw_at lw_m6 207 rfl) rfl
theorem q1512 : (Jvm.Cond.fieldLink "LearntReasonsModel" (57 : Nat) "LearntReasonsModel" "isTold" "[Z") ∈ lw_all := lw_g (lw_at lw_m6 208 rfl) rfl
theorem q1513 : (Jvm.Cond.fieldLink "LearntReasonsModel" (60 : Nat) "LearntReasonsModel" "lits" "[I") ∈ lw_all := lw_g (lw_at lw_m6 209 rfl) rfl
theorem q1514 : (Jvm.Cond.lays "LearntReasonsModel" "LearntReasonsModel" "thrown" "I") ∈ lw_all := lw_g (lw_at lw_m6 210 rfl) rfl
theorem q1515 : (Jvm.Cond.soleField "LearntReasonsModel" "thrown") ∈ lw_all := lw_g (lw_at lw_m6 211 rfl) rfl
theorem q1516 : (Jvm.Cond.laysFinal "LearntReasonsModel" "LearntReasonsModel" "row" "[I") ∈ lw_all := lw_g (lw_at lw_m6 212 rfl) rfl
theorem q1517 : (Jvm.Cond.soleField "LearntReasonsModel" "row") ∈ lw_all := lw_g (lw_at lw_m6 213 rfl) rfl
theorem q1518 : (Jvm.Cond.laysFinal "LearntReasonsModel" "LearntReasonsModel" "before" "[I") ∈ lw_all := lw_g (lw_at lw_m6 214 rfl) rfl
theorem q1519 : (Jvm.Cond.soleField "LearntReasonsModel" "before") ∈ lw_all := lw_g (lw_at lw_m6 215 rfl) rfl
theorem q1520 : (Jvm.Cond.laysFinal "LearntReasonsModel" "LearntReasonsModel" "kept" "[I") ∈ lw_all := lw_g (lw_at lw_m6 216 rfl) rfl
theorem q1521 : (Jvm.Cond.soleField "LearntReasonsModel" "kept") ∈ lw_all := lw_g (lw_at lw_m6 217 rfl) rfl
theorem q1522 : (Jvm.Cond.laysFinal "LearntReasonsModel" "LearntReasonsModel" "isKept" "[Z") ∈ lw_all := lw_g (lw_at lw_m6 218 rfl) rfl
theorem q1523 : (Jvm.Cond.soleField "LearntReasonsModel" "isKept") ∈ lw_all := lw_g (lw_at lw_m6 219 rfl) rfl
theorem q1524 : (Jvm.Cond.laysFinal "LearntReasonsModel" "LearntReasonsModel" "is" "[I") ∈ lw_all := lw_g (lw_at lw_m6 220 rfl) rfl
theorem q1525 : (Jvm.Cond.soleField "LearntReasonsModel" "is") ∈ lw_all := lw_g (lw_at lw_m6 221 rfl) rfl
theorem q1526 : (Jvm.Cond.laysFinal "LearntReasonsModel" "LearntReasonsModel" "levelOf" "[I") ∈ lw_all := lw_g (lw_at lw_m6 222 rfl) rfl
theorem q1527 : (Jvm.Cond.soleField "LearntReasonsModel" "levelOf") ∈ lw_all := lw_g (lw_at lw_m6 223 rfl) rfl
theorem q1528 : (Jvm.Cond.laysFinal "LearntReasonsModel" "LearntReasonsModel" "reason" "[I") ∈ lw_all := lw_g (lw_at lw_m6 224 rfl) rfl
theorem q1529 : (Jvm.Cond.soleField "LearntReasonsModel" "reason") ∈ lw_all := lw_g (lw_at lw_m6 225 rfl) rfl
theorem q1530 : (Jvm.Cond.laysFinal "LearntReasonsModel" "LearntReasonsModel" "placeOf" "[I") ∈ lw_all := lw_g (lw_at lw_m6 226 rfl) rfl
theorem q1531 : (Jvm.Cond.soleField "LearntReasonsModel" "placeOf") ∈ lw_all := lw_g (lw_at lw_m6 227 rfl) rfl
theorem q1532 : (Jvm.Cond.laysFinal "LearntReasonsModel" "LearntReasonsModel" "trail" "[I") ∈ lw_all := lw_g (lw_at lw_m6 228 rfl) rfl
theorem q1533 : (Jvm.Cond.soleField "LearntReasonsModel" "trail") ∈ lw_all := lw_g (lw_at lw_m6 229 rfl) rfl
theorem q1534 : (Jvm.Cond.lays "LearntReasonsModel" "LearntReasonsModel" "trailed" "I") ∈ lw_all := lw_g (lw_at lw_m6 230 rfl) rfl
theorem q1535 : (Jvm.Cond.soleField "LearntReasonsModel" "trailed") ∈ lw_all := lw_g (lw_at lw_m6 231 rfl) rfl
theorem q1536 : (Jvm.Cond.lays "LearntReasonsModel" "LearntReasonsModel" "level" "I") ∈ lw_all := lw_g (lw_at lw_m6 232 rfl) rfl
theorem q1537 : (Jvm.Cond.soleField "LearntReasonsModel" "level") ∈ lw_all := lw_g (lw_at lw_m6 233 rfl) rfl
theorem q1538 : (Jvm.Cond.laysFinal "LearntReasonsModel" "LearntReasonsModel" "isThere" "[Z") ∈ lw_all := lw_g (lw_at lw_m6 234 rfl) rfl
theorem q1539 : (Jvm.Cond.soleField "LearntReasonsModel" "isThere") ∈ lw_all := lw_g (lw_at lw_m6 235 rfl) rfl
theorem q1540 : (Jvm.Cond.laysFinal "LearntReasonsModel" "LearntReasonsModel" "isSeen" "[Z") ∈ lw_all := lw_g (lw_at lw_m6 236 rfl) rfl
theorem q1541 : (Jvm.Cond.soleField "LearntReasonsModel" "isSeen") ∈ lw_all := lw_g (lw_at lw_m6 237 rfl) rfl
theorem q1542 : (Jvm.Cond.laysFinal "LearntReasonsModel" "LearntReasonsModel" "wasLeft" "[Z") ∈ lw_all := lw_g (lw_at lw_m6 238 rfl) rfl
theorem q1543 : (Jvm.Cond.soleField "LearntReasonsModel" "wasLeft") ∈ lw_all := lw_g (lw_at lw_m6 239 rfl) rfl
theorem q1544 : (Jvm.Cond.lays "LearntReasonsModel" "LearntReasonsModel" "conflicts" "I") ∈ lw_all := lw_g (lw_at lw_m7 0 rfl) rfl
theorem q1545 : (Jvm.Cond.soleField "LearntReasonsModel" "conflicts") ∈ lw_all := lw_g (lw_at lw_m7 1 rfl) rfl
theorem q1546 : (Jvm.Cond.lays "LearntReasonsModel" "LearntReasonsModel" "sinceAnew" "I") ∈ lw_all := lw_g (lw_at lw_m7 2 rfl) rfl
theorem q1547 : (Jvm.Cond.soleField "LearntReasonsModel" "sinceAnew") ∈ lw_all := lw_g (lw_at lw_m7 3 rfl) rfl
theorem q1548 : (Jvm.Cond.lays "LearntReasonsModel" "LearntReasonsModel" "anews" "I") ∈ lw_all := lw_g (lw_at lw_m7 4 rfl) rfl
theorem q1549 : (Jvm.Cond.soleField "LearntReasonsModel" "anews") ∈ lw_all := lw_g (lw_at lw_m7 5 rfl) rfl
theorem q1550 : (Jvm.Cond.laysFinal "LearntReasonsModel" "LearntReasonsModel" "readLiterals" "[I") ∈ lw_all := lw_g (lw_at lw_m7 6 rfl) rfl
theorem q1551 : (Jvm.Cond.soleField "LearntReasonsModel" "readLiterals") ∈ lw_all := lw_g (lw_at lw_m7 7 rfl) rfl
theorem q1552 : (Jvm.Cond.laysFinal "LearntReasonsModel" "LearntReasonsModel" "readFrom" "[I") ∈ lw_all := lw_g (lw_at lw_m7 8 rfl) rfl
theorem q1553 : (Jvm.Cond.soleField "LearntReasonsModel" "readFrom") ∈ lw_all := lw_g (lw_at lw_m7 9 rfl) rfl
theorem q1554 : (Jvm.Cond.lays "LearntReasonsModel" "LearntReasonsModel" "readMany" "I") ∈ lw_all := lw_g (lw_at lw_m7 10 rfl) rfl
theorem q1555 : (Jvm.Cond.soleField "LearntReasonsModel" "readMany") ∈ lw_all := lw_g (lw_at lw_m7 11 rfl) rfl
theorem q1556 : (Jvm.Cond.laysFinal "LearntReasonsModel" "LearntReasonsModel" "tape" "[B") ∈ lw_all := lw_g (lw_at lw_m7 12 rfl) rfl
theorem q1557 : (Jvm.Cond.soleField "LearntReasonsModel" "tape") ∈ lw_all := lw_g (lw_at lw_m7 13 rfl) rfl
theorem q1558 : (Jvm.Cond.lays "LearntReasonsModel" "LearntReasonsModel" "taped" "I") ∈ lw_all := lw_g (lw_at lw_m7 14 rfl) rfl
theorem q1559 : (Jvm.Cond.soleField "LearntReasonsModel" "taped") ∈ lw_all := lw_g (lw_at lw_m7 15 rfl) rfl
theorem q1560 : (Jvm.Cond.lays "LearntReasonsModel" "LearntReasonsModel" "length" "I") ∈ lw_all := lw_g (lw_at lw_m7 16 rfl) rfl
theorem q1561 : (Jvm.Cond.soleField "LearntReasonsModel" "length") ∈ lw_all := lw_g (lw_at lw_m7 17 rfl) rfl
theorem q1562 : (Jvm.Cond.lays "LearntReasonsModel" "LearntReasonsModel" "place" "I") ∈ lw_all := lw_g (lw_at lw_m7 18 rfl) rfl
theorem q1563 : (Jvm.Cond.soleField "LearntReasonsModel" "place") ∈ lw_all := lw_g (lw_at lw_m7 19 rfl) rfl
theorem q1564 : (Jvm.Cond.lays "LearntReasonsModel" "LearntReasonsModel" "fault" "I") ∈ lw_all := lw_g (lw_at lw_m7 20 rfl) rfl
theorem q1565 : (Jvm.Cond.soleField "LearntReasonsModel" "fault") ∈ lw_all := lw_g (lw_at lw_m7 21 rfl) rfl
theorem q1566 : (Jvm.Cond.laysFinal "LearntReasonsModel" "LearntReasonsModel" "isTold" "[Z") ∈ lw_all := lw_g (lw_at lw_m7 22 rfl) rfl
theorem q1567 : (Jvm.Cond.soleField "LearntReasonsModel" "isTold") ∈ lw_all := lw_g (lw_at lw_m7 23 rfl) rfl
theorem q1568 : (Jvm.Cond.laysFinal "LearntReasonsModel" "LearntReasonsModel" "lits" "[I") ∈ lw_all := lw_g (lw_at lw_m7 24 rfl) rfl
theorem q1569 : (Jvm.Cond.soleField "LearntReasonsModel" "lits") ∈ lw_all := lw_g (lw_at lw_m7 25 rfl) rfl
theorem q1570 : (Jvm.Cond.superclass "LearntReasonsModel" "java/lang/Object") ∈ lw_all := lw_g (lw_at lw_m7 26 rfl) rfl
theorem q1572 : (Jvm.Cond.instanceMethod ({ cls := "LearntReasonsModel", name := "thrown", desc := "()I" } : Jvm.MethodName)) ∈ lw_all := lw_g (lw_at lw_m7 28 rfl) rfl
theorem q1573 : (Jvm.Cond.selects "LearntReasonsModel" ({ cls := "LearntReasonsModel", name := "thrown", desc := "()I" } : Jvm.MethodName) ({ cls := "LearntReasonsModel", name := "thrown", desc := "()I" } : Jvm.MethodName)) ∈ lw_all := lw_g (lw_at lw_m7 29 rfl) rfl
theorem q1574 : (Jvm.Cond.code ({ cls := "LearntReasonsModel", name := "thrown", desc := "()I" } : Jvm.MethodName) prog_13_method_2_code (1 : Nat) (Option.some Jvm.ClassFile.FieldType.int)) ∈ lw_all := lw_g (lw_at lw_m7 30 rfl) rfl
theorem q1576 : (Jvm.Cond.instanceMethod ({ cls := "LearntReasonsModel", name := "grow", desc := "(I)I" } : Jvm.MethodName)) ∈ lw_all := lw_g (lw_at lw_m7 32 rfl) rfl
theorem q1577 : (Jvm.Cond.selects "LearntReasonsModel" ({ cls := "LearntReasonsModel", name := "grow", desc := "(I)I" } : Jvm.MethodName) ({ cls := "LearntReasonsModel", name := "grow", desc := "(I)I" } : Jvm.MethodName)) ∈ lw_all := lw_g (lw_at lw_m7 33 rfl) rfl
theorem q1578 : (Jvm.Cond.code ({ cls := "LearntReasonsModel", name := "grow", desc := "(I)I" } : Jvm.MethodName) prog_13_method_12_code (2 : Nat) (Option.some Jvm.ClassFile.FieldType.int)) ∈ lw_all := lw_g (lw_at lw_m7 34 rfl) rfl
theorem q1579 : (Jvm.Cond.methodLink "LearntReasonsModel" (79 : Nat) ({ cls := "LearntReasonsModel", name := "grows", desc := "(I)I" } : Jvm.MethodName)) ∈ lw_all := lw_g (lw_at lw_m7 35 rfl) rfl
theorem q1580 : (Jvm.Cond.privateMethod ({ cls := "LearntReasonsModel", name := "grows", desc := "(I)I" } : Jvm.MethodName)) ∈ lw_tbl := lw_at lw_m7 36 rfl
theorem q1581 : (Jvm.Cond.instanceMethod ({ cls := "LearntReasonsModel", name := "grows", desc := "(I)I" } : Jvm.MethodName)) ∈ lw_all := lw_g (lw_at lw_m7 37 rfl) rfl
theorem q1582 : (Jvm.Cond.code ({ cls := "LearntReasonsModel", name := "grows", desc := "(I)I" } : Jvm.MethodName) prog_13_method_11_code (2 : Nat) (Option.some Jvm.ClassFile.FieldType.int)) ∈ lw_all := lw_g (lw_at lw_m7 38 rfl) rfl
theorem q1584 : (Jvm.Cond.instanceMethod ({ cls := "LearntReasonsModel", name := "add", desc := "(I)I" } : Jvm.MethodName)) ∈ lw_all := lw_g (lw_at lw_m7 40 rfl) rfl
theorem q1585 : (Jvm.Cond.selects "LearntReasonsModel" ({ cls := "LearntReasonsModel", name := "add", desc := "(I)I" } : Jvm.MethodName) ({ cls := "LearntReasonsModel", name := "add", desc := "(I)I" } : Jvm.MethodName)) ∈ lw_all := lw_g (lw_at lw_m7 41 rfl) rfl
theorem q1586 : (Jvm.Cond.code ({ cls := "LearntReasonsModel", name := "add", desc := "(I)I" } : Jvm.MethodName) prog_13_method_13_code (3 : Nat) (Option.some Jvm.ClassFile.FieldType.int)) ∈ lw_all := lw_g (lw_at lw_m7 42 rfl) rfl
theorem q1587 : (Jvm.Cond.methodLink "LearntReasonsModel" (82 : Nat) ({ cls := "LearntReasonsModel", name := "isLiteral", desc := "(I)Z" } : Jvm.MethodName)) ∈ lw_all := lw_g (lw_at lw_m7 43 rfl) rfl
theorem q1588 : (Jvm.Cond.privateMethod ({ cls := "LearntReasonsModel", name := "isLiteral", desc := "(I)Z" } : Jvm.MethodName)) ∈ lw_tbl := lw_at lw_m7 44 rfl
theorem q1589 : (Jvm.Cond.instanceMethod ({ cls := "LearntReasonsModel", name := "isLiteral", desc := "(I)Z" } : Jvm.MethodName)) ∈ lw_all := lw_g (lw_at lw_m7 45 rfl) rfl
theorem q1590 : (Jvm.Cond.code ({ cls := "LearntReasonsModel", name := "isLiteral", desc := "(I)Z" } : Jvm.MethodName) prog_13_method_6_code (2 : Nat) (Option.some Jvm.ClassFile.FieldType.boolean)) ∈ lw_all := lw_g (lw_at lw_m7 46 rfl) rfl
theorem q1591 : (Jvm.Cond.methodLink "LearntReasonsModel" (71 : Nat) ({ cls := "LearntReasonsModel", name := "size", desc := "(I)I" } : Jvm.MethodName)) ∈ lw_all := lw_g (lw_at lw_m7 47 rfl) rfl
theorem q1592 : (Jvm.Cond.static ({ cls := "LearntReasonsModel", name := "size", desc := "(I)I" } : Jvm.MethodName)) ∈ lw_all := lw_g (lw_at lw_m7 48 rfl) rfl
theorem q1593 : (Jvm.Cond.code ({ cls := "LearntReasonsModel", name := "size", desc := "(I)I" } : Jvm.MethodName) prog_13_method_4_code (1 : Nat) (Option.some Jvm.ClassFile.FieldType.int)) ∈ lw_all := lw_g (lw_at lw_m7 49 rfl) rfl
theorem q1594 : (Jvm.Cond.methodLink "LearntReasonsModel" (75 : Nat) ({ cls := "LearntReasonsModel", name := "isVariable", desc := "(I)Z" } : Jvm.MethodName)) ∈ lw_all := lw_g (lw_at lw_m7 50 rfl) rfl
theorem q1595 : (Jvm.Cond.privateMethod ({ cls := "LearntReasonsModel", name := "isVariable", desc := "(I)Z" } : Jvm.MethodName)) ∈ lw_tbl := lw_at lw_m7 51 rfl
theorem q1596 : (Jvm.Cond.instanceMethod ({ cls := "LearntReasonsModel", name := "isVariable", desc := "(I)Z" } : Jvm.MethodName)) ∈ lw_all := lw_g (lw_at lw_m7 52 rfl) rfl
theorem q1597 : (Jvm.Cond.code ({ cls := "LearntReasonsModel", name := "isVariable", desc := "(I)Z" } : Jvm.MethodName) prog_13_method_5_code (2 : Nat) (Option.some Jvm.ClassFile.FieldType.boolean)) ∈ lw_all := lw_g (lw_at lw_m7 53 rfl) rfl
theorem q1598 : (Jvm.Cond.methodLink "LearntReasonsModel" (67 : Nat) ({ cls := "LearntReasonsModel", name := "isIn", desc := "(III)Z" } : Jvm.MethodName)) ∈ lw_all := lw_g (lw_at lw_m7 54 rfl) rfl
theorem q1599 : (Jvm.Cond.static ({ cls := "LearntReasonsModel", name := "isIn", desc := "(III)Z" } : Jvm.MethodName)) ∈ lw_all := lw_g (lw_at lw_m7 55 rfl) rfl
theorem q1600 : (Jvm.Cond.code ({ cls := "LearntReasonsModel", name := "isIn", desc := "(III)Z" } : Jvm.MethodName) prog_13_method_3_code (3 : Nat) (Option.some Jvm.ClassFile.FieldType.boolean)) ∈ lw_all := lw_g (lw_at lw_m7 56 rfl) rfl
theorem q1602 : (Jvm.Cond.instanceMethod ({ cls := "LearntReasonsModel", name := "close", desc := "()I" } : Jvm.MethodName)) ∈ lw_all := lw_g (lw_at lw_m7 58 rfl) rfl
theorem q1603 : (Jvm.Cond.selects "LearntReasonsModel" ({ cls := "LearntReasonsModel", name := "close", desc := "()I" } : Jvm.MethodName) ({ cls := "LearntReasonsModel", name := "close", desc := "()I" } : Jvm.MethodName)) ∈ lw_all := lw_g (lw_at lw_m7 59 rfl) rfl
theorem q1604 : (Jvm.Cond.code ({ cls := "LearntReasonsModel", name := "close", desc := "()I" } : Jvm.MethodName) prog_13_method_16_code (3 : Nat) (Option.some Jvm.ClassFile.FieldType.int)) ∈ lw_all := lw_g (lw_at lw_m7 60 rfl) rfl
theorem q1605 : (Jvm.Cond.methodLink "LearntReasonsModel" (85 : Nat) ({ cls := "LearntReasonsModel", name := "isRoom", desc := "()Z" } : Jvm.MethodName)) ∈ lw_all := lw_g (lw_at lw_m7 61 rfl) rfl
theorem q1606 : (Jvm.Cond.privateMethod ({ cls := "LearntReasonsModel", name := "isRoom", desc := "()Z" } : Jvm.MethodName)) ∈ lw_tbl := lw_at lw_m7 62 rfl
theorem q1607 : (Jvm.Cond.instanceMethod ({ cls := "LearntReasonsModel", name := "isRoom", desc := "()Z" } : Jvm.MethodName)) ∈ lw_all := lw_g (lw_at lw_m7 63 rfl) rfl
theorem q1608 : (Jvm.Cond.code ({ cls := "LearntReasonsModel", name := "isRoom", desc := "()Z" } : Jvm.MethodName) prog_13_method_14_code (1 : Nat) (Option.some Jvm.ClassFile.FieldType.boolean)) ∈ lw_all := lw_g (lw_at lw_m7 64 rfl) rfl
theorem q1609 : (Jvm.Cond.methodLink "LearntReasonsModel" (89 : Nat) ({ cls := "LearntReasonsModel", name := "begins", desc := "(II)I" } : Jvm.MethodName)) ∈ lw_all := lw_g (lw_at lw_m7 65 rfl) rfl
theorem q1610 : (Jvm.Cond.privateMethod ({ cls := "LearntReasonsModel", name := "begins", desc := "(II)I" } : Jvm.MethodName)) ∈ lw_tbl := lw_at lw_m7 66 rfl
theorem q1611 : (Jvm.Cond.instanceMethod ({ cls := "LearntReasonsModel", name := "begins", desc := "(II)I" } : Jvm.MethodName)) ∈ lw_all := lw_g (lw_at lw_m7 67 rfl) rfl
theorem q1612 : (Jvm.Cond.code ({ cls := "LearntReasonsModel", name := "begins", desc := "(II)I" } : Jvm.MethodName) prog_13_method_15_code (4 : Nat) (Option.some Jvm.ClassFile.FieldType.int)) ∈ lw_all := lw_g (lw_at lw_m7 68 rfl) rfl
theorem q1614 : (Jvm.Cond.instanceMethod ({ cls := "LearntReasonsModel", name := "assume", desc := "(I)I" } : Jvm.MethodName)) ∈ lw_all := lw_g (lw_at lw_m7 70 rfl) rfl
theorem q1615 : (Jvm.Cond.selects "LearntReasonsModel" ({ cls := "LearntReasonsModel", name := "assume", desc := "(I)I" } : Jvm.MethodName) ({ cls := "LearntReasonsModel", name := "assume", desc := "(I)I" } : Jvm.MethodName)) ∈ lw_all := lw_g (lw_at lw_m7 71 rfl) rfl
theorem q1616 : (Jvm.Cond.code ({ cls := "LearntReasonsModel", name := "assume", desc := "(I)I" } : Jvm.MethodName) prog_13_method_17_code (3 : Nat) (Option.some Jvm.ClassFile.FieldType.int)) ∈ lw_all := lw_g (lw_at lw_m7 72 rfl) rfl
theorem q1618 : (Jvm.Cond.instanceMethod ({ cls := "LearntReasonsModel", name := "free", desc := "()I" } : Jvm.MethodName)) ∈ lw_all := lw_g (lw_at lw_m7 74 rfl) rfl
theorem q1619 : (Jvm.Cond.selects "LearntReasonsModel" ({ cls := "LearntReasonsModel", name := "free", desc := "()I" } : Jvm.MethodName) ({ cls := "LearntReasonsModel", name := "free", desc := "()I" } : Jvm.MethodName)) ∈ lw_all := lw_g (lw_at lw_m7 75 rfl) rfl
theorem q1620 : (Jvm.Cond.code ({ cls := "LearntReasonsModel", name := "free", desc := "()I" } : Jvm.MethodName) prog_13_method_18_code (2 : Nat) (Option.some Jvm.ClassFile.FieldType.int)) ∈ lw_all := lw_g (lw_at lw_m7 76 rfl) rfl
theorem q1622 : (Jvm.Cond.instanceMethod ({ cls := "LearntReasonsModel", name := "phase", desc := "(I)Z" } : Jvm.MethodName)) ∈ lw_all := lw_g (lw_at lw_m7 78 rfl) rfl
theorem q1623 : (Jvm.Cond.selects "LearntReasonsModel" ({ cls := "LearntReasonsModel", name := "phase", desc := "(I)Z" } : Jvm.MethodName) ({ cls := "LearntReasonsModel", name := "phase", desc := "(I)Z" } : Jvm.MethodName)) ∈ lw_all := lw_g (lw_at lw_m7 79 rfl) rfl
theorem q1624 : (Jvm.Cond.code ({ cls := "LearntReasonsModel", name := "phase", desc := "(I)Z" } : Jvm.MethodName) prog_13_method_19_code (2 : Nat) (Option.some Jvm.ClassFile.FieldType.boolean)) ∈ lw_all := lw_g (lw_at lw_m7 80 rfl) rfl
theorem q1626 : (Jvm.Cond.instanceMethod ({ cls := "LearntReasonsModel", name := "unit", desc := "(I)Z" } : Jvm.MethodName)) ∈ lw_all := lw_g (lw_at lw_m7 82 rfl) rfl
theorem q1627 : (Jvm.Cond.selects "LearntReasonsModel" ({ cls := "LearntReasonsModel", name := "unit", desc := "(I)Z" } : Jvm.MethodName) ({ cls := "LearntReasonsModel", name := "unit", desc := "(I)Z" } : Jvm.MethodName)) ∈ lw_all := lw_g (lw_at lw_m7 83 rfl) rfl
theorem q1628 : (Jvm.Cond.code ({ cls := "LearntReasonsModel", name := "unit", desc := "(I)Z" } : Jvm.MethodName) prog_13_method_20_code (2 : Nat) (Option.some Jvm.ClassFile.FieldType.boolean)) ∈ lw_all := lw_g (lw_at lw_m7 84 rfl) rfl
theorem q1630 : (Jvm.Cond.instanceMethod ({ cls := "LearntReasonsModel", name := "forget", desc := "(I)I" } : Jvm.MethodName)) ∈ lw_all := lw_g (lw_at lw_m7 86 rfl) rfl
theorem q1631 : (Jvm.Cond.selects "LearntReasonsModel" ({ cls := "LearntReasonsModel", name := "forget", desc := "(I)I" } : Jvm.MethodName) ({ cls := "LearntReasonsModel", name := "forget", desc := "(I)I" } : Jvm.MethodName)) ∈ lw_all := lw_g (lw_at lw_m7 87 rfl) rfl
theorem q1632 : (Jvm.Cond.code ({ cls := "LearntReasonsModel", name := "forget", desc := "(I)I" } : Jvm.MethodName) prog_13_method_21_code (4 : Nat) (Option.some Jvm.ClassFile.FieldType.int)) ∈ lw_all := lw_g (lw_at lw_m7 88 rfl) rfl
theorem q1633 : (Jvm.Cond.methodLink "LearntReasonsModel" (93 : Nat) ({ cls := "LearntReasonsModel", name := "isLearnt", desc := "(I)Z" } : Jvm.MethodName)) ∈ lw_all := lw_g (lw_at lw_m7 89 rfl) rfl
theorem q1634 : (Jvm.Cond.privateMethod ({ cls := "LearntReasonsModel", name := "isLearnt", desc := "(I)Z" } : Jvm.MethodName)) ∈ lw_tbl := lw_at lw_m7 90 rfl
theorem q1635 : (Jvm.Cond.instanceMethod ({ cls := "LearntReasonsModel", name := "isLearnt", desc := "(I)Z" } : Jvm.MethodName)) ∈ lw_all := lw_g (lw_at lw_m7 91 rfl) rfl
theorem q1636 : (Jvm.Cond.code ({ cls := "LearntReasonsModel", name := "isLearnt", desc := "(I)Z" } : Jvm.MethodName) prog_13_method_10_code (2 : Nat) (Option.some Jvm.ClassFile.FieldType.boolean)) ∈ lw_all := lw_g (lw_at lw_m7 92 rfl) rfl
theorem q1637 : (Jvm.Cond.methodLink "LearntReasonsModel" (96 : Nat) ({ cls := "LearntReasonsModel", name := "isGone", desc := "(I)Z" } : Jvm.MethodName)) ∈ lw_all := lw_g (lw_at lw_m7 93 rfl) rfl
theorem q1638 : (Jvm.Cond.privateMethod ({ cls := "LearntReasonsModel", name := "isGone", desc := "(I)Z" } : Jvm.MethodName)) ∈ lw_tbl := lw_at lw_m7 94 rfl
theorem q1639 : (Jvm.Cond.instanceMethod ({ cls := "LearntReasonsModel", name := "isGone", desc := "(I)Z" } : Jvm.MethodName)) ∈ lw_all := lw_g (lw_at lw_m7 95 rfl) rfl
theorem q1640 : (Jvm.Cond.code ({ cls := "LearntReasonsModel", name := "isGone", desc := "(I)Z" } : Jvm.MethodName) prog_13_method_9_code (2 : Nat) (Option.some Jvm.ClassFile.FieldType.boolean)) ∈ lw_all := lw_g (lw_at lw_m7 96 rfl) rfl
theorem q1641 : (Jvm.Cond.methodLink "LearntReasonsModel" (99 : Nat) ({ cls := "LearntReasonsModel", name := "sizeOf", desc := "(I)I" } : Jvm.MethodName)) ∈ lw_all := lw_g (lw_at lw_m7 97 rfl) rfl
theorem q1642 : (Jvm.Cond.privateMethod ({ cls := "LearntReasonsModel", name := "sizeOf", desc := "(I)I" } : Jvm.MethodName)) ∈ lw_tbl := lw_at lw_m7 98 rfl
theorem q1643 : (Jvm.Cond.instanceMethod ({ cls := "LearntReasonsModel", name := "sizeOf", desc := "(I)I" } : Jvm.MethodName)) ∈ lw_all := lw_g (lw_at lw_m7 99 rfl) rfl
theorem q1644 : (Jvm.Cond.code ({ cls := "LearntReasonsModel", name := "sizeOf", desc := "(I)I" } : Jvm.MethodName) prog_13_method_8_code (2 : Nat) (Option.some Jvm.ClassFile.FieldType.int)) ∈ lw_all := lw_g (lw_at lw_m7 100 rfl) rfl
theorem q1646 : (Jvm.Cond.instanceMethod ({ cls := "LearntReasonsModel", name := "keep", desc := "(I)Z" } : Jvm.MethodName)) ∈ lw_all := lw_g (lw_at lw_m7 102 rfl) rfl
theorem q1647 : (Jvm.Cond.selects "LearntReasonsModel" ({ cls := "LearntReasonsModel", name := "keep", desc := "(I)Z" } : Jvm.MethodName) ({ cls := "LearntReasonsModel", name := "keep", desc := "(I)Z" } : Jvm.MethodName)) ∈ lw_all := lw_g (lw_at lw_m7 103 rfl) rfl
theorem q1648 : (Jvm.Cond.code ({ cls := "LearntReasonsModel", name := "keep", desc := "(I)Z" } : Jvm.MethodName) prog_13_method_22_code (3 : Nat) (Option.some Jvm.ClassFile.FieldType.boolean)) ∈ lw_all := lw_g (lw_at lw_m7 104 rfl) rfl
theorem q1650 : (Jvm.Cond.instanceMethod ({ cls := "LearntReasonsModel", name := "back", desc := "(I)Z" } : Jvm.MethodName)) ∈ lw_all := lw_g (lw_at lw_m7 106 rfl) rfl
theorem q1651 : (Jvm.Cond.selects "LearntReasonsModel" ({ cls := "LearntReasonsModel", name := "back", desc := "(I)Z" } : Jvm.MethodName) ({ cls := "LearntReasonsModel", name := "back", desc := "(I)Z" } : Jvm.MethodName)) ∈ lw_all := lw_g (lw_at lw_m7 107 rfl) rfl
theorem q1652 : (Jvm.Cond.code ({ cls := "LearntReasonsModel", name := "back", desc := "(I)Z" } : Jvm.MethodName) prog_13_method_23_code (3 : Nat) (Option.some Jvm.ClassFile.FieldType.boolean)) ∈ lw_all := lw_g (lw_at lw_m7 108 rfl) rfl
theorem q1654 : (Jvm.Cond.instanceMethod ({ cls := "LearntReasonsModel", name := "solve", desc := "(I)I" } : Jvm.MethodName)) ∈ lw_all := lw_g (lw_at lw_m7 110 rfl) rfl
theorem q1655 : (Jvm.Cond.selects "LearntReasonsModel" ({ cls := "LearntReasonsModel", name := "solve", desc := "(I)I" } : Jvm.MethodName) ({ cls := "LearntReasonsModel", name := "solve", desc := "(I)I" } : Jvm.MethodName)) ∈ lw_all := lw_g (lw_at lw_m7 111 rfl) rfl
theorem q1656 : (Jvm.Cond.code ({ cls := "LearntReasonsModel", name := "solve", desc := "(I)I" } : Jvm.MethodName) prog_13_method_46_code (3 : Nat) (Option.some Jvm.ClassFile.FieldType.int)) ∈ lw_all := lw_g (lw_at lw_m7 112 rfl) rfl
theorem q1657 : (Jvm.Cond.methodLink "LearntReasonsModel" (183 : Nat) ({ cls := "LearntReasonsModel", name := "empties", desc := "()V" } : Jvm.MethodName)) ∈ lw_all := lw_g (lw_at lw_m7 113 rfl) rfl
theorem q1658 : (Jvm.Cond.privateMethod ({ cls := "LearntReasonsModel", name := "empties", desc := "()V" } : Jvm.MethodName)) ∈ lw_tbl := lw_at lw_m7 114 rfl
theorem q1659 : (Jvm.Cond.instanceMethod ({ cls := "LearntReasonsModel", name := "empties", desc := "()V" } : Jvm.MethodName)) ∈ lw_all := lw_g (lw_at lw_m7 115 rfl) rfl
theorem q1660 : (Jvm.Cond.code ({ cls := "LearntReasonsModel", name := "empties", desc := "()V" } : Jvm.MethodName) prog_13_method_24_code (2 : Nat) (Option.none : Option Jvm.ClassFile.FieldType)) ∈ lw_all := lw_g (lw_at lw_m7 116 rfl) rfl
theorem q1661 : (Jvm.Cond.methodLink "LearntReasonsModel" (153 : Nat) ({ cls := "LearntReasonsModel", name := "refuted", desc := "()I" } : Jvm.MethodName)) ∈ lw_all := lw_g (lw_at lw_m7 117 rfl) rfl
theorem q1662 : (Jvm.Cond.privateMethod ({ cls := "LearntReasonsModel", name := "refuted", desc := "()I" } : Jvm.MethodName)) ∈ lw_tbl := lw_at lw_m7 118 rfl
theorem q1663 : (Jvm.Cond.instanceMethod ({ cls := "LearntReasonsModel", name := "refuted", desc := "()I" } : Jvm.MethodName)) ∈ lw_all := lw_g (lw_at lw_m7 119 rfl) rfl
theorem q1664 : (Jvm.Cond.code ({ cls := "LearntReasonsModel", name := "refuted", desc := "()I" } : Jvm.MethodName) prog_13_method_39_code (1 : Nat) (Option.some Jvm.ClassFile.FieldType.int)) ∈ lw_all := lw_g (lw_at lw_m7 120 rfl) rfl
theorem q1665 : (Jvm.Cond.methodLink "LearntReasonsModel" (147 : Nat) ({ cls := "LearntReasonsModel", name := "ends", desc := "(I)I" } : Jvm.MethodName)) ∈ lw_all := lw_g (lw_at lw_m7 121 rfl) rfl
theorem q1666 : (Jvm.Cond.privateMethod ({ cls := "LearntReasonsModel", name := "ends", desc := "(I)I" } : Jvm.MethodName)) ∈ lw_tbl := lw_at lw_m7 122 rfl
theorem q1667 : (Jvm.Cond.instanceMethod ({ cls := "LearntReasonsModel", name := "ends", desc := "(I)I" } : Jvm.MethodName)) ∈ lw_all := lw_g (lw_at lw_m7 123 rfl) rfl
theorem q1668 : (Jvm.Cond.code ({ cls := "LearntReasonsModel", name := "ends", desc := "(I)I" } : Jvm.MethodName) prog_13_method_38_code (3 : Nat) (Option.some Jvm.ClassFile.FieldType.int)) ∈ lw_all := lw_g (lw_at lw_m7 124 rfl) rfl
theorem q1669 : (Jvm.Cond.methodLink "LearntReasonsModel" (131 : Nat) ({ cls := "LearntReasonsModel", name := "leaves", desc := "(I)V" } : Jvm.MethodName)) ∈ lw_all := lw_g (lw_at lw_m7 125 rfl) rfl
theorem q1670 : (Jvm.Cond.privateMethod ({ cls := "LearntReasonsModel", name := "leaves", desc := "(I)V" } : Jvm.MethodName)) ∈ lw_tbl := lw_at lw_m7 126 rfl
theorem q1671 : (Jvm.Cond.instanceMethod ({ cls := "LearntReasonsModel", name := "leaves", desc := "(I)V" } : Jvm.MethodName)) ∈ lw_all := lw_g (lw_at lw_m7 127 rfl) rfl
theorem q1672 : (Jvm.Cond.code ({ cls := "LearntReasonsModel", name := "leaves", desc := "(I)V" } : Jvm.MethodName) prog_13_method_27_code (3 : Nat) (Option.none : Option Jvm.ClassFile.FieldType)) ∈ lw_all := lw_g (lw_at lw_m7 128 rfl) rfl
theorem q1673 : (Jvm.Cond.methodLink "LearntReasonsModel" (186 : Nat) ({ cls := "LearntReasonsModel", name := "step", desc := "(I)I" } : Jvm.MethodName)) ∈ lw_all := lw_g (lw_at lw_m7 129 rfl) rfl
theorem q1674 : (Jvm.Cond.privateMethod ({ cls := "LearntReasonsModel", name := "step", desc := "(I)I" } : Jvm.MethodName)) ∈ lw_tbl := lw_at lw_m7 130 rfl
theorem q1675 : (Jvm.Cond.instanceMethod ({ cls := "LearntReasonsModel", name := "step", desc := "(I)I" } : Jvm.MethodName)) ∈ lw_all := lw_g (lw_at lw_m7 131 rfl) rfl
theorem q1676 : (Jvm.Cond.code ({ cls := "LearntReasonsModel", name := "step", desc := "(I)I" } : Jvm.MethodName) prog_13_method_45_code (5 : Nat) (Option.some Jvm.ClassFile.FieldType.int)) ∈ lw_all := lw_g (lw_at lw_m7 132 rfl) rfl
theorem q1677 : (Jvm.Cond.methodLink "LearntReasonsModel" (165 : Nat) ({ cls := "LearntReasonsModel", name := "firstOf", desc := "(I)I" } : Jvm.MethodName)) ∈ lw_all := lw_g (lw_at lw_m7 133 rfl) rfl
theorem q1678 : (Jvm.Cond.privateMethod ({ cls := "LearntReasonsModel", name := "firstOf", desc := "(I)I" } : Jvm.MethodName)) ∈ lw_tbl := lw_at lw_m7 134 rfl
theorem q1679 : (Jvm.Cond.instanceMethod ({ cls := "LearntReasonsModel", name := "firstOf", desc := "(I)I" } : Jvm.MethodName)) ∈ lw_all := lw_g (lw_at lw_m7 135 rfl) rfl
theorem q1680 : (Jvm.Cond.code ({ cls := "LearntReasonsModel", name := "firstOf", desc := "(I)I" } : Jvm.MethodName) prog_13_method_29_code (3 : Nat) (Option.some Jvm.ClassFile.FieldType.int)) ∈ lw_all := lw_g (lw_at lw_m7 136 rfl) rfl
theorem q1681 : (Jvm.Cond.methodLink "LearntReasonsModel" (114 : Nat) ({ cls := "LearntReasonsModel", name := "open", desc := "(I)I" } : Jvm.MethodName)) ∈ lw_all := lw_g (lw_at lw_m7 137 rfl) rfl
theorem q1682 : (Jvm.Cond.privateMethod ({ cls := "LearntReasonsModel", name := "open", desc := "(I)I" } : Jvm.MethodName)) ∈ lw_tbl := lw_at lw_m7 138 rfl
theorem q1683 : (Jvm.Cond.instanceMethod ({ cls := "LearntReasonsModel", name := "open", desc := "(I)I" } : Jvm.MethodName)) ∈ lw_all := lw_g (lw_at lw_m7 139 rfl) rfl
theorem q1684 : (Jvm.Cond.code ({ cls := "LearntReasonsModel", name := "open", desc := "(I)I" } : Jvm.MethodName) prog_13_method_28_code (5 : Nat) (Option.some Jvm.ClassFile.FieldType.int)) ∈ lw_all := lw_g (lw_at lw_m7 140 rfl) rfl
theorem q1685 : (Jvm.Cond.methodLink "LearntReasonsModel" (108 : Nat) ({ cls := "LearntReasonsModel", name := "literal", desc := "(II)I" } : Jvm.MethodName)) ∈ lw_all := lw_g (lw_at lw_m7 141 rfl) rfl
theorem q1686 : (Jvm.Cond.privateMethod ({ cls := "LearntReasonsModel", name := "literal", desc := "(II)I" } : Jvm.MethodName)) ∈ lw_tbl := lw_at lw_m7 142 rfl
theorem q1687 : (Jvm.Cond.instanceMethod ({ cls := "LearntReasonsModel", name := "literal", desc := "(II)I" } : Jvm.MethodName)) ∈ lw_all := lw_g (lw_at lw_m7 143 rfl) rfl
theorem q1688 : (Jvm.Cond.code ({ cls := "LearntReasonsModel", name := "literal", desc := "(II)I" } : Jvm.MethodName) prog_13_method_7_code (3 : Nat) (Option.some Jvm.ClassFile.FieldType.int)) ∈ lw_all := lw_g (lw_at lw_m7 144 rfl) rfl
theorem q1689 : (Jvm.Cond.methodLink "LearntReasonsModel" (111 : Nat) ({ cls := "LearntReasonsModel", name := "truth", desc := "(I)I" } : Jvm.MethodName)) ∈ lw_all := lw_g (lw_at lw_m7 145 rfl) rfl
theorem q1690 : (Jvm.Cond.privateMethod ({ cls := "LearntReasonsModel", name := "truth", desc := "(I)I" } : Jvm.MethodName)) ∈ lw_tbl := lw_at lw_m7 146 rfl
theorem q1691 : (Jvm.Cond.instanceMethod ({ cls := "LearntReasonsModel", name := "truth", desc := "(I)I" } : Jvm.MethodName)) ∈ lw_all := lw_g (lw_at lw_m7 147 rfl) rfl
theorem q1692 : (Jvm.Cond.code ({ cls := "LearntReasonsModel", name := "truth", desc := "(I)I" } : Jvm.MethodName) prog_13_method_25_code (2 : Nat) (Option.some Jvm.ClassFile.FieldType.int)) ∈ lw_all := lw_g (lw_at lw_m7 148 rfl) rfl
theorem q1693 : (Jvm.Cond.methodLink "LearntReasonsModel" (168 : Nat) ({ cls := "LearntReasonsModel", name := "conflictAt", desc := "(II)I" } : Jvm.MethodName)) ∈ lw_all := lw_g (lw_at lw_m7 149 rfl) rfl
theorem q1694 : (Jvm.Cond.privateMethod ({ cls := "LearntReasonsModel", name := "conflictAt", desc := "(II)I" } : Jvm.MethodName)) ∈ lw_tbl := lw_at lw_m7 150 rfl
theorem q1695 : (Jvm.Cond.instanceMethod ({ cls := "LearntReasonsModel", name := "conflictAt", desc := "(II)I" } : Jvm.MethodName)) ∈ lw_all := lw_g (lw_at lw_m7 151 rfl) rfl
theorem q1696 : (Jvm.Cond.code ({ cls := "LearntReasonsModel", name := "conflictAt", desc := "(II)I" } : Jvm.MethodName) prog_13_method_44_code (3 : Nat) (Option.some Jvm.ClassFile.FieldType.int)) ∈ lw_all := lw_g (lw_at lw_m7 152 rfl) rfl
theorem q1697 : (Jvm.Cond.methodLink "LearntReasonsModel" (156 : Nat) ({ cls := "LearntReasonsModel", name := "learns", desc := "(I)V" } : Jvm.MethodName)) ∈ lw_all := lw_g (lw_at lw_m7 153 rfl) rfl
theorem q1698 : (Jvm.Cond.privateMethod ({ cls := "LearntReasonsModel", name := "learns", desc := "(I)V" } : Jvm.MethodName)) ∈ lw_tbl := lw_at lw_m7 154 rfl
theorem q1699 : (Jvm.Cond.instanceMethod ({ cls := "LearntReasonsModel", name := "learns", desc := "(I)V" } : Jvm.MethodName)) ∈ lw_all := lw_g (lw_at lw_m7 155 rfl) rfl
theorem q1700 : (Jvm.Cond.code ({ cls := "LearntReasonsModel", name := "learns", desc := "(I)V" } : Jvm.MethodName) prog_13_method_35_code (7 : Nat) (Option.none : Option Jvm.ClassFile.FieldType)) ∈ lw_all := lw_g (lw_at lw_m7 156 rfl) rfl
theorem q1701 : (Jvm.Cond.methodLink "LearntReasonsModel" (117 : Nat) ({ cls := "LearntReasonsModel", name := "brings", desc := "(II)V" } : Jvm.MethodName)) ∈ lw_all := lw_g (lw_at lw_m7 157 rfl) rfl
theorem q1702 : (Jvm.Cond.privateMethod ({ cls := "LearntReasonsModel", name := "brings", desc := "(II)V" } : Jvm.MethodName)) ∈ lw_tbl := lw_at lw_m7 158 rfl
theorem q1703 : (Jvm.Cond.instanceMethod ({ cls := "LearntReasonsModel", name := "brings", desc := "(II)V" } : Jvm.MethodName)) ∈ lw_all := lw_g (lw_at lw_m7 159 rfl) rfl
theorem q1704 : (Jvm.Cond.code ({ cls := "LearntReasonsModel", name := "brings", desc := "(II)V" } : Jvm.MethodName) prog_13_method_33_code (5 : Nat) (Option.none : Option Jvm.ClassFile.FieldType)) ∈ lw_all := lw_g (lw_at lw_m7 160 rfl) rfl
theorem q1705 : (Jvm.Cond.methodLink "LearntReasonsModel" (121 : Nat) ({ cls := "LearntReasonsModel", name := "levelNow", desc := "()I" } : Jvm.MethodName)) ∈ lw_all := lw_g (lw_at lw_m7 161 rfl) rfl
theorem q1706 : (Jvm.Cond.privateMethod ({ cls := "LearntReasonsModel", name := "levelNow", desc := "()I" } : Jvm.MethodName)) ∈ lw_tbl := lw_at lw_m7 162 rfl
theorem q1707 : (Jvm.Cond.instanceMethod ({ cls := "LearntReasonsModel", name := "levelNow", desc := "()I" } : Jvm.MethodName)) ∈ lw_all := lw_g (lw_at lw_m7 163 rfl) rfl
theorem q1708 : (Jvm.Cond.code ({ cls := "LearntReasonsModel", name := "levelNow", desc := "()I" } : Jvm.MethodName) prog_13_method_31_code (3 : Nat) (Option.some Jvm.ClassFile.FieldType.int)) ∈ lw_all := lw_g (lw_at lw_m7 164 rfl) rfl
theorem q1709 : (Jvm.Cond.methodLink "LearntReasonsModel" (125 : Nat) ({ cls := "LearntReasonsModel", name := "latest", desc := "()I" } : Jvm.MethodName)) ∈ lw_all := lw_g (lw_at lw_m7 165 rfl) rfl
theorem q1710 : (Jvm.Cond.privateMethod ({ cls := "LearntReasonsModel", name := "latest", desc := "()I" } : Jvm.MethodName)) ∈ lw_tbl := lw_at lw_m7 166 rfl
theorem q1711 : (Jvm.Cond.instanceMethod ({ cls := "LearntReasonsModel", name := "latest", desc := "()I" } : Jvm.MethodName)) ∈ lw_all := lw_g (lw_at lw_m7 167 rfl) rfl
theorem q1712 : (Jvm.Cond.code ({ cls := "LearntReasonsModel", name := "latest", desc := "()I" } : Jvm.MethodName) prog_13_method_32_code (3 : Nat) (Option.some Jvm.ClassFile.FieldType.int)) ∈ lw_all := lw_g (lw_at lw_m7 168 rfl) rfl
theorem q1713 : (Jvm.Cond.methodLink "LearntReasonsModel" (128 : Nat) ({ cls := "LearntReasonsModel", name := "isDropped", desc := "(I)Z" } : Jvm.MethodName)) ∈ lw_all := lw_g (lw_at lw_m7 169 rfl) rfl
theorem q1714 : (Jvm.Cond.privateMethod ({ cls := "LearntReasonsModel", name := "isDropped", desc := "(I)Z" } : Jvm.MethodName)) ∈ lw_tbl := lw_at lw_m7 170 rfl
theorem q1715 : (Jvm.Cond.instanceMethod ({ cls := "LearntReasonsModel", name := "isDropped", desc := "(I)Z" } : Jvm.MethodName)) ∈ lw_all := lw_g (lw_at lw_m7 171 rfl) rfl
theorem q1716 : (Jvm.Cond.code ({ cls := "LearntReasonsModel", name := "isDropped", desc := "(I)Z" } : Jvm.MethodName) prog_13_method_34_code (4 : Nat) (Option.some Jvm.ClassFile.FieldType.boolean)) ∈ lw_all := lw_g (lw_at lw_m7 172 rfl) rfl
theorem q1717 : (Jvm.Cond.methodLink "LearntReasonsModel" (135 : Nat) ({ cls := "LearntReasonsModel", name := "comes", desc := "(II)V" } : Jvm.MethodName)) ∈ lw_all := lw_g (lw_at lw_m7 173 rfl) rfl
theorem q1718 : (Jvm.Cond.privateMethod ({ cls := "LearntReasonsModel", name := "comes", desc := "(II)V" } : Jvm.MethodName)) ∈ lw_tbl := lw_at lw_m7 174 rfl
theorem q1719 : (Jvm.Cond.instanceMethod ({ cls := "LearntReasonsModel", name := "comes", desc := "(II)V" } : Jvm.MethodName)) ∈ lw_all := lw_g (lw_at lw_m7 175 rfl) rfl
theorem q1720 : (Jvm.Cond.code ({ cls := "LearntReasonsModel", name := "comes", desc := "(II)V" } : Jvm.MethodName) prog_13_method_26_code (3 : Nat) (Option.none : Option Jvm.ClassFile.FieldType)) ∈ lw_all := lw_g (lw_at lw_m7 176 rfl) rfl
theorem q1721 : (Jvm.Cond.methodLink "LearntReasonsModel" (162 : Nat) ({ cls := "LearntReasonsModel", name := "startsAnew", desc := "()V" } : Jvm.MethodName)) ∈ lw_all := lw_g (lw_at lw_m7 177 rfl) rfl
theorem q1722 : (Jvm.Cond.privateMethod ({ cls := "LearntReasonsModel", name := "startsAnew", desc := "()V" } : Jvm.MethodName)) ∈ lw_tbl := lw_at lw_m7 178 rfl
theorem q1723 : (Jvm.Cond.instanceMethod ({ cls := "LearntReasonsModel", name := "startsAnew", desc := "()V" } : Jvm.MethodName)) ∈ lw_all := lw_g (lw_at lw_m7 179 rfl) rfl
theorem q1724 : (Jvm.Cond.code ({ cls := "LearntReasonsModel", name := "startsAnew", desc := "()V" } : Jvm.MethodName) prog_13_method_37_code (1 : Nat) (Option.none : Option Jvm.ClassFile.FieldType)) ∈ lw_all := lw_g (lw_at lw_m7 180 rfl) rfl
theorem q1725 : (Jvm.Cond.methodLink "LearntReasonsModel" (138 : Nat) ({ cls := "LearntReasonsModel", name := "luby", desc := "(I)I" } : Jvm.MethodName)) ∈ lw_all := lw_g (lw_at lw_m7 181 rfl) rfl
theorem q1726 : (Jvm.Cond.static ({ cls := "LearntReasonsModel", name := "luby", desc := "(I)I" } : Jvm.MethodName)) ∈ lw_all := lw_g (lw_at lw_m7 182 rfl) rfl
theorem q1727 : (Jvm.Cond.code ({ cls := "LearntReasonsModel", name := "luby", desc := "(I)I" } : Jvm.MethodName) prog_13_method_36_code (2 : Nat) (Option.some Jvm.ClassFile.FieldType.int)) ∈ lw_all := lw_g (lw_at lw_m7 183 rfl) rfl
theorem q1728 : (Jvm.Cond.methodLink "LearntReasonsModel" (171 : Nat) ({ cls := "LearntReasonsModel", name := "openOne", desc := "(I)I" } : Jvm.MethodName)) ∈ lw_all := lw_g (lw_at lw_m7 184 rfl) rfl
theorem q1729 : (Jvm.Cond.privateMethod ({ cls := "LearntReasonsModel", name := "openOne", desc := "(I)I" } : Jvm.MethodName)) ∈ lw_tbl := lw_at lw_m7 185 rfl
theorem q1730 : (Jvm.Cond.instanceMethod ({ cls := "LearntReasonsModel", name := "openOne", desc := "(I)I" } : Jvm.MethodName)) ∈ lw_all := lw_g (lw_at lw_m7 186 rfl) rfl
theorem q1731 : (Jvm.Cond.code ({ cls := "LearntReasonsModel", name := "openOne", desc := "(I)I" } : Jvm.MethodName) prog_13_method_30_code (3 : Nat) (Option.some Jvm.ClassFile.FieldType.int)) ∈ lw_all := lw_g (lw_at lw_m7 187 rfl) rfl
theorem q1732 : (Jvm.Cond.methodLink "LearntReasonsModel" (174 : Nat) ({ cls := "LearntReasonsModel", name := "assumptionOpen", desc := "()I" } : Jvm.MethodName)) ∈ lw_all := lw_g (lw_at lw_m7 188 rfl) rfl
theorem q1733 : (Jvm.Cond.privateMethod ({ cls := "LearntReasonsModel", name := "assumptionOpen", desc := "()I" } : Jvm.MethodName)) ∈ lw_tbl := lw_at lw_m7 189 rfl
theorem q1734 : (Jvm.Cond.instanceMethod ({ cls := "LearntReasonsModel", name := "assumptionOpen", desc := "()I" } : Jvm.MethodName)) ∈ lw_all := lw_g (lw_at lw_m7 190 rfl) rfl
theorem q1735 : (Jvm.Cond.code ({ cls := "LearntReasonsModel", name := "assumptionOpen", desc := "()I" } : Jvm.MethodName) prog_13_method_42_code (2 : Nat) (Option.some Jvm.ClassFile.FieldType.int)) ∈ lw_all := lw_g (lw_at lw_m7 191 rfl) rfl
theorem q1736 : (Jvm.Cond.methodLink "LearntReasonsModel" (177 : Nat) ({ cls := "LearntReasonsModel", name := "coreOf", desc := "(I)I" } : Jvm.MethodName)) ∈ lw_all := lw_g (lw_at lw_m7 192 rfl) rfl
theorem q1737 : (Jvm.Cond.privateMethod ({ cls := "LearntReasonsModel", name := "coreOf", desc := "(I)I" } : Jvm.MethodName)) ∈ lw_tbl := lw_at lw_m7 193 rfl
theorem q1738 : (Jvm.Cond.instanceMethod ({ cls := "LearntReasonsModel", name := "coreOf", desc := "(I)I" } : Jvm.MethodName)) ∈ lw_all := lw_g (lw_at lw_m7 194 rfl) rfl
theorem q1739 : (Jvm.Cond.code ({ cls := "LearntReasonsModel", name := "coreOf", desc := "(I)I" } : Jvm.MethodName) prog_13_method_41_code (6 : Nat) (Option.some Jvm.ClassFile.FieldType.int)) ∈ lw_all := lw_g (lw_at lw_m7 195 rfl) rfl
theorem q1740 : (Jvm.Cond.methodLink "LearntReasonsModel" (150 : Nat) ({ cls := "LearntReasonsModel", name := "placeAssumed", desc := "(I)I" } : Jvm.MethodName)) ∈ lw_all := lw_g (lw_at lw_m7 196 rfl) rfl
theorem q1741 : (Jvm.Cond.privateMethod ({ cls := "LearntReasonsModel", name := "placeAssumed", desc := "(I)I" } : Jvm.MethodName)) ∈ lw_tbl := lw_at lw_m7 197 rfl
theorem q1742 : (Jvm.Cond.instanceMethod ({ cls := "LearntReasonsModel", name := "placeAssumed", desc := "(I)I" } : Jvm.MethodName)) ∈ lw_all := lw_g (lw_at lw_m7 198 rfl) rfl
theorem q1743 : (Jvm.Cond.code ({ cls := "LearntReasonsModel", name := "placeAssumed", desc := "(I)I" } : Jvm.MethodName) prog_13_method_40_code (3 : Nat) (Option.some Jvm.ClassFile.FieldType.int)) ∈ lw_all := lw_g (lw_at lw_m7 199 rfl) rfl
theorem q1744 : (Jvm.Cond.methodLink "LearntReasonsModel" (180 : Nat) ({ cls := "LearntReasonsModel", name := "choice", desc := "()I" } : Jvm.MethodName)) ∈ lw_all := lw_g (lw_at lw_m7 200 rfl) rfl
theorem q1745 : (Jvm.Cond.privateMethod ({ cls := "LearntReasonsModel", name := "choice", desc := "()I" } : Jvm.MethodName)) ∈ lw_tbl := lw_at lw_m7 201 rfl
theorem q1746 : (Jvm.Cond.instanceMethod ({ cls := "LearntReasonsModel", name := "choice", desc := "()I" } : Jvm.MethodName)) ∈ lw_all := lw_g (lw_at lw_m7 202 rfl) rfl
theorem q1747 : (Jvm.Cond.code ({ cls := "LearntReasonsModel", name := "choice", desc := "()I" } : Jvm.MethodName) prog_13_method_43_code (3 : Nat) (Option.some Jvm.ClassFile.FieldType.int)) ∈ lw_all := lw_g (lw_at lw_m7 203 rfl) rfl
theorem q1749 : (Jvm.Cond.instanceMethod ({ cls := "LearntReasonsModel", name := "count", desc := "(I)I" } : Jvm.MethodName)) ∈ lw_all := lw_g (lw_at lw_m7 205 rfl) rfl
theorem q1750 : (Jvm.Cond.selects "LearntReasonsModel" ({ cls := "LearntReasonsModel", name := "count", desc := "(I)I" } : Jvm.MethodName) ({ cls := "LearntReasonsModel", name := "count", desc := "(I)I" } : Jvm.MethodName)) ∈ lw_all := lw_g (lw_at lw_m7 206 rfl) rfl
theorem q1751 : (Jvm.Cond.code ({ cls := "LearntReasonsModel", name := "count", desc := "(I)I" } : Jvm.MethodName) prog_13_method_48_code (2 : Nat) (Option.some Jvm.ClassFile.FieldType.int)) ∈ lw_all := lw_g (lw_at lw_m7 207 rfl) rfl
theorem q1752 : (Jvm.Cond.methodLink "LearntReasonsModel" (189 : Nat) ({ cls := "LearntReasonsModel", name := "learntMany", desc := "()I" } : Jvm.MethodName)) ∈ lw_all := lw_g (lw_at lw_m7 208 rfl) rfl
theorem q1753 : (Jvm.Cond.privateMethod ({ cls := "LearntReasonsModel", name := "learntMany", desc := "()I" } : Jvm.MethodName)) ∈ lw_tbl := lw_at lw_m7 209 rfl
theorem q1754 : (Jvm.Cond.instanceMethod ({ cls := "LearntReasonsModel", name := "learntMany", desc := "()I" } : Jvm.MethodName)) ∈ lw_all := lw_g (lw_at lw_m7 210 rfl) rfl
theorem q1755 : (Jvm.Cond.code ({ cls := "LearntReasonsModel", name := "learntMany", desc := "()I" } : Jvm.MethodName) prog_13_method_47_code (3 : Nat) (Option.some Jvm.ClassFile.FieldType.int)) ∈ lw_all := lw_g (lw_at lw_m7 211 rfl) rfl
theorem q1757 : (Jvm.Cond.instanceMethod ({ cls := "LearntReasonsModel", name := "clause", desc := "(II)I" } : Jvm.MethodName)) ∈ lw_all := lw_g (lw_at lw_m7 213 rfl) rfl
theorem q1758 : (Jvm.Cond.selects "LearntReasonsModel" ({ cls := "LearntReasonsModel", name := "clause", desc := "(II)I" } : Jvm.MethodName) ({ cls := "LearntReasonsModel", name := "clause", desc := "(II)I" } : Jvm.MethodName)) ∈ lw_all := lw_g (lw_at lw_m7 214 rfl) rfl
theorem q1759 : (Jvm.Cond.code ({ cls := "LearntReasonsModel", name := "clause", desc := "(II)I" } : Jvm.MethodName) prog_13_method_49_code (3 : Nat) (Option.some Jvm.ClassFile.FieldType.int)) ∈ lw_all := lw_g (lw_at lw_m7 215 rfl) rfl
theorem q1761 : (Jvm.Cond.instanceMethod ({ cls := "LearntReasonsModel", name := "assumption", desc := "(I)I" } : Jvm.MethodName)) ∈ lw_all := lw_g (lw_at lw_m7 217 rfl) rfl
theorem q1762 : (Jvm.Cond.selects "LearntReasonsModel" ({ cls := "LearntReasonsModel", name := "assumption", desc := "(I)I" } : Jvm.MethodName) ({ cls := "LearntReasonsModel", name := "assumption", desc := "(I)I" } : Jvm.MethodName)) ∈ lw_all := lw_g (lw_at lw_m7 218 rfl) rfl
theorem q1763 : (Jvm.Cond.code ({ cls := "LearntReasonsModel", name := "assumption", desc := "(I)I" } : Jvm.MethodName) prog_13_method_50_code (2 : Nat) (Option.some Jvm.ClassFile.FieldType.int)) ∈ lw_all := lw_g (lw_at lw_m7 219 rfl) rfl
theorem q1765 : (Jvm.Cond.instanceMethod ({ cls := "LearntReasonsModel", name := "model", desc := "(I)I" } : Jvm.MethodName)) ∈ lw_all := lw_g (lw_at lw_m7 221 rfl) rfl
theorem q1766 : (Jvm.Cond.selects "LearntReasonsModel" ({ cls := "LearntReasonsModel", name := "model", desc := "(I)I" } : Jvm.MethodName) ({ cls := "LearntReasonsModel", name := "model", desc := "(I)I" } : Jvm.MethodName)) ∈ lw_all := lw_g (lw_at lw_m7 222 rfl) rfl
theorem q1767 : (Jvm.Cond.code ({ cls := "LearntReasonsModel", name := "model", desc := "(I)I" } : Jvm.MethodName) prog_13_method_51_code (2 : Nat) (Option.some Jvm.ClassFile.FieldType.int)) ∈ lw_all := lw_g (lw_at lw_m7 223 rfl) rfl
theorem q1769 : (Jvm.Cond.instanceMethod ({ cls := "LearntReasonsModel", name := "core", desc := "()I" } : Jvm.MethodName)) ∈ lw_all := lw_g (lw_at lw_m7 225 rfl) rfl
theorem q1770 : (Jvm.Cond.selects "LearntReasonsModel" ({ cls := "LearntReasonsModel", name := "core", desc := "()I" } : Jvm.MethodName) ({ cls := "LearntReasonsModel", name := "core", desc := "()I" } : Jvm.MethodName)) ∈ lw_all := lw_g (lw_at lw_m7 226 rfl) rfl
theorem q1771 : (Jvm.Cond.code ({ cls := "LearntReasonsModel", name := "core", desc := "()I" } : Jvm.MethodName) prog_13_method_52_code (1 : Nat) (Option.some Jvm.ClassFile.FieldType.int)) ∈ lw_all := lw_g (lw_at lw_m7 227 rfl) rfl
theorem q1773 : (Jvm.Cond.instanceMethod ({ cls := "LearntReasonsModel", name := "variable", desc := "(II)I" } : Jvm.MethodName)) ∈ lw_all := lw_g (lw_at lw_m7 229 rfl) rfl
theorem q1774 : (Jvm.Cond.selects "LearntReasonsModel" ({ cls := "LearntReasonsModel", name := "variable", desc := "(II)I" } : Jvm.MethodName) ({ cls := "LearntReasonsModel", name := "variable", desc := "(II)I" } : Jvm.MethodName)) ∈ lw_all := lw_g (lw_at lw_m7 230 rfl) rfl
theorem q1775 : (Jvm.Cond.code ({ cls := "LearntReasonsModel", name := "variable", desc := "(II)I" } : Jvm.MethodName) prog_13_method_54_code (3 : Nat) (Option.some Jvm.ClassFile.FieldType.int)) ∈ lw_all := lw_g (lw_at lw_m7 231 rfl) rfl
theorem q1776 : (Jvm.Cond.methodLink "LearntReasonsModel" (195 : Nat) ({ cls := "LearntReasonsModel", name := "among", desc := "(I)I" } : Jvm.MethodName)) ∈ lw_all := lw_g (lw_at lw_m7 232 rfl) rfl
theorem q1777 : (Jvm.Cond.privateMethod ({ cls := "LearntReasonsModel", name := "among", desc := "(I)I" } : Jvm.MethodName)) ∈ lw_tbl := lw_at lw_m7 233 rfl
theorem q1778 : (Jvm.Cond.instanceMethod ({ cls := "LearntReasonsModel", name := "among", desc := "(I)I" } : Jvm.MethodName)) ∈ lw_all := lw_g (lw_at lw_m7 234 rfl) rfl
theorem q1779 : (Jvm.Cond.code ({ cls := "LearntReasonsModel", name := "among", desc := "(I)I" } : Jvm.MethodName) prog_13_method_53_code (5 : Nat) (Option.some Jvm.ClassFile.FieldType.int)) ∈ lw_all := lw_g (lw_at lw_m7 235 rfl) rfl
theorem q1781 : (Jvm.Cond.instanceMethod ({ cls := "LearntReasonsModel", name := "follows", desc := "(I)I" } : Jvm.MethodName)) ∈ lw_all := lw_g (lw_at lw_m7 237 rfl) rfl
theorem q1782 : (Jvm.Cond.selects "LearntReasonsModel" ({ cls := "LearntReasonsModel", name := "follows", desc := "(I)I" } : Jvm.MethodName) ({ cls := "LearntReasonsModel", name := "follows", desc := "(I)I" } : Jvm.MethodName)) ∈ lw_all := lw_g (lw_at lw_m7 238 rfl) rfl
theorem q1783 : (Jvm.Cond.code ({ cls := "LearntReasonsModel", name := "follows", desc := "(I)I" } : Jvm.MethodName) prog_13_method_55_code (4 : Nat) (Option.some Jvm.ClassFile.FieldType.int)) ∈ lw_all := lw_g (lw_at lw_m7 239 rfl) rfl
theorem q1785 : (Jvm.Cond.instanceMethod ({ cls := "LearntReasonsModel", name := "line", desc := "(II)I" } : Jvm.MethodName)) ∈ lw_all := lw_g (lw_at lw_m8 1 rfl) rfl
theorem q1786 : (Jvm.Cond.selects "LearntReasonsModel" ({ cls := "LearntReasonsModel", name := "line", desc := "(II)I" } : Jvm.MethodName) ({ cls := "LearntReasonsModel", name := "line", desc := "(II)I" } : Jvm.MethodName)) ∈ lw_all := lw_g (lw_at lw_m8 2 rfl) rfl
theorem q1787 : (Jvm.Cond.code ({ cls := "LearntReasonsModel", name := "line", desc := "(II)I" } : Jvm.MethodName) prog_13_method_58_code (3 : Nat) (Option.some Jvm.ClassFile.FieldType.int)) ∈ lw_all := lw_g (lw_at lw_m8 3 rfl) rfl
theorem q1788 : (Jvm.Cond.methodLink "LearntReasonsModel" (198 : Nat) ({ cls := "LearntReasonsModel", name := "isLine", desc := "(I)Z" } : Jvm.MethodName)) ∈ lw_all := lw_g (lw_at lw_m8 4 rfl) rfl
theorem q1789 : (Jvm.Cond.privateMethod ({ cls := "LearntReasonsModel", name := "isLine", desc := "(I)Z" } : Jvm.MethodName)) ∈ lw_tbl := lw_at lw_m8 5 rfl
theorem q1790 : (Jvm.Cond.instanceMethod ({ cls := "LearntReasonsModel", name := "isLine", desc := "(I)Z" } : Jvm.MethodName)) ∈ lw_all := lw_g (lw_at lw_m8 6 rfl) rfl
theorem q1791 : (Jvm.Cond.code ({ cls := "LearntReasonsModel", name := "isLine", desc := "(I)Z" } : Jvm.MethodName) prog_13_method_56_code (2 : Nat) (Option.some Jvm.ClassFile.FieldType.boolean)) ∈ lw_all := lw_g (lw_at lw_m8 7 rfl) rfl
theorem q1792 : (Jvm.Cond.methodLink "LearntReasonsModel" (201 : Nat) ({ cls := "LearntReasonsModel", name := "lineSize", desc := "(I)I" } : Jvm.MethodName)) ∈ lw_all := lw_g (lw_at lw_m8 8 rfl) rfl
theorem q1793 : (Jvm.Cond.privateMethod ({ cls := "LearntReasonsModel", name := "lineSize", desc := "(I)I" } : Jvm.MethodName)) ∈ lw_tbl := lw_at lw_m8 9 rfl
theorem q1794 : (Jvm.Cond.instanceMethod ({ cls := "LearntReasonsModel", name := "lineSize", desc := "(I)I" } : Jvm.MethodName)) ∈ lw_all := lw_g (lw_at lw_m8 10 rfl) rfl
theorem q1795 : (Jvm.Cond.code ({ cls := "LearntReasonsModel", name := "lineSize", desc := "(I)I" } : Jvm.MethodName) prog_13_method_57_code (2 : Nat) (Option.some Jvm.ClassFile.FieldType.int)) ∈ lw_all := lw_g (lw_at lw_m8 11 rfl) rfl
theorem q1797 : (Jvm.Cond.instanceMethod ({ cls := "LearntReasonsModel", name := "proof", desc := "()I" } : Jvm.MethodName)) ∈ lw_all := lw_g (lw_at lw_m8 13 rfl) rfl
theorem q1798 : (Jvm.Cond.selects "LearntReasonsModel" ({ cls := "LearntReasonsModel", name := "proof", desc := "()I" } : Jvm.MethodName) ({ cls := "LearntReasonsModel", name := "proof", desc := "()I" } : Jvm.MethodName)) ∈ lw_all := lw_g (lw_at lw_m8 14 rfl) rfl
theorem q1799 : (Jvm.Cond.code ({ cls := "LearntReasonsModel", name := "proof", desc := "()I" } : Jvm.MethodName) prog_13_method_62_code (3 : Nat) (Option.some Jvm.ClassFile.FieldType.int)) ∈ lw_all := lw_g (lw_at lw_m8 15 rfl) rfl
theorem q1800 : (Jvm.Cond.methodLink "LearntReasonsModel" (210 : Nat) ({ cls := "LearntReasonsModel", name := "isRefused", desc := "(II)Z" } : Jvm.MethodName)) ∈ lw_all := lw_g (lw_at lw_m8 16 rfl) rfl
theorem q1801 : (Jvm.Cond.privateMethod ({ cls := "LearntReasonsModel", name := "isRefused", desc := "(II)Z" } : Jvm.MethodName)) ∈ lw_tbl := lw_at lw_m8 17 rfl
theorem q1802 : (Jvm.Cond.instanceMethod ({ cls := "LearntReasonsModel", name := "isRefused", desc := "(II)Z" } : Jvm.MethodName)) ∈ lw_all := lw_g (lw_at lw_m8 18 rfl) rfl
theorem q1803 : (Jvm.Cond.code ({ cls := "LearntReasonsModel", name := "isRefused", desc := "(II)Z" } : Jvm.MethodName) prog_13_method_61_code (6 : Nat) (Option.some Jvm.ClassFile.FieldType.boolean)) ∈ lw_all := lw_g (lw_at lw_m8 19 rfl) rfl
theorem q1804 : (Jvm.Cond.methodLink "LearntReasonsModel" (204 : Nat) ({ cls := "LearntReasonsModel", name := "drawsFrom", desc := "(I)I" } : Jvm.MethodName)) ∈ lw_all := lw_g (lw_at lw_m8 20 rfl) rfl
theorem q1805 : (Jvm.Cond.privateMethod ({ cls := "LearntReasonsModel", name := "drawsFrom", desc := "(I)I" } : Jvm.MethodName)) ∈ lw_tbl := lw_at lw_m8 21 rfl
theorem q1806 : (Jvm.Cond.instanceMethod ({ cls := "LearntReasonsModel", name := "drawsFrom", desc := "(I)I" } : Jvm.MethodName)) ∈ lw_all := lw_g (lw_at lw_m8 22 rfl) rfl
theorem q1807 : (Jvm.Cond.code ({ cls := "LearntReasonsModel", name := "drawsFrom", desc := "(I)I" } : Jvm.MethodName) prog_13_method_59_code (3 : Nat) (Option.some Jvm.ClassFile.FieldType.int)) ∈ lw_all := lw_g (lw_at lw_m8 23 rfl) rfl
theorem q1808 : (Jvm.Cond.methodLink "LearntReasonsModel" (207 : Nat) ({ cls := "LearntReasonsModel", name := "drawsRead", desc := "(I)I" } : Jvm.MethodName)) ∈ lw_all := lw_g (lw_at lw_m8 24 rfl) rfl
theorem q1809 : (Jvm.Cond.privateMethod ({ cls := "LearntReasonsModel", name := "drawsRead", desc := "(I)I" } : Jvm.MethodName)) ∈ lw_tbl := lw_at lw_m8 25 rfl
theorem q1810 : (Jvm.Cond.instanceMethod ({ cls := "LearntReasonsModel", name := "drawsRead", desc := "(I)I" } : Jvm.MethodName)) ∈ lw_all := lw_g (lw_at lw_m8 26 rfl) rfl
theorem q1811 : (Jvm.Cond.code ({ cls := "LearntReasonsModel", name := "drawsRead", desc := "(I)I" } : Jvm.MethodName) prog_13_method_60_code (6 : Nat) (Option.some Jvm.ClassFile.FieldType.int)) ∈ lw_all := lw_g (lw_at lw_m8 27 rfl) rfl
theorem q1813 : (Jvm.Cond.instanceMethod ({ cls := "LearntReasonsModel", name := "refute", desc := "()I" } : Jvm.MethodName)) ∈ lw_all := lw_g (lw_at lw_m8 29 rfl) rfl
theorem q1814 : (Jvm.Cond.selects "LearntReasonsModel" ({ cls := "LearntReasonsModel", name := "refute", desc := "()I" } : Jvm.MethodName) ({ cls := "LearntReasonsModel", name := "refute", desc := "()I" } : Jvm.MethodName)) ∈ lw_all := lw_g (lw_at lw_m8 30 rfl) rfl
theorem q1815 : (Jvm.Cond.code ({ cls := "LearntReasonsModel", name := "refute", desc := "()I" } : Jvm.MethodName) prog_13_method_63_code (3 : Nat) (Option.some Jvm.ClassFile.FieldType.int)) ∈ lw_all := lw_g (lw_at lw_m8 31 rfl) rfl
theorem q1816 : (Jvm.Cond.methodLink "LearntReasonsModel" (214 : Nat) ({ cls := "LearntReasonsModel", name := "startsText", desc := "()V" } : Jvm.MethodName)) ∈ lw_all := lw_g (lw_at lw_m8 32 rfl) rfl
theorem q1817 : (Jvm.Cond.privateMethod ({ cls := "LearntReasonsModel", name := "startsText", desc := "()V" } : Jvm.MethodName)) ∈ lw_tbl := lw_at lw_m8 33 rfl
theorem q1818 : (Jvm.Cond.instanceMethod ({ cls := "LearntReasonsModel", name := "startsText", desc := "()V" } : Jvm.MethodName)) ∈ lw_all := lw_g (lw_at lw_m8 34 rfl) rfl
theorem q1819 : (Jvm.Cond.code ({ cls := "LearntReasonsModel", name := "startsText", desc := "()V" } : Jvm.MethodName) prog_13_method_71_code (1 : Nat) (Option.none : Option Jvm.ClassFile.FieldType)) ∈ lw_all := lw_g (lw_at lw_m8 35 rfl) rfl
theorem q1820 : (Jvm.Cond.methodLink "LearntReasonsModel" (223 : Nat) ({ cls := "LearntReasonsModel", name := "here", desc := "()I" } : Jvm.MethodName)) ∈ lw_all := lw_g (lw_at lw_m8 36 rfl) rfl
theorem q1821 : (Jvm.Cond.privateMethod ({ cls := "LearntReasonsModel", name := "here", desc := "()I" } : Jvm.MethodName)) ∈ lw_tbl := lw_at lw_m8 37 rfl
theorem q1822 : (Jvm.Cond.instanceMethod ({ cls := "LearntReasonsModel", name := "here", desc := "()I" } : Jvm.MethodName)) ∈ lw_all := lw_g (lw_at lw_m8 38 rfl) rfl
theorem q1823 : (Jvm.Cond.code ({ cls := "LearntReasonsModel", name := "here", desc := "()I" } : Jvm.MethodName) prog_13_method_72_code (1 : Nat) (Option.some Jvm.ClassFile.FieldType.int)) ∈ lw_all := lw_g (lw_at lw_m8 39 rfl) rfl
theorem q1824 : (Jvm.Cond.methodLink "LearntReasonsModel" (226 : Nat) ({ cls := "LearntReasonsModel", name := "clearsTold", desc := "()V" } : Jvm.MethodName)) ∈ lw_all := lw_g (lw_at lw_m8 40 rfl) rfl
theorem q1825 : (Jvm.Cond.privateMethod ({ cls := "LearntReasonsModel", name := "clearsTold", desc := "()V" } : Jvm.MethodName)) ∈ lw_tbl := lw_at lw_m8 41 rfl
theorem q1826 : (Jvm.Cond.instanceMethod ({ cls := "LearntReasonsModel", name := "clearsTold", desc := "()V" } : Jvm.MethodName)) ∈ lw_all := lw_g (lw_at lw_m8 42 rfl) rfl
theorem q1827 : (Jvm.Cond.code ({ cls := "LearntReasonsModel", name := "clearsTold", desc := "()V" } : Jvm.MethodName) prog_13_method_76_code (2 : Nat) (Option.none : Option Jvm.ClassFile.FieldType)) ∈ lw_all := lw_g (lw_at lw_m8 43 rfl) rfl
theorem q1828 : (Jvm.Cond.methodLink "LearntReasonsModel" (229 : Nat) ({ cls := "LearntReasonsModel", name := "lit", desc := "(ZZ)I" } : Jvm.MethodName)) ∈ lw_all := lw_g (lw_at lw_m8 44 rfl) rfl
theorem q1829 : (Jvm.Cond.privateMethod ({ cls := "LearntReasonsModel", name := "lit", desc := "(ZZ)I" } : Jvm.MethodName)) ∈ lw_tbl := lw_at lw_m8 45 rfl
theorem q1830 : (Jvm.Cond.instanceMethod ({ cls := "LearntReasonsModel", name := "lit", desc := "(ZZ)I" } : Jvm.MethodName)) ∈ lw_all := lw_g (lw_at lw_m8 46 rfl) rfl
theorem q1831 : (Jvm.Cond.code ({ cls := "LearntReasonsModel", name := "lit", desc := "(ZZ)I" } : Jvm.MethodName) prog_13_method_77_code (6 : Nat) (Option.some Jvm.ClassFile.FieldType.int)) ∈ lw_all := lw_g (lw_at lw_m8 47 rfl) rfl
theorem q1832 : (Jvm.Cond.methodLink "LearntReasonsModel" (248 : Nat) ({ cls := "LearntReasonsModel", name := "fails", desc := "(II)V" } : Jvm.MethodName)) ∈ lw_all := lw_g (lw_at lw_m8 48 rfl) rfl
theorem q1833 : (Jvm.Cond.privateMethod ({ cls := "LearntReasonsModel", name := "fails", desc := "(II)V" } : Jvm.MethodName)) ∈ lw_tbl := lw_at lw_m8 49 rfl
theorem q1834 : (Jvm.Cond.instanceMethod ({ cls := "LearntReasonsModel", name := "fails", desc := "(II)V" } : Jvm.MethodName)) ∈ lw_all := lw_g (lw_at lw_m8 50 rfl) rfl
theorem q1835 : (Jvm.Cond.code ({ cls := "LearntReasonsModel", name := "fails", desc := "(II)V" } : Jvm.MethodName) prog_13_method_73_code (3 : Nat) (Option.none : Option Jvm.ClassFile.FieldType)) ∈ lw_all := lw_g (lw_at lw_m8 51 rfl) rfl
theorem q1836 : (Jvm.Cond.methodLink "LearntReasonsModel" (251 : Nat) ({ cls := "LearntReasonsModel", name := "number", desc := "()I" } : Jvm.MethodName)) ∈ lw_all := lw_g (lw_at lw_m8 52 rfl) rfl
theorem q1837 : (Jvm.Cond.privateMethod ({ cls := "LearntReasonsModel", name := "number", desc := "()I" } : Jvm.MethodName)) ∈ lw_tbl := lw_at lw_m8 53 rfl
theorem q1838 : (Jvm.Cond.instanceMethod ({ cls := "LearntReasonsModel", name := "number", desc := "()I" } : Jvm.MethodName)) ∈ lw_all := lw_g (lw_at lw_m8 54 rfl) rfl
theorem q1839 : (Jvm.Cond.code ({ cls := "LearntReasonsModel", name := "number", desc := "()I" } : Jvm.MethodName) prog_13_method_75_code (4 : Nat) (Option.some Jvm.ClassFile.FieldType.int)) ∈ lw_all := lw_g (lw_at lw_m8 55 rfl) rfl
theorem q1840 : (Jvm.Cond.methodLink "LearntReasonsModel" (245 : Nat) ({ cls := "LearntReasonsModel", name := "isDigit", desc := "()Z" } : Jvm.MethodName)) ∈ lw_all := lw_g (lw_at lw_m8 56 rfl) rfl
theorem q1841 : (Jvm.Cond.privateMethod ({ cls := "LearntReasonsModel", name := "isDigit", desc := "()Z" } : Jvm.MethodName)) ∈ lw_tbl := lw_at lw_m8 57 rfl
theorem q1842 : (Jvm.Cond.instanceMethod ({ cls := "LearntReasonsModel", name := "isDigit", desc := "()Z" } : Jvm.MethodName)) ∈ lw_all := lw_g (lw_at lw_m8 58 rfl) rfl
theorem q1843 : (Jvm.Cond.code ({ cls := "LearntReasonsModel", name := "isDigit", desc := "()Z" } : Jvm.MethodName) prog_13_method_74_code (1 : Nat) (Option.some Jvm.ClassFile.FieldType.boolean)) ∈ lw_all := lw_g (lw_at lw_m8 59 rfl) rfl
theorem q1845 : (Jvm.Cond.instanceMethod ({ cls := "LearntReasonsModel", name := "closed", desc := "()I" } : Jvm.MethodName)) ∈ lw_all := lw_g (lw_at lw_m8 61 rfl) rfl
theorem q1846 : (Jvm.Cond.selects "LearntReasonsModel" ({ cls := "LearntReasonsModel", name := "closed", desc := "()I" } : Jvm.MethodName) ({ cls := "LearntReasonsModel", name := "closed", desc := "()I" } : Jvm.MethodName)) ∈ lw_all := lw_g (lw_at lw_m8 62 rfl) rfl
theorem q1847 : (Jvm.Cond.code ({ cls := "LearntReasonsModel", name := "closed", desc := "()I" } : Jvm.MethodName) prog_13_method_64_code (1 : Nat) (Option.some Jvm.ClassFile.FieldType.int)) ∈ lw_all := lw_g (lw_at lw_m8 63 rfl) rfl
theorem q1849 : (Jvm.Cond.instanceMethod ({ cls := "LearntReasonsModel", name := "models", desc := "()I" } : Jvm.MethodName)) ∈ lw_all := lw_g (lw_at lw_m8 65 rfl) rfl
theorem q1850 : (Jvm.Cond.selects "LearntReasonsModel" ({ cls := "LearntReasonsModel", name := "models", desc := "()I" } : Jvm.MethodName) ({ cls := "LearntReasonsModel", name := "models", desc := "()I" } : Jvm.MethodName)) ∈ lw_all := lw_g (lw_at lw_m8 66 rfl) rfl
theorem q1851 : (Jvm.Cond.code ({ cls := "LearntReasonsModel", name := "models", desc := "()I" } : Jvm.MethodName) prog_13_method_66_code (3 : Nat) (Option.some Jvm.ClassFile.FieldType.int)) ∈ lw_all := lw_g (lw_at lw_m8 67 rfl) rfl
theorem q1852 : (Jvm.Cond.methodLink "LearntReasonsModel" (236 : Nat) ({ cls := "LearntReasonsModel", name := "isModel", desc := "(I)Z" } : Jvm.MethodName)) ∈ lw_all := lw_g (lw_at lw_m8 68 rfl) rfl
theorem q1853 : (Jvm.Cond.privateMethod ({ cls := "LearntReasonsModel", name := "isModel", desc := "(I)Z" } : Jvm.MethodName)) ∈ lw_tbl := lw_at lw_m8 69 rfl
theorem q1854 : (Jvm.Cond.instanceMethod ({ cls := "LearntReasonsModel", name := "isModel", desc := "(I)Z" } : Jvm.MethodName)) ∈ lw_all := lw_g (lw_at lw_m8 70 rfl) rfl
theorem q1855 : (Jvm.Cond.code ({ cls := "LearntReasonsModel", name := "isModel", desc := "(I)Z" } : Jvm.MethodName) prog_13_method_65_code (5 : Nat) (Option.some Jvm.ClassFile.FieldType.boolean)) ∈ lw_all := lw_g (lw_at lw_m8 71 rfl) rfl
theorem q1857 : (Jvm.Cond.instanceMethod ({ cls := "LearntReasonsModel", name := "fixed", desc := "(Z)I" } : Jvm.MethodName)) ∈ lw_all := lw_g (lw_at lw_m8 73 rfl) rfl
theorem q1858 : (Jvm.Cond.selects "LearntReasonsModel" ({ cls := "LearntReasonsModel", name := "fixed", desc := "(Z)I" } : Jvm.MethodName) ({ cls := "LearntReasonsModel", name := "fixed", desc := "(Z)I" } : Jvm.MethodName)) ∈ lw_all := lw_g (lw_at lw_m8 74 rfl) rfl
theorem q1859 : (Jvm.Cond.code ({ cls := "LearntReasonsModel", name := "fixed", desc := "(Z)I" } : Jvm.MethodName) prog_13_method_67_code (6 : Nat) (Option.some Jvm.ClassFile.FieldType.int)) ∈ lw_all := lw_g (lw_at lw_m8 75 rfl) rfl
theorem q1861 : (Jvm.Cond.instanceMethod ({ cls := "LearntReasonsModel", name := "feed", desc := "(IIIII)I" } : Jvm.MethodName)) ∈ lw_all := lw_g (lw_at lw_m8 77 rfl) rfl
theorem q1862 : (Jvm.Cond.selects "LearntReasonsModel" ({ cls := "LearntReasonsModel", name := "feed", desc := "(IIIII)I" } : Jvm.MethodName) ({ cls := "LearntReasonsModel", name := "feed", desc := "(IIIII)I" } : Jvm.MethodName)) ∈ lw_all := lw_g (lw_at lw_m8 78 rfl) rfl
theorem q1863 : (Jvm.Cond.code ({ cls := "LearntReasonsModel", name := "feed", desc := "(IIIII)I" } : Jvm.MethodName) prog_13_method_69_code (6 : Nat) (Option.some Jvm.ClassFile.FieldType.int)) ∈ lw_all := lw_g (lw_at lw_m8 79 rfl) rfl
theorem q1864 : (Jvm.Cond.methodLink "LearntReasonsModel" (239 : Nat) ({ cls := "LearntReasonsModel", name := "put", desc := "(I)V" } : Jvm.MethodName)) ∈ lw_all := lw_g (lw_at lw_m8 80 rfl) rfl
theorem q1865 : (Jvm.Cond.privateMethod ({ cls := "LearntReasonsModel", name := "put", desc := "(I)V" } : Jvm.MethodName)) ∈ lw_tbl := lw_at lw_m8 81 rfl
theorem q1866 : (Jvm.Cond.instanceMethod ({ cls := "LearntReasonsModel", name := "put", desc := "(I)V" } : Jvm.MethodName)) ∈ lw_all := lw_g (lw_at lw_m8 82 rfl) rfl
theorem q1867 : (Jvm.Cond.code ({ cls := "LearntReasonsModel", name := "put", desc := "(I)V" } : Jvm.MethodName) prog_13_method_68_code (3 : Nat) (Option.none : Option Jvm.ClassFile.FieldType)) ∈ lw_all := lw_g (lw_at lw_m8 83 rfl) rfl
theorem q1869 : (Jvm.Cond.instanceMethod ({ cls := "LearntReasonsModel", name := "end", desc := "(I)Z" } : Jvm.MethodName)) ∈ lw_all := lw_g (lw_at lw_m8 85 rfl) rfl
theorem q1870 : (Jvm.Cond.selects "LearntReasonsModel" ({ cls := "LearntReasonsModel", name := "end", desc := "(I)Z" } : Jvm.MethodName) ({ cls := "LearntReasonsModel", name := "end", desc := "(I)Z" } : Jvm.MethodName)) ∈ lw_all := lw_g (lw_at lw_m8 86 rfl) rfl
theorem q1871 : (Jvm.Cond.code ({ cls := "LearntReasonsModel", name := "end", desc := "(I)Z" } : Jvm.MethodName) prog_13_method_70_code (2 : Nat) (Option.some Jvm.ClassFile.FieldType.boolean)) ∈ lw_all := lw_g (lw_at lw_m8 87 rfl) rfl
theorem q1873 : (Jvm.Cond.instanceMethod ({ cls := "LearntReasonsModel", name := "tell", desc := "()I" } : Jvm.MethodName)) ∈ lw_all := lw_g (lw_at lw_m8 89 rfl) rfl
theorem q1874 : (Jvm.Cond.selects "LearntReasonsModel" ({ cls := "LearntReasonsModel", name := "tell", desc := "()I" } : Jvm.MethodName) ({ cls := "LearntReasonsModel", name := "tell", desc := "()I" } : Jvm.MethodName)) ∈ lw_all := lw_g (lw_at lw_m8 90 rfl) rfl
theorem q1875 : (Jvm.Cond.code ({ cls := "LearntReasonsModel", name := "tell", desc := "()I" } : Jvm.MethodName) prog_13_method_86_code (3 : Nat) (Option.some Jvm.ClassFile.FieldType.int)) ∈ lw_all := lw_g (lw_at lw_m8 91 rfl) rfl
theorem q1876 : (Jvm.Cond.methodLink "LearntReasonsModel" (286 : Nat) ({ cls := "LearntReasonsModel", name := "statement", desc := "()V" } : Jvm.MethodName)) ∈ lw_all := lw_g (lw_at lw_m8 92 rfl) rfl
theorem q1877 : (Jvm.Cond.privateMethod ({ cls := "LearntReasonsModel", name := "statement", desc := "()V" } : Jvm.MethodName)) ∈ lw_tbl := lw_at lw_m8 93 rfl
theorem q1878 : (Jvm.Cond.instanceMethod ({ cls := "LearntReasonsModel", name := "statement", desc := "()V" } : Jvm.MethodName)) ∈ lw_all := lw_g (lw_at lw_m8 94 rfl) rfl
theorem q1879 : (Jvm.Cond.code ({ cls := "LearntReasonsModel", name := "statement", desc := "()V" } : Jvm.MethodName) prog_13_method_85_code (4 : Nat) (Option.none : Option Jvm.ClassFile.FieldType)) ∈ lw_all := lw_g (lw_at lw_m8 95 rfl) rfl
theorem q1880 : (Jvm.Cond.methodLink "LearntReasonsModel" (258 : Nat) ({ cls := "LearntReasonsModel", name := "isLit", desc := "()Z" } : Jvm.MethodName)) ∈ lw_all := lw_g (lw_at lw_m8 96 rfl) rfl
theorem q1881 : (Jvm.Cond.privateMethod ({ cls := "LearntReasonsModel", name := "isLit", desc := "()Z" } : Jvm.MethodName)) ∈ lw_tbl := lw_at lw_m8 97 rfl
theorem q1882 : (Jvm.Cond.instanceMethod ({ cls := "LearntReasonsModel", name := "isLit", desc := "()Z" } : Jvm.MethodName)) ∈ lw_all := lw_g (lw_at lw_m8 98 rfl) rfl
theorem q1883 : (Jvm.Cond.code ({ cls := "LearntReasonsModel", name := "isLit", desc := "()Z" } : Jvm.MethodName) prog_13_method_78_code (1 : Nat) (Option.some Jvm.ClassFile.FieldType.boolean)) ∈ lw_all := lw_g (lw_at lw_m8 99 rfl) rfl
theorem q1884 : (Jvm.Cond.methodLink "LearntReasonsModel" (264 : Nat) ({ cls := "LearntReasonsModel", name := "clauseTold", desc := "()V" } : Jvm.MethodName)) ∈ lw_all := lw_g (lw_at lw_m8 100 rfl) rfl
theorem q1885 : (Jvm.Cond.privateMethod ({ cls := "LearntReasonsModel", name := "clauseTold", desc := "()V" } : Jvm.MethodName)) ∈ lw_tbl := lw_at lw_m8 101 rfl
theorem q1886 : (Jvm.Cond.instanceMethod ({ cls := "LearntReasonsModel", name := "clauseTold", desc := "()V" } : Jvm.MethodName)) ∈ lw_all := lw_g (lw_at lw_m8 102 rfl) rfl
theorem q1887 : (Jvm.Cond.code ({ cls := "LearntReasonsModel", name := "clauseTold", desc := "()V" } : Jvm.MethodName) prog_13_method_81_code (5 : Nat) (Option.none : Option Jvm.ClassFile.FieldType)) ∈ lw_all := lw_g (lw_at lw_m8 103 rfl) rfl
theorem q1888 : (Jvm.Cond.methodLink "LearntReasonsModel" (261 : Nat) ({ cls := "LearntReasonsModel", name := "endsStatement", desc := "()V" } : Jvm.MethodName)) ∈ lw_all := lw_g (lw_at lw_m8 104 rfl) rfl
theorem q1889 : (Jvm.Cond.privateMethod ({ cls := "LearntReasonsModel", name := "endsStatement", desc := "()V" } : Jvm.MethodName)) ∈ lw_tbl := lw_at lw_m8 105 rfl
theorem q1890 : (Jvm.Cond.instanceMethod ({ cls := "LearntReasonsModel", name := "endsStatement", desc := "()V" } : Jvm.MethodName)) ∈ lw_all := lw_g (lw_at lw_m8 106 rfl) rfl
theorem q1891 : (Jvm.Cond.code ({ cls := "LearntReasonsModel", name := "endsStatement", desc := "()V" } : Jvm.MethodName) prog_13_method_80_code (1 : Nat) (Option.none : Option Jvm.ClassFile.FieldType)) ∈ lw_all := lw_g (lw_at lw_m8 107 rfl) rfl
theorem q1892 : (Jvm.Cond.methodLink "LearntReasonsModel" (267 : Nat) ({ cls := "LearntReasonsModel", name := "word", desc := "()J" } : Jvm.MethodName)) ∈ lw_all := lw_g (lw_at lw_m8 108 rfl) rfl
theorem q1893 : (Jvm.Cond.privateMethod ({ cls := "LearntReasonsModel", name := "word", desc := "()J" } : Jvm.MethodName)) ∈ lw_tbl := lw_at lw_m8 109 rfl
theorem q1894 : (Jvm.Cond.instanceMethod ({ cls := "LearntReasonsModel", name := "word", desc := "()J" } : Jvm.MethodName)) ∈ lw_all := lw_g (lw_at lw_m8 110 rfl) rfl
theorem q1895 : (Jvm.Cond.code ({ cls := "LearntReasonsModel", name := "word", desc := "()J" } : Jvm.MethodName) prog_13_method_79_code (4 : Nat) (Option.some Jvm.ClassFile.FieldType.long)) ∈ lw_all := lw_g (lw_at lw_m8 111 rfl) rfl
theorem q1896 : (Jvm.Cond.constantLong "LearntReasonsModel" (254 : Nat) (27 : Int64)) ∈ lw_all := lw_g (lw_at lw_m8 112 rfl) rfl
theorem q1897 : (Jvm.Cond.constantLong "LearntReasonsModel" (256 : Nat) (96 : Int64)) ∈ lw_all := lw_g (lw_at lw_m8 113 rfl) rfl
theorem q1898 : (Jvm.Cond.constantLong "LearntReasonsModel" (271 : Nat) (151331 : Int64)) ∈ lw_all := lw_g (lw_at lw_m8 114 rfl) rfl
theorem q1899 : (Jvm.Cond.methodLink "LearntReasonsModel" (273 : Nat) ({ cls := "LearntReasonsModel", name := "growTold", desc := "()V" } : Jvm.MethodName)) ∈ lw_all := lw_g (lw_at lw_m8 115 rfl) rfl
theorem q1900 : (Jvm.Cond.privateMethod ({ cls := "LearntReasonsModel", name := "growTold", desc := "()V" } : Jvm.MethodName)) ∈ lw_tbl := lw_at lw_m8 116 rfl
theorem q1901 : (Jvm.Cond.instanceMethod ({ cls := "LearntReasonsModel", name := "growTold", desc := "()V" } : Jvm.MethodName)) ∈ lw_all := lw_g (lw_at lw_m8 117 rfl) rfl
theorem q1902 : (Jvm.Cond.code ({ cls := "LearntReasonsModel", name := "growTold", desc := "()V" } : Jvm.MethodName) prog_13_method_84_code (3 : Nat) (Option.none : Option Jvm.ClassFile.FieldType)) ∈ lw_all := lw_g (lw_at lw_m8 118 rfl) rfl
theorem q1903 : (Jvm.Cond.constantLong "LearntReasonsModel" (276 : Nat) (24835928 : Int64)) ∈ lw_all := lw_g (lw_at lw_m8 119 rfl) rfl
theorem q1904 : (Jvm.Cond.methodLink "LearntReasonsModel" (278 : Nat) ({ cls := "LearntReasonsModel", name := "assumeTold", desc := "()V" } : Jvm.MethodName)) ∈ lw_all := lw_g (lw_at lw_m8 120 rfl) rfl
theorem q1905 : (Jvm.Cond.privateMethod ({ cls := "LearntReasonsModel", name := "assumeTold", desc := "()V" } : Jvm.MethodName)) ∈ lw_tbl := lw_at lw_m8 121 rfl
theorem q1906 : (Jvm.Cond.instanceMethod ({ cls := "LearntReasonsModel", name := "assumeTold", desc := "()V" } : Jvm.MethodName)) ∈ lw_all := lw_g (lw_at lw_m8 122 rfl) rfl
theorem q1907 : (Jvm.Cond.code ({ cls := "LearntReasonsModel", name := "assumeTold", desc := "()V" } : Jvm.MethodName) prog_13_method_82_code (3 : Nat) (Option.none : Option Jvm.ClassFile.FieldType)) ∈ lw_all := lw_g (lw_at lw_m8 123 rfl) rfl
theorem q1908 : (Jvm.Cond.constantLong "LearntReasonsModel" (281 : Nat) (8661767 : Int64)) ∈ lw_all := lw_g (lw_at lw_m8 124 rfl) rfl
theorem q1909 : (Jvm.Cond.methodLink "LearntReasonsModel" (283 : Nat) ({ cls := "LearntReasonsModel", name := "phaseTold", desc := "()V" } : Jvm.MethodName)) ∈ lw_all := lw_g (lw_at lw_m8 125 rfl) rfl
theorem q1910 : (Jvm.Cond.privateMethod ({ cls := "LearntReasonsModel", name := "phaseTold", desc := "()V" } : Jvm.MethodName)) ∈ lw_tbl := lw_at lw_m8 126 rfl
theorem q1911 : (Jvm.Cond.instanceMethod ({ cls := "LearntReasonsModel", name := "phaseTold", desc := "()V" } : Jvm.MethodName)) ∈ lw_all := lw_g (lw_at lw_m8 127 rfl) rfl
theorem q1912 : (Jvm.Cond.code ({ cls := "LearntReasonsModel", name := "phaseTold", desc := "()V" } : Jvm.MethodName) prog_13_method_83_code (3 : Nat) (Option.none : Option Jvm.ClassFile.FieldType)) ∈ lw_all := lw_g (lw_at lw_m8 128 rfl) rfl
theorem q1914 : (Jvm.Cond.instanceMethod ({ cls := "LearntReasonsModel", name := "fault", desc := "()I" } : Jvm.MethodName)) ∈ lw_all := lw_g (lw_at lw_m8 130 rfl) rfl
theorem q1915 : (Jvm.Cond.selects "LearntReasonsModel" ({ cls := "LearntReasonsModel", name := "fault", desc := "()I" } : Jvm.MethodName) ({ cls := "LearntReasonsModel", name := "fault", desc := "()I" } : Jvm.MethodName)) ∈ lw_all := lw_g (lw_at lw_m8 131 rfl) rfl
theorem q1916 : (Jvm.Cond.code ({ cls := "LearntReasonsModel", name := "fault", desc := "()I" } : Jvm.MethodName) prog_13_method_87_code (1 : Nat) (Option.some Jvm.ClassFile.FieldType.int)) ∈ lw_all := lw_g (lw_at lw_m8 132 rfl) rfl
theorem q1940 : (Jvm.Cond.castable "LearntReasonsModel" "java/lang/Object") ∈ lw_tbl := lw_at lw_m8 156 rfl
theorem in_X3 : ∀ w ∈ wsX30, w ∈ lw_all := lw_in wsX30 [1514, 1516, 1518, 1520, 1522, 1524, 1526, 1528, 1530, 1532, 1534, 1536, 1538, 1540, 1542, 1544, 1546, 1548, 1550, 1552, 1554, 1556, 1558, 1560, 1562, 1564, 1566, 1568] (by decide +kernel) (by decide +kernel)

