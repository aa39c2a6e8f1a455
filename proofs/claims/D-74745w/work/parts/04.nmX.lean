/-! LearntReasonsLaw -/
set_option maxRecDepth 100000
def RX0 : String := "LearntReasonsLaw"
abbrev cX0_clause : ByteArray := method_3_code
def yX0_clause : MethodName := ⟨RX0, "clause", "(LLearntReasons;II[J)I"⟩
def dkwX0_clause_0 : List UInt8 := [45, 3, 42, 27, 28, 182, 0, 7, 133, 80, 167, 0, 7, 58, 4, 4, 172, 3, 172]
abbrev dktX0_clause_0 : List UInt8 := dkwX0_clause_0 ++ []
theorem dksX0_clause_0 : cX0_clause.data.toList.drop 0 = dktX0_clause_0 := by decide +kernel
theorem dX0_clause_0 : decode cX0_clause 0 = .ok (.aload_n 3, 1) := dk_45 (dk_at dksX0_clause_0 0 rfl rfl)
theorem dX0_clause_1 : decode cX0_clause 1 = .ok (.iconst 0, 1) := dk_3 (dk_at dksX0_clause_0 1 rfl rfl)
theorem dX0_clause_2 : decode cX0_clause 2 = .ok (.aload_n 0, 1) := dk_42 (dk_at dksX0_clause_0 2 rfl rfl)
theorem dX0_clause_3 : decode cX0_clause 3 = .ok (.iload_n 1, 1) := dk_27 (dk_at dksX0_clause_0 3 rfl rfl)
theorem dX0_clause_4 : decode cX0_clause 4 = .ok (.iload_n 2, 1) := dk_28 (dk_at dksX0_clause_0 4 rfl rfl)
theorem dX0_clause_5 : decode cX0_clause 5 = .ok (.invokevirtual 7, 3) := dk_182 0 7 (dk_at dksX0_clause_0 5 rfl rfl)
theorem dX0_clause_8 : decode cX0_clause 8 = .ok (.i2l, 1) := dk_133 (dk_at dksX0_clause_0 8 rfl rfl)
theorem dX0_clause_9 : decode cX0_clause 9 = .ok (.lastore, 1) := dk_80 (dk_at dksX0_clause_0 9 rfl rfl)
theorem dX0_clause_10 : decode cX0_clause 10 = .ok (.goto 7, 3) := dk_167 0 7 (dk_at dksX0_clause_0 10 rfl rfl)
theorem dX0_clause_13 : decode cX0_clause 13 = .ok (.astore 4, 2) := dk_58 4 (dk_at dksX0_clause_0 13 rfl rfl)
theorem dX0_clause_15 : decode cX0_clause 15 = .ok (.iconst 1, 1) := dk_4 (dk_at dksX0_clause_0 15 rfl rfl)
theorem dX0_clause_16 : decode cX0_clause 16 = .ok (.ireturn, 1) := dk_172 (dk_at dksX0_clause_0 16 rfl rfl)
theorem dX0_clause_17 : decode cX0_clause 17 = .ok (.iconst 0, 1) := dk_3 (dk_at dksX0_clause_0 17 rfl rfl)
theorem dX0_clause_18 : decode cX0_clause 18 = .ok (.ireturn, 1) := dk_172 (dk_at dksX0_clause_0 18 rfl rfl)
theorem q104 : (Jvm.Cond.initialized "LearntReasonsLaw") ∈ lw_all := lw_g (lw_at lw_m1 0 rfl) rfl
theorem q137 : (Jvm.Cond.classLink "LearntReasonsLaw" (8 : Nat) "LearntReasons") ∈ lw_all := lw_g (lw_at lw_m1 33 rfl) rfl
theorem q139 : (Jvm.Cond.methodLink "LearntReasonsLaw" (15 : Nat) ({ cls := "LearntReasons", name := "<init>", desc := "()V" } : Jvm.MethodName)) ∈ lw_all := lw_g (lw_at lw_m1 35 rfl) rfl
theorem q291 : (Jvm.Cond.methodLink "LearntReasonsLaw" (38 : Nat) ({ cls := "LearntReasons", name := "grow", desc := "(I)I" } : Jvm.MethodName)) ∈ lw_all := lw_g (lw_at lw_m1 187 rfl) rfl
theorem q302 : (Jvm.Cond.methodLink "LearntReasonsLaw" (43 : Nat) ({ cls := "LearntReasons", name := "add", desc := "(I)I" } : Jvm.MethodName)) ∈ lw_all := lw_g (lw_at lw_m1 198 rfl) rfl
theorem q327 : (Jvm.Cond.methodLink "LearntReasonsLaw" (47 : Nat) ({ cls := "LearntReasons", name := "close", desc := "()I" } : Jvm.MethodName)) ∈ lw_all := lw_g (lw_at lw_m1 223 rfl) rfl
theorem q473 : (Jvm.Cond.methodLink "LearntReasonsLaw" (51 : Nat) ({ cls := "LearntReasons", name := "assume", desc := "(I)I" } : Jvm.MethodName)) ∈ lw_all := lw_g (lw_at lw_m2 129 rfl) rfl
theorem q481 : (Jvm.Cond.methodLink "LearntReasonsLaw" (55 : Nat) ({ cls := "LearntReasons", name := "free", desc := "()I" } : Jvm.MethodName)) ∈ lw_all := lw_g (lw_at lw_m2 137 rfl) rfl
theorem q485 : (Jvm.Cond.methodLink "LearntReasonsLaw" (59 : Nat) ({ cls := "LearntReasons", name := "phase", desc := "(I)Z" } : Jvm.MethodName)) ∈ lw_all := lw_g (lw_at lw_m2 141 rfl) rfl
theorem q491 : (Jvm.Cond.methodLink "LearntReasonsLaw" (63 : Nat) ({ cls := "LearntReasons", name := "unit", desc := "(I)Z" } : Jvm.MethodName)) ∈ lw_all := lw_g (lw_at lw_m2 147 rfl) rfl
theorem q496 : (Jvm.Cond.methodLink "LearntReasonsLaw" (67 : Nat) ({ cls := "LearntReasons", name := "forget", desc := "(I)I" } : Jvm.MethodName)) ∈ lw_all := lw_g (lw_at lw_m2 152 rfl) rfl
theorem q622 : (Jvm.Cond.methodLink "LearntReasonsLaw" (71 : Nat) ({ cls := "LearntReasons", name := "keep", desc := "(I)Z" } : Jvm.MethodName)) ∈ lw_all := lw_g (lw_at lw_m3 38 rfl) rfl
theorem q658 : (Jvm.Cond.methodLink "LearntReasonsLaw" (75 : Nat) ({ cls := "LearntReasons", name := "back", desc := "(I)Z" } : Jvm.MethodName)) ∈ lw_all := lw_g (lw_at lw_m3 74 rfl) rfl
theorem q662 : (Jvm.Cond.methodLink "LearntReasonsLaw" (79 : Nat) ({ cls := "LearntReasons", name := "solve", desc := "(I)I" } : Jvm.MethodName)) ∈ lw_all := lw_g (lw_at lw_m3 78 rfl) rfl
theorem q999 : (Jvm.Cond.methodLink "LearntReasonsLaw" (83 : Nat) ({ cls := "LearntReasons", name := "count", desc := "(I)I" } : Jvm.MethodName)) ∈ lw_all := lw_g (lw_at lw_m4 175 rfl) rfl
theorem q1012 : (Jvm.Cond.methodLink "LearntReasonsLaw" (96 : Nat) ({ cls := "LearntReasons", name := "assumption", desc := "(I)I" } : Jvm.MethodName)) ∈ lw_all := lw_g (lw_at lw_m4 188 rfl) rfl
theorem q1016 : (Jvm.Cond.methodLink "LearntReasonsLaw" (100 : Nat) ({ cls := "LearntReasons", name := "model", desc := "(I)I" } : Jvm.MethodName)) ∈ lw_all := lw_g (lw_at lw_m4 192 rfl) rfl
theorem q1020 : (Jvm.Cond.methodLink "LearntReasonsLaw" (104 : Nat) ({ cls := "LearntReasons", name := "core", desc := "()I" } : Jvm.MethodName)) ∈ lw_all := lw_g (lw_at lw_m4 196 rfl) rfl
theorem q1024 : (Jvm.Cond.methodLink "LearntReasonsLaw" (108 : Nat) ({ cls := "LearntReasons", name := "variable", desc := "(II)I" } : Jvm.MethodName)) ∈ lw_all := lw_g (lw_at lw_m4 200 rfl) rfl
theorem q1034 : (Jvm.Cond.methodLink "LearntReasonsLaw" (112 : Nat) ({ cls := "LearntReasons", name := "follows", desc := "(I)I" } : Jvm.MethodName)) ∈ lw_all := lw_g (lw_at lw_m4 210 rfl) rfl
theorem q1082 : (Jvm.Cond.methodLink "LearntReasonsLaw" (116 : Nat) ({ cls := "LearntReasons", name := "line", desc := "(II)I" } : Jvm.MethodName)) ∈ lw_all := lw_g (lw_at lw_m5 18 rfl) rfl
theorem q1086 : (Jvm.Cond.methodLink "LearntReasonsLaw" (120 : Nat) ({ cls := "LearntReasons", name := "proof", desc := "()I" } : Jvm.MethodName)) ∈ lw_all := lw_g (lw_at lw_m5 22 rfl) rfl
theorem q1098 : (Jvm.Cond.methodLink "LearntReasonsLaw" (124 : Nat) ({ cls := "LearntReasons", name := "refute", desc := "()I" } : Jvm.MethodName)) ∈ lw_all := lw_g (lw_at lw_m5 34 rfl) rfl
theorem q1223 : (Jvm.Cond.methodLink "LearntReasonsLaw" (128 : Nat) ({ cls := "LearntReasons", name := "closed", desc := "()I" } : Jvm.MethodName)) ∈ lw_all := lw_g (lw_at lw_m5 159 rfl) rfl
theorem q1227 : (Jvm.Cond.methodLink "LearntReasonsLaw" (132 : Nat) ({ cls := "LearntReasons", name := "models", desc := "()I" } : Jvm.MethodName)) ∈ lw_all := lw_g (lw_at lw_m5 163 rfl) rfl
theorem q1246 : (Jvm.Cond.methodLink "LearntReasonsLaw" (136 : Nat) ({ cls := "LearntReasons", name := "fixed", desc := "(Z)I" } : Jvm.MethodName)) ∈ lw_all := lw_g (lw_at lw_m5 182 rfl) rfl
theorem q1252 : (Jvm.Cond.methodLink "LearntReasonsLaw" (19 : Nat) ({ cls := "LearntReasons", name := "feed", desc := "(IIIII)I" } : Jvm.MethodName)) ∈ lw_all := lw_g (lw_at lw_m5 188 rfl) rfl
theorem q1260 : (Jvm.Cond.methodLink "LearntReasonsLaw" (24 : Nat) ({ cls := "LearntReasons", name := "end", desc := "(I)Z" } : Jvm.MethodName)) ∈ lw_all := lw_g (lw_at lw_m5 196 rfl) rfl
theorem q1264 : (Jvm.Cond.methodLink "LearntReasonsLaw" (29 : Nat) ({ cls := "LearntReasons", name := "tell", desc := "()I" } : Jvm.MethodName)) ∈ lw_all := lw_g (lw_at lw_m5 200 rfl) rfl
theorem q1465 : (Jvm.Cond.methodLink "LearntReasonsLaw" (34 : Nat) ({ cls := "LearntReasons", name := "fault", desc := "()I" } : Jvm.MethodName)) ∈ lw_all := lw_g (lw_at lw_m6 161 rfl) rfl
theorem q1469 : (Jvm.Cond.methodLink "LearntReasonsLaw" (87 : Nat) ({ cls := "LearntReasonsLaw", name := "clause", desc := "(LLearntReasons;II[J)I" } : Jvm.MethodName)) ∈ lw_all := lw_g (lw_at lw_m6 165 rfl) rfl
theorem q1470 : (Jvm.Cond.static ({ cls := "LearntReasonsLaw", name := "clause", desc := "(LLearntReasons;II[J)I" } : Jvm.MethodName)) ∈ lw_all := lw_g (lw_at lw_m6 166 rfl) rfl
theorem q1471 : (Jvm.Cond.codeWith ({ cls := "LearntReasonsLaw", name := "clause", desc := "(LLearntReasons;II[J)I" } : Jvm.MethodName) method_3_code (5 : Nat) (Option.some Jvm.ClassFile.FieldType.int) [((0 : Nat), (10 : Nat), (13 : Nat), (13 : Nat))]) ∈ lw_all := lw_g (lw_at lw_m6 167 rfl) rfl
theorem q1472 : (Jvm.Cond.classLink "LearntReasonsLaw" (13 : Nat) "java/util/NoSuchElementException") ∈ lw_all := lw_g (lw_at lw_m6 168 rfl) rfl
theorem q1473 : (Jvm.Cond.methodLink "LearntReasonsLaw" (7 : Nat) ({ cls := "LearntReasons", name := "clause", desc := "(II)I" } : Jvm.MethodName)) ∈ lw_all := lw_g (lw_at lw_m6 169 rfl) rfl
theorem q1480 : (Jvm.Cond.classLink "LearntReasonsLaw" (16 : Nat) "LearntReasonsModel") ∈ lw_all := lw_g (lw_at lw_m6 176 rfl) rfl
theorem q1482 : (Jvm.Cond.methodLink "LearntReasonsLaw" (18 : Nat) ({ cls := "LearntReasonsModel", name := "<init>", desc := "()V" } : Jvm.MethodName)) ∈ lw_all := lw_g (lw_at lw_m6 178 rfl) rfl
theorem q1571 : (Jvm.Cond.methodLink "LearntReasonsLaw" (93 : Nat) ({ cls := "LearntReasonsModel", name := "thrown", desc := "()I" } : Jvm.MethodName)) ∈ lw_all := lw_g (lw_at lw_m7 27 rfl) rfl
theorem q1575 : (Jvm.Cond.methodLink "LearntReasonsLaw" (42 : Nat) ({ cls := "LearntReasonsModel", name := "grow", desc := "(I)I" } : Jvm.MethodName)) ∈ lw_all := lw_g (lw_at lw_m7 31 rfl) rfl
theorem q1583 : (Jvm.Cond.methodLink "LearntReasonsLaw" (46 : Nat) ({ cls := "LearntReasonsModel", name := "add", desc := "(I)I" } : Jvm.MethodName)) ∈ lw_all := lw_g (lw_at lw_m7 39 rfl) rfl
theorem q1601 : (Jvm.Cond.methodLink "LearntReasonsLaw" (50 : Nat) ({ cls := "LearntReasonsModel", name := "close", desc := "()I" } : Jvm.MethodName)) ∈ lw_all := lw_g (lw_at lw_m7 57 rfl) rfl
theorem q1613 : (Jvm.Cond.methodLink "LearntReasonsLaw" (54 : Nat) ({ cls := "LearntReasonsModel", name := "assume", desc := "(I)I" } : Jvm.MethodName)) ∈ lw_all := lw_g (lw_at lw_m7 69 rfl) rfl
theorem q1617 : (Jvm.Cond.methodLink "LearntReasonsLaw" (58 : Nat) ({ cls := "LearntReasonsModel", name := "free", desc := "()I" } : Jvm.MethodName)) ∈ lw_all := lw_g (lw_at lw_m7 73 rfl) rfl
theorem q1621 : (Jvm.Cond.methodLink "LearntReasonsLaw" (62 : Nat) ({ cls := "LearntReasonsModel", name := "phase", desc := "(I)Z" } : Jvm.MethodName)) ∈ lw_all := lw_g (lw_at lw_m7 77 rfl) rfl
theorem q1625 : (Jvm.Cond.methodLink "LearntReasonsLaw" (66 : Nat) ({ cls := "LearntReasonsModel", name := "unit", desc := "(I)Z" } : Jvm.MethodName)) ∈ lw_all := lw_g (lw_at lw_m7 81 rfl) rfl
theorem q1629 : (Jvm.Cond.methodLink "LearntReasonsLaw" (70 : Nat) ({ cls := "LearntReasonsModel", name := "forget", desc := "(I)I" } : Jvm.MethodName)) ∈ lw_all := lw_g (lw_at lw_m7 85 rfl) rfl
theorem q1645 : (Jvm.Cond.methodLink "LearntReasonsLaw" (74 : Nat) ({ cls := "LearntReasonsModel", name := "keep", desc := "(I)Z" } : Jvm.MethodName)) ∈ lw_all := lw_g (lw_at lw_m7 101 rfl) rfl
theorem q1649 : (Jvm.Cond.methodLink "LearntReasonsLaw" (78 : Nat) ({ cls := "LearntReasonsModel", name := "back", desc := "(I)Z" } : Jvm.MethodName)) ∈ lw_all := lw_g (lw_at lw_m7 105 rfl) rfl
theorem q1653 : (Jvm.Cond.methodLink "LearntReasonsLaw" (82 : Nat) ({ cls := "LearntReasonsModel", name := "solve", desc := "(I)I" } : Jvm.MethodName)) ∈ lw_all := lw_g (lw_at lw_m7 109 rfl) rfl
theorem q1748 : (Jvm.Cond.methodLink "LearntReasonsLaw" (86 : Nat) ({ cls := "LearntReasonsModel", name := "count", desc := "(I)I" } : Jvm.MethodName)) ∈ lw_all := lw_g (lw_at lw_m7 204 rfl) rfl
theorem q1756 : (Jvm.Cond.methodLink "LearntReasonsLaw" (92 : Nat) ({ cls := "LearntReasonsModel", name := "clause", desc := "(II)I" } : Jvm.MethodName)) ∈ lw_all := lw_g (lw_at lw_m7 212 rfl) rfl
theorem q1760 : (Jvm.Cond.methodLink "LearntReasonsLaw" (99 : Nat) ({ cls := "LearntReasonsModel", name := "assumption", desc := "(I)I" } : Jvm.MethodName)) ∈ lw_all := lw_g (lw_at lw_m7 216 rfl) rfl
theorem q1764 : (Jvm.Cond.methodLink "LearntReasonsLaw" (103 : Nat) ({ cls := "LearntReasonsModel", name := "model", desc := "(I)I" } : Jvm.MethodName)) ∈ lw_all := lw_g (lw_at lw_m7 220 rfl) rfl
theorem q1768 : (Jvm.Cond.methodLink "LearntReasonsLaw" (107 : Nat) ({ cls := "LearntReasonsModel", name := "core", desc := "()I" } : Jvm.MethodName)) ∈ lw_all := lw_g (lw_at lw_m7 224 rfl) rfl
theorem q1772 : (Jvm.Cond.methodLink "LearntReasonsLaw" (111 : Nat) ({ cls := "LearntReasonsModel", name := "variable", desc := "(II)I" } : Jvm.MethodName)) ∈ lw_all := lw_g (lw_at lw_m7 228 rfl) rfl
theorem q1780 : (Jvm.Cond.methodLink "LearntReasonsLaw" (115 : Nat) ({ cls := "LearntReasonsModel", name := "follows", desc := "(I)I" } : Jvm.MethodName)) ∈ lw_all := lw_g (lw_at lw_m7 236 rfl) rfl
theorem q1784 : (Jvm.Cond.methodLink "LearntReasonsLaw" (119 : Nat) ({ cls := "LearntReasonsModel", name := "line", desc := "(II)I" } : Jvm.MethodName)) ∈ lw_all := lw_g (lw_at lw_m8 0 rfl) rfl
theorem q1796 : (Jvm.Cond.methodLink "LearntReasonsLaw" (123 : Nat) ({ cls := "LearntReasonsModel", name := "proof", desc := "()I" } : Jvm.MethodName)) ∈ lw_all := lw_g (lw_at lw_m8 12 rfl) rfl
theorem q1812 : (Jvm.Cond.methodLink "LearntReasonsLaw" (127 : Nat) ({ cls := "LearntReasonsModel", name := "refute", desc := "()I" } : Jvm.MethodName)) ∈ lw_all := lw_g (lw_at lw_m8 28 rfl) rfl
theorem q1844 : (Jvm.Cond.methodLink "LearntReasonsLaw" (131 : Nat) ({ cls := "LearntReasonsModel", name := "closed", desc := "()I" } : Jvm.MethodName)) ∈ lw_all := lw_g (lw_at lw_m8 60 rfl) rfl
theorem q1848 : (Jvm.Cond.methodLink "LearntReasonsLaw" (135 : Nat) ({ cls := "LearntReasonsModel", name := "models", desc := "()I" } : Jvm.MethodName)) ∈ lw_all := lw_g (lw_at lw_m8 64 rfl) rfl
theorem q1856 : (Jvm.Cond.methodLink "LearntReasonsLaw" (140 : Nat) ({ cls := "LearntReasonsModel", name := "fixed", desc := "(Z)I" } : Jvm.MethodName)) ∈ lw_all := lw_g (lw_at lw_m8 72 rfl) rfl
theorem q1860 : (Jvm.Cond.methodLink "LearntReasonsLaw" (23 : Nat) ({ cls := "LearntReasonsModel", name := "feed", desc := "(IIIII)I" } : Jvm.MethodName)) ∈ lw_all := lw_g (lw_at lw_m8 76 rfl) rfl
theorem q1868 : (Jvm.Cond.methodLink "LearntReasonsLaw" (28 : Nat) ({ cls := "LearntReasonsModel", name := "end", desc := "(I)Z" } : Jvm.MethodName)) ∈ lw_all := lw_g (lw_at lw_m8 84 rfl) rfl
theorem q1872 : (Jvm.Cond.methodLink "LearntReasonsLaw" (33 : Nat) ({ cls := "LearntReasonsModel", name := "tell", desc := "()I" } : Jvm.MethodName)) ∈ lw_all := lw_g (lw_at lw_m8 88 rfl) rfl
theorem q1913 : (Jvm.Cond.methodLink "LearntReasonsLaw" (37 : Nat) ({ cls := "LearntReasonsModel", name := "fault", desc := "()I" } : Jvm.MethodName)) ∈ lw_all := lw_g (lw_at lw_m8 129 rfl) rfl

/-! LearntReasons -/
set_option maxRecDepth 100000
def RX1 : String := "LearntReasons"
def TX1 : u_T := fun k => match k with
  | 0 => ("LearntReasons", "state", "LLearntReasons$State;", false)
  | 1 => ("LearntReasons", "kept", "[LLearntReasons$State;", true)
  | 2 => ("LearntReasons", "tape", "[B", true)
  | 3 => ("LearntReasons", "taped", "I", false)
  | _ => ("LearntReasons", "fault", "I", false)
def tyX1 : Nat → FieldType := fun k => match k with
  | 0 => .object "LearntReasons$State"
  | 1 => .array (.object "LearntReasons$State")
  | 2 => .array .byte
  | 3 => .int
  | _ => .int
abbrev wsX10 : List Cond := u_ws RX1 TX1 5
theorem nmX1 : ∀ a, a < 5 → ∀ b, b < 5 → a ≠ b → (TX1 a).2.1 ≠ (TX1 b).2.1 := by decide +kernel
theorem tyX1_ok : ∀ k, k < 5 → parseFieldDescriptor (TX1 k).2.2.1 = some (tyX1 k) := by decide +kernel
abbrev cX1_init : ByteArray := prog_1_method_4_code
def yX1_init : MethodName := ⟨RX1, "<init>", "()V"⟩
def dkwX1_init_1 : List UInt8 := [17, 1, 144, 188, 8, 181, 0, 26, 177]
abbrev dktX1_init_1 : List UInt8 := dkwX1_init_1 ++ []
def dkwX1_init_0 : List UInt8 := [42, 183, 0, 7, 42, 187, 0, 13, 89, 183, 0, 15, 181, 0, 16, 42, 5, 189, 0, 13, 181, 0, 22, 42]
abbrev dktX1_init_0 : List UInt8 := dkwX1_init_0 ++ dktX1_init_1
theorem dksX1_init_0 : cX1_init.data.toList.drop 0 = dktX1_init_0 := by decide +kernel
theorem dksX1_init_1 : cX1_init.data.toList.drop 24 = dktX1_init_1 := dk_seg dksX1_init_0 24 rfl rfl
theorem dX1_init_0 : decode cX1_init 0 = .ok (.aload_n 0, 1) := dk_42 (dk_at dksX1_init_0 0 rfl rfl)
theorem dX1_init_1 : decode cX1_init 1 = .ok (.invokespecial 7, 3) := dk_183 0 7 (dk_at dksX1_init_0 1 rfl rfl)
theorem dX1_init_4 : decode cX1_init 4 = .ok (.aload_n 0, 1) := dk_42 (dk_at dksX1_init_0 4 rfl rfl)
theorem dX1_init_5 : decode cX1_init 5 = .ok (.new 13, 3) := dk_187 0 13 (dk_at dksX1_init_0 5 rfl rfl)
theorem dX1_init_8 : decode cX1_init 8 = .ok (.dup, 1) := dk_89 (dk_at dksX1_init_0 8 rfl rfl)
theorem dX1_init_9 : decode cX1_init 9 = .ok (.invokespecial 15, 3) := dk_183 0 15 (dk_at dksX1_init_0 9 rfl rfl)
theorem dX1_init_12 : decode cX1_init 12 = .ok (.putfield 16, 3) := dk_181 0 16 (dk_at dksX1_init_0 12 rfl rfl)
theorem dX1_init_15 : decode cX1_init 15 = .ok (.aload_n 0, 1) := dk_42 (dk_at dksX1_init_0 15 rfl rfl)
theorem dX1_init_16 : decode cX1_init 16 = .ok (.iconst 2, 1) := dk_5 (dk_at dksX1_init_0 16 rfl rfl)
theorem dX1_init_17 : decode cX1_init 17 = .ok (.anewarray 13, 3) := dk_189 0 13 (dk_at dksX1_init_0 17 rfl rfl)
theorem dX1_init_20 : decode cX1_init 20 = .ok (.putfield 22, 3) := dk_181 0 22 (dk_at dksX1_init_0 20 rfl rfl)
theorem dX1_init_23 : decode cX1_init 23 = .ok (.aload_n 0, 1) := dk_42 (dk_at dksX1_init_0 23 rfl rfl)
theorem dX1_init_24 : decode cX1_init 24 = .ok (.sipush 400, 3) := dk_17 1 144 (dk_at dksX1_init_1 0 rfl rfl)
theorem dX1_init_27 : decode cX1_init 27 = .ok (.newarray .byte, 2) := dk_188_8 (dk_at dksX1_init_1 3 rfl rfl)
theorem dX1_init_29 : decode cX1_init 29 = .ok (.putfield 26, 3) := dk_181 0 26 (dk_at dksX1_init_1 5 rfl rfl)
theorem dX1_init_32 : decode cX1_init 32 = .ok (.return_, 1) := dk_177 (dk_at dksX1_init_1 8 rfl rfl)
abbrev cX1_grow : ByteArray := prog_1_method_5_code
def yX1_grow : MethodName := ⟨RX1, "grow", "(I)I"⟩
def dkwX1_grow_0 : List UInt8 := [42, 180, 0, 16, 27, 182, 0, 30, 172]
abbrev dktX1_grow_0 : List UInt8 := dkwX1_grow_0 ++ []
theorem dksX1_grow_0 : cX1_grow.data.toList.drop 0 = dktX1_grow_0 := by decide +kernel
theorem dX1_grow_0 : decode cX1_grow 0 = .ok (.aload_n 0, 1) := dk_42 (dk_at dksX1_grow_0 0 rfl rfl)
theorem dX1_grow_1 : decode cX1_grow 1 = .ok (.getfield 16, 3) := dk_180 0 16 (dk_at dksX1_grow_0 1 rfl rfl)
theorem dX1_grow_4 : decode cX1_grow 4 = .ok (.iload_n 1, 1) := dk_27 (dk_at dksX1_grow_0 4 rfl rfl)
theorem dX1_grow_5 : decode cX1_grow 5 = .ok (.invokevirtual 30, 3) := dk_182 0 30 (dk_at dksX1_grow_0 5 rfl rfl)
theorem dX1_grow_8 : decode cX1_grow 8 = .ok (.ireturn, 1) := dk_172 (dk_at dksX1_grow_0 8 rfl rfl)
abbrev cX1_in : ByteArray := prog_1_method_1_code
def yX1_in : MethodName := ⟨RX1, "in", "(III)Z"⟩
def dkwX1_in_0 : List UInt8 := [26, 27, 161, 0, 12, 26, 28, 163, 0, 7, 4, 167, 0, 4, 3, 172]
abbrev dktX1_in_0 : List UInt8 := dkwX1_in_0 ++ []
theorem dksX1_in_0 : cX1_in.data.toList.drop 0 = dktX1_in_0 := by decide +kernel
theorem dX1_in_0 : decode cX1_in 0 = .ok (.iload_n 0, 1) := dk_26 (dk_at dksX1_in_0 0 rfl rfl)
theorem dX1_in_1 : decode cX1_in 1 = .ok (.iload_n 1, 1) := dk_27 (dk_at dksX1_in_0 1 rfl rfl)
theorem dX1_in_2 : decode cX1_in 2 = .ok (.if_icmp .lt 12, 3) := dk_161 0 12 (dk_at dksX1_in_0 2 rfl rfl)
theorem dX1_in_5 : decode cX1_in 5 = .ok (.iload_n 0, 1) := dk_26 (dk_at dksX1_in_0 5 rfl rfl)
theorem dX1_in_6 : decode cX1_in 6 = .ok (.iload_n 2, 1) := dk_28 (dk_at dksX1_in_0 6 rfl rfl)
theorem dX1_in_7 : decode cX1_in 7 = .ok (.if_icmp .gt 7, 3) := dk_163 0 7 (dk_at dksX1_in_0 7 rfl rfl)
theorem dX1_in_10 : decode cX1_in 10 = .ok (.iconst 1, 1) := dk_4 (dk_at dksX1_in_0 10 rfl rfl)
theorem dX1_in_11 : decode cX1_in 11 = .ok (.goto 4, 3) := dk_167 0 4 (dk_at dksX1_in_0 11 rfl rfl)
theorem dX1_in_14 : decode cX1_in 14 = .ok (.iconst 0, 1) := dk_3 (dk_at dksX1_in_0 14 rfl rfl)
theorem dX1_in_15 : decode cX1_in 15 = .ok (.ireturn, 1) := dk_172 (dk_at dksX1_in_0 15 rfl rfl)
abbrev cX1_add : ByteArray := prog_1_method_6_code
def yX1_add : MethodName := ⟨RX1, "add", "(I)I"⟩
def dkwX1_add_0 : List UInt8 := [42, 180, 0, 16, 27, 182, 0, 33, 172]
abbrev dktX1_add_0 : List UInt8 := dkwX1_add_0 ++ []
theorem dksX1_add_0 : cX1_add.data.toList.drop 0 = dktX1_add_0 := by decide +kernel
theorem dX1_add_0 : decode cX1_add 0 = .ok (.aload_n 0, 1) := dk_42 (dk_at dksX1_add_0 0 rfl rfl)
theorem dX1_add_1 : decode cX1_add 1 = .ok (.getfield 16, 3) := dk_180 0 16 (dk_at dksX1_add_0 1 rfl rfl)
theorem dX1_add_4 : decode cX1_add 4 = .ok (.iload_n 1, 1) := dk_27 (dk_at dksX1_add_0 4 rfl rfl)
theorem dX1_add_5 : decode cX1_add 5 = .ok (.invokevirtual 33, 3) := dk_182 0 33 (dk_at dksX1_add_0 5 rfl rfl)
theorem dX1_add_8 : decode cX1_add 8 = .ok (.ireturn, 1) := dk_172 (dk_at dksX1_add_0 8 rfl rfl)
abbrev cX1_variableOf : ByteArray := prog_1_method_2_code
def yX1_variableOf : MethodName := ⟨RX1, "variableOf", "(I)I"⟩
theorem dX1_variableOf_0 : decode cX1_variableOf 0 = .ok (.iload_n 0, 1) := by decide +kernel
theorem dX1_variableOf_1 : decode cX1_variableOf 1 = .ok (.invokestatic 1, 3) := by decide +kernel
theorem dX1_variableOf_4 : decode cX1_variableOf 4 = .ok (.ireturn, 1) := by decide +kernel
abbrev cX1_close : ByteArray := prog_1_method_7_code
def yX1_close : MethodName := ⟨RX1, "close", "()I"⟩
def dkwX1_close_0 : List UInt8 := [42, 180, 0, 16, 182, 0, 36, 172]
abbrev dktX1_close_0 : List UInt8 := dkwX1_close_0 ++ []
theorem dksX1_close_0 : cX1_close.data.toList.drop 0 = dktX1_close_0 := by decide +kernel
theorem dX1_close_0 : decode cX1_close 0 = .ok (.aload_n 0, 1) := dk_42 (dk_at dksX1_close_0 0 rfl rfl)
theorem dX1_close_1 : decode cX1_close 1 = .ok (.getfield 16, 3) := dk_180 0 16 (dk_at dksX1_close_0 1 rfl rfl)
theorem dX1_close_4 : decode cX1_close 4 = .ok (.invokevirtual 36, 3) := dk_182 0 36 (dk_at dksX1_close_0 4 rfl rfl)
theorem dX1_close_7 : decode cX1_close 7 = .ok (.ireturn, 1) := dk_172 (dk_at dksX1_close_0 7 rfl rfl)
abbrev cX1_assume : ByteArray := prog_1_method_8_code
def yX1_assume : MethodName := ⟨RX1, "assume", "(I)I"⟩
def dkwX1_assume_0 : List UInt8 := [42, 180, 0, 16, 27, 182, 0, 40, 172]
abbrev dktX1_assume_0 : List UInt8 := dkwX1_assume_0 ++ []
theorem dksX1_assume_0 : cX1_assume.data.toList.drop 0 = dktX1_assume_0 := by decide +kernel
theorem dX1_assume_0 : decode cX1_assume 0 = .ok (.aload_n 0, 1) := dk_42 (dk_at dksX1_assume_0 0 rfl rfl)
theorem dX1_assume_1 : decode cX1_assume 1 = .ok (.getfield 16, 3) := dk_180 0 16 (dk_at dksX1_assume_0 1 rfl rfl)
theorem dX1_assume_4 : decode cX1_assume 4 = .ok (.iload_n 1, 1) := dk_27 (dk_at dksX1_assume_0 4 rfl rfl)
theorem dX1_assume_5 : decode cX1_assume 5 = .ok (.invokevirtual 40, 3) := dk_182 0 40 (dk_at dksX1_assume_0 5 rfl rfl)
theorem dX1_assume_8 : decode cX1_assume 8 = .ok (.ireturn, 1) := dk_172 (dk_at dksX1_assume_0 8 rfl rfl)
abbrev cX1_free : ByteArray := prog_1_method_9_code
def yX1_free : MethodName := ⟨RX1, "free", "()I"⟩
def dkwX1_free_0 : List UInt8 := [42, 180, 0, 16, 180, 0, 43, 60, 42, 180, 0, 16, 3, 181, 0, 43, 27, 172]
abbrev dktX1_free_0 : List UInt8 := dkwX1_free_0 ++ []
theorem dksX1_free_0 : cX1_free.data.toList.drop 0 = dktX1_free_0 := by decide +kernel
theorem dX1_free_0 : decode cX1_free 0 = .ok (.aload_n 0, 1) := dk_42 (dk_at dksX1_free_0 0 rfl rfl)
theorem dX1_free_1 : decode cX1_free 1 = .ok (.getfield 16, 3) := dk_180 0 16 (dk_at dksX1_free_0 1 rfl rfl)
theorem dX1_free_4 : decode cX1_free 4 = .ok (.getfield 43, 3) := dk_180 0 43 (dk_at dksX1_free_0 4 rfl rfl)
theorem dX1_free_7 : decode cX1_free 7 = .ok (.istore_n 1, 1) := dk_60 (dk_at dksX1_free_0 7 rfl rfl)
theorem dX1_free_8 : decode cX1_free 8 = .ok (.aload_n 0, 1) := dk_42 (dk_at dksX1_free_0 8 rfl rfl)
theorem dX1_free_9 : decode cX1_free 9 = .ok (.getfield 16, 3) := dk_180 0 16 (dk_at dksX1_free_0 9 rfl rfl)
theorem dX1_free_12 : decode cX1_free 12 = .ok (.iconst 0, 1) := dk_3 (dk_at dksX1_free_0 12 rfl rfl)
theorem dX1_free_13 : decode cX1_free 13 = .ok (.putfield 43, 3) := dk_181 0 43 (dk_at dksX1_free_0 13 rfl rfl)
theorem dX1_free_16 : decode cX1_free 16 = .ok (.iload_n 1, 1) := dk_27 (dk_at dksX1_free_0 16 rfl rfl)
theorem dX1_free_17 : decode cX1_free 17 = .ok (.ireturn, 1) := dk_172 (dk_at dksX1_free_0 17 rfl rfl)
abbrev cX1_phase : ByteArray := prog_1_method_10_code
def yX1_phase : MethodName := ⟨RX1, "phase", "(I)Z"⟩
def dkwX1_phase_2 : List UInt8 := [27, 158, 0, 7, 4, 167, 0, 4, 3, 84, 4, 172]
abbrev dktX1_phase_2 : List UInt8 := dkwX1_phase_2 ++ []
def dkwX1_phase_1 : List UInt8 := [158, 0, 7, 4, 167, 0, 4, 3, 160, 0, 5, 3, 172, 42, 180, 0, 16, 180, 0, 51, 27, 184, 0, 55]
abbrev dktX1_phase_1 : List UInt8 := dkwX1_phase_1 ++ dktX1_phase_2
def dkwX1_phase_0 : List UInt8 := [42, 180, 0, 16, 27, 182, 0, 47, 153, 0, 27, 42, 180, 0, 16, 180, 0, 51, 27, 184, 0, 55, 51, 27]
abbrev dktX1_phase_0 : List UInt8 := dkwX1_phase_0 ++ dktX1_phase_1
theorem dksX1_phase_0 : cX1_phase.data.toList.drop 0 = dktX1_phase_0 := by decide +kernel
theorem dksX1_phase_1 : cX1_phase.data.toList.drop 24 = dktX1_phase_1 := dk_seg dksX1_phase_0 24 rfl rfl
theorem dksX1_phase_2 : cX1_phase.data.toList.drop 48 = dktX1_phase_2 := dk_seg dksX1_phase_1 24 rfl rfl
theorem dX1_phase_0 : decode cX1_phase 0 = .ok (.aload_n 0, 1) := dk_42 (dk_at dksX1_phase_0 0 rfl rfl)
theorem dX1_phase_1 : decode cX1_phase 1 = .ok (.getfield 16, 3) := dk_180 0 16 (dk_at dksX1_phase_0 1 rfl rfl)
theorem dX1_phase_4 : decode cX1_phase 4 = .ok (.iload_n 1, 1) := dk_27 (dk_at dksX1_phase_0 4 rfl rfl)
theorem dX1_phase_5 : decode cX1_phase 5 = .ok (.invokevirtual 47, 3) := dk_182 0 47 (dk_at dksX1_phase_0 5 rfl rfl)
theorem dX1_phase_8 : decode cX1_phase 8 = .ok (.ifCond .eq 27, 3) := dk_153 0 27 (dk_at dksX1_phase_0 8 rfl rfl)
theorem dX1_phase_11 : decode cX1_phase 11 = .ok (.aload_n 0, 1) := dk_42 (dk_at dksX1_phase_0 11 rfl rfl)
theorem dX1_phase_12 : decode cX1_phase 12 = .ok (.getfield 16, 3) := dk_180 0 16 (dk_at dksX1_phase_0 12 rfl rfl)
theorem dX1_phase_15 : decode cX1_phase 15 = .ok (.getfield 51, 3) := dk_180 0 51 (dk_at dksX1_phase_0 15 rfl rfl)
theorem dX1_phase_18 : decode cX1_phase 18 = .ok (.iload_n 1, 1) := dk_27 (dk_at dksX1_phase_0 18 rfl rfl)
theorem dX1_phase_19 : decode cX1_phase 19 = .ok (.invokestatic 55, 3) := dk_184 0 55 (dk_at dksX1_phase_0 19 rfl rfl)
theorem dX1_phase_22 : decode cX1_phase 22 = .ok (.baload, 1) := dk_51 (dk_at dksX1_phase_0 22 rfl rfl)
theorem dX1_phase_23 : decode cX1_phase 23 = .ok (.iload_n 1, 1) := dk_27 (dk_at dksX1_phase_0 23 rfl rfl)
theorem dX1_phase_24 : decode cX1_phase 24 = .ok (.ifCond .le 7, 3) := dk_158 0 7 (dk_at dksX1_phase_1 0 rfl rfl)
theorem dX1_phase_27 : decode cX1_phase 27 = .ok (.iconst 1, 1) := dk_4 (dk_at dksX1_phase_1 3 rfl rfl)
theorem dX1_phase_28 : decode cX1_phase 28 = .ok (.goto 4, 3) := dk_167 0 4 (dk_at dksX1_phase_1 4 rfl rfl)
theorem dX1_phase_31 : decode cX1_phase 31 = .ok (.iconst 0, 1) := dk_3 (dk_at dksX1_phase_1 7 rfl rfl)
theorem dX1_phase_32 : decode cX1_phase 32 = .ok (.if_icmp .ne 5, 3) := dk_160 0 5 (dk_at dksX1_phase_1 8 rfl rfl)
theorem dX1_phase_35 : decode cX1_phase 35 = .ok (.iconst 0, 1) := dk_3 (dk_at dksX1_phase_1 11 rfl rfl)
theorem dX1_phase_36 : decode cX1_phase 36 = .ok (.ireturn, 1) := dk_172 (dk_at dksX1_phase_1 12 rfl rfl)
theorem dX1_phase_37 : decode cX1_phase 37 = .ok (.aload_n 0, 1) := dk_42 (dk_at dksX1_phase_1 13 rfl rfl)
theorem dX1_phase_38 : decode cX1_phase 38 = .ok (.getfield 16, 3) := dk_180 0 16 (dk_at dksX1_phase_1 14 rfl rfl)
theorem dX1_phase_41 : decode cX1_phase 41 = .ok (.getfield 51, 3) := dk_180 0 51 (dk_at dksX1_phase_1 17 rfl rfl)
theorem dX1_phase_44 : decode cX1_phase 44 = .ok (.iload_n 1, 1) := dk_27 (dk_at dksX1_phase_1 20 rfl rfl)
theorem dX1_phase_45 : decode cX1_phase 45 = .ok (.invokestatic 55, 3) := dk_184 0 55 (dk_at dksX1_phase_1 21 rfl rfl)
theorem dX1_phase_48 : decode cX1_phase 48 = .ok (.iload_n 1, 1) := dk_27 (dk_at dksX1_phase_2 0 rfl rfl)
theorem dX1_phase_49 : decode cX1_phase 49 = .ok (.ifCond .le 7, 3) := dk_158 0 7 (dk_at dksX1_phase_2 1 rfl rfl)
theorem dX1_phase_52 : decode cX1_phase 52 = .ok (.iconst 1, 1) := dk_4 (dk_at dksX1_phase_2 4 rfl rfl)
theorem dX1_phase_53 : decode cX1_phase 53 = .ok (.goto 4, 3) := dk_167 0 4 (dk_at dksX1_phase_2 5 rfl rfl)
theorem dX1_phase_56 : decode cX1_phase 56 = .ok (.iconst 0, 1) := dk_3 (dk_at dksX1_phase_2 8 rfl rfl)
theorem dX1_phase_57 : decode cX1_phase 57 = .ok (.bastore, 1) := dk_84 (dk_at dksX1_phase_2 9 rfl rfl)
theorem dX1_phase_58 : decode cX1_phase 58 = .ok (.iconst 1, 1) := dk_4 (dk_at dksX1_phase_2 10 rfl rfl)
theorem dX1_phase_59 : decode cX1_phase 59 = .ok (.ireturn, 1) := dk_172 (dk_at dksX1_phase_2 11 rfl rfl)
abbrev cX1_unit : ByteArray := prog_1_method_11_code
def yX1_unit : MethodName := ⟨RX1, "unit", "(I)Z"⟩
def dkwX1_unit_1 : List UInt8 := [180, 0, 16, 27, 181, 0, 62, 4, 172]
abbrev dktX1_unit_1 : List UInt8 := dkwX1_unit_1 ++ []
def dkwX1_unit_0 : List UInt8 := [27, 3, 16, 50, 184, 0, 58, 153, 0, 14, 27, 42, 180, 0, 16, 180, 0, 62, 160, 0, 5, 3, 172, 42]
abbrev dktX1_unit_0 : List UInt8 := dkwX1_unit_0 ++ dktX1_unit_1
theorem dksX1_unit_0 : cX1_unit.data.toList.drop 0 = dktX1_unit_0 := by decide +kernel
theorem dksX1_unit_1 : cX1_unit.data.toList.drop 24 = dktX1_unit_1 := dk_seg dksX1_unit_0 24 rfl rfl
theorem dX1_unit_0 : decode cX1_unit 0 = .ok (.iload_n 1, 1) := dk_27 (dk_at dksX1_unit_0 0 rfl rfl)
theorem dX1_unit_1 : decode cX1_unit 1 = .ok (.iconst 0, 1) := dk_3 (dk_at dksX1_unit_0 1 rfl rfl)
theorem dX1_unit_2 : decode cX1_unit 2 = .ok (.bipush 50, 2) := dk_16 50 (dk_at dksX1_unit_0 2 rfl rfl)
theorem dX1_unit_4 : decode cX1_unit 4 = .ok (.invokestatic 58, 3) := dk_184 0 58 (dk_at dksX1_unit_0 4 rfl rfl)
theorem dX1_unit_7 : decode cX1_unit 7 = .ok (.ifCond .eq 14, 3) := dk_153 0 14 (dk_at dksX1_unit_0 7 rfl rfl)
theorem dX1_unit_10 : decode cX1_unit 10 = .ok (.iload_n 1, 1) := dk_27 (dk_at dksX1_unit_0 10 rfl rfl)
theorem dX1_unit_11 : decode cX1_unit 11 = .ok (.aload_n 0, 1) := dk_42 (dk_at dksX1_unit_0 11 rfl rfl)
theorem dX1_unit_12 : decode cX1_unit 12 = .ok (.getfield 16, 3) := dk_180 0 16 (dk_at dksX1_unit_0 12 rfl rfl)
theorem dX1_unit_15 : decode cX1_unit 15 = .ok (.getfield 62, 3) := dk_180 0 62 (dk_at dksX1_unit_0 15 rfl rfl)
theorem dX1_unit_18 : decode cX1_unit 18 = .ok (.if_icmp .ne 5, 3) := dk_160 0 5 (dk_at dksX1_unit_0 18 rfl rfl)
theorem dX1_unit_21 : decode cX1_unit 21 = .ok (.iconst 0, 1) := dk_3 (dk_at dksX1_unit_0 21 rfl rfl)
theorem dX1_unit_22 : decode cX1_unit 22 = .ok (.ireturn, 1) := dk_172 (dk_at dksX1_unit_0 22 rfl rfl)
theorem dX1_unit_23 : decode cX1_unit 23 = .ok (.aload_n 0, 1) := dk_42 (dk_at dksX1_unit_0 23 rfl rfl)
theorem dX1_unit_24 : decode cX1_unit 24 = .ok (.getfield 16, 3) := dk_180 0 16 (dk_at dksX1_unit_1 0 rfl rfl)
theorem dX1_unit_27 : decode cX1_unit 27 = .ok (.iload_n 1, 1) := dk_27 (dk_at dksX1_unit_1 3 rfl rfl)
theorem dX1_unit_28 : decode cX1_unit 28 = .ok (.putfield 62, 3) := dk_181 0 62 (dk_at dksX1_unit_1 4 rfl rfl)
theorem dX1_unit_31 : decode cX1_unit 31 = .ok (.iconst 1, 1) := dk_4 (dk_at dksX1_unit_1 7 rfl rfl)
theorem dX1_unit_32 : decode cX1_unit 32 = .ok (.ireturn, 1) := dk_172 (dk_at dksX1_unit_1 8 rfl rfl)
abbrev cX1_forget : ByteArray := prog_1_method_12_code
def yX1_forget : MethodName := ⟨RX1, "forget", "(I)I"⟩
def dkwX1_forget_0 : List UInt8 := [27, 4, 16, 30, 184, 0, 58, 153, 0, 14, 42, 180, 0, 16, 27, 182, 0, 65, 167, 0, 4, 2, 172]
abbrev dktX1_forget_0 : List UInt8 := dkwX1_forget_0 ++ []
theorem dksX1_forget_0 : cX1_forget.data.toList.drop 0 = dktX1_forget_0 := by decide +kernel
theorem dX1_forget_0 : decode cX1_forget 0 = .ok (.iload_n 1, 1) := dk_27 (dk_at dksX1_forget_0 0 rfl rfl)
theorem dX1_forget_1 : decode cX1_forget 1 = .ok (.iconst 1, 1) := dk_4 (dk_at dksX1_forget_0 1 rfl rfl)
theorem dX1_forget_2 : decode cX1_forget 2 = .ok (.bipush 30, 2) := dk_16 30 (dk_at dksX1_forget_0 2 rfl rfl)
theorem dX1_forget_4 : decode cX1_forget 4 = .ok (.invokestatic 58, 3) := dk_184 0 58 (dk_at dksX1_forget_0 4 rfl rfl)
theorem dX1_forget_7 : decode cX1_forget 7 = .ok (.ifCond .eq 14, 3) := dk_153 0 14 (dk_at dksX1_forget_0 7 rfl rfl)
theorem dX1_forget_10 : decode cX1_forget 10 = .ok (.aload_n 0, 1) := dk_42 (dk_at dksX1_forget_0 10 rfl rfl)
theorem dX1_forget_11 : decode cX1_forget 11 = .ok (.getfield 16, 3) := dk_180 0 16 (dk_at dksX1_forget_0 11 rfl rfl)
theorem dX1_forget_14 : decode cX1_forget 14 = .ok (.iload_n 1, 1) := dk_27 (dk_at dksX1_forget_0 14 rfl rfl)
theorem dX1_forget_15 : decode cX1_forget 15 = .ok (.invokevirtual 65, 3) := dk_182 0 65 (dk_at dksX1_forget_0 15 rfl rfl)
theorem dX1_forget_18 : decode cX1_forget 18 = .ok (.goto 4, 3) := dk_167 0 4 (dk_at dksX1_forget_0 18 rfl rfl)
theorem dX1_forget_21 : decode cX1_forget 21 = .ok (.iconst (-1), 1) := dk_2 (dk_at dksX1_forget_0 21 rfl rfl)
theorem dX1_forget_22 : decode cX1_forget 22 = .ok (.ireturn, 1) := dk_172 (dk_at dksX1_forget_0 22 rfl rfl)
abbrev cX1_keep : ByteArray := prog_1_method_13_code
def yX1_keep : MethodName := ⟨RX1, "keep", "(I)Z"⟩
def dkwX1_keep_1 : List UInt8 := [4, 172]
abbrev dktX1_keep_1 : List UInt8 := dkwX1_keep_1 ++ []
def dkwX1_keep_0 : List UInt8 := [27, 3, 4, 184, 0, 58, 154, 0, 5, 3, 172, 42, 180, 0, 22, 27, 42, 180, 0, 16, 182, 0, 68, 83]
abbrev dktX1_keep_0 : List UInt8 := dkwX1_keep_0 ++ dktX1_keep_1
theorem dksX1_keep_0 : cX1_keep.data.toList.drop 0 = dktX1_keep_0 := by decide +kernel
theorem dksX1_keep_1 : cX1_keep.data.toList.drop 24 = dktX1_keep_1 := dk_seg dksX1_keep_0 24 rfl rfl
theorem dX1_keep_0 : decode cX1_keep 0 = .ok (.iload_n 1, 1) := dk_27 (dk_at dksX1_keep_0 0 rfl rfl)
theorem dX1_keep_1 : decode cX1_keep 1 = .ok (.iconst 0, 1) := dk_3 (dk_at dksX1_keep_0 1 rfl rfl)
theorem dX1_keep_2 : decode cX1_keep 2 = .ok (.iconst 1, 1) := dk_4 (dk_at dksX1_keep_0 2 rfl rfl)
theorem dX1_keep_3 : decode cX1_keep 3 = .ok (.invokestatic 58, 3) := dk_184 0 58 (dk_at dksX1_keep_0 3 rfl rfl)
theorem dX1_keep_6 : decode cX1_keep 6 = .ok (.ifCond .ne 5, 3) := dk_154 0 5 (dk_at dksX1_keep_0 6 rfl rfl)
theorem dX1_keep_9 : decode cX1_keep 9 = .ok (.iconst 0, 1) := dk_3 (dk_at dksX1_keep_0 9 rfl rfl)
theorem dX1_keep_10 : decode cX1_keep 10 = .ok (.ireturn, 1) := dk_172 (dk_at dksX1_keep_0 10 rfl rfl)
theorem dX1_keep_11 : decode cX1_keep 11 = .ok (.aload_n 0, 1) := dk_42 (dk_at dksX1_keep_0 11 rfl rfl)
theorem dX1_keep_12 : decode cX1_keep 12 = .ok (.getfield 22, 3) := dk_180 0 22 (dk_at dksX1_keep_0 12 rfl rfl)
theorem dX1_keep_15 : decode cX1_keep 15 = .ok (.iload_n 1, 1) := dk_27 (dk_at dksX1_keep_0 15 rfl rfl)
theorem dX1_keep_16 : decode cX1_keep 16 = .ok (.aload_n 0, 1) := dk_42 (dk_at dksX1_keep_0 16 rfl rfl)
theorem dX1_keep_17 : decode cX1_keep 17 = .ok (.getfield 16, 3) := dk_180 0 16 (dk_at dksX1_keep_0 17 rfl rfl)
theorem dX1_keep_20 : decode cX1_keep 20 = .ok (.invokevirtual 68, 3) := dk_182 0 68 (dk_at dksX1_keep_0 20 rfl rfl)
theorem dX1_keep_23 : decode cX1_keep 23 = .ok (.aastore, 1) := dk_83 (dk_at dksX1_keep_0 23 rfl rfl)
theorem dX1_keep_24 : decode cX1_keep 24 = .ok (.iconst 1, 1) := dk_4 (dk_at dksX1_keep_1 0 rfl rfl)
theorem dX1_keep_25 : decode cX1_keep 25 = .ok (.ireturn, 1) := dk_172 (dk_at dksX1_keep_1 1 rfl rfl)
abbrev cX1_back : ByteArray := prog_1_method_14_code
def yX1_back : MethodName := ⟨RX1, "back", "(I)Z"⟩
def dkwX1_back_1 : List UInt8 := [180, 0, 22, 27, 50, 182, 0, 68, 181, 0, 16, 4, 172]
abbrev dktX1_back_1 : List UInt8 := dkwX1_back_1 ++ []
def dkwX1_back_0 : List UInt8 := [27, 3, 4, 184, 0, 58, 153, 0, 12, 42, 180, 0, 22, 27, 50, 199, 0, 5, 3, 172, 42, 42]
abbrev dktX1_back_0 : List UInt8 := dkwX1_back_0 ++ dktX1_back_1
theorem dksX1_back_0 : cX1_back.data.toList.drop 0 = dktX1_back_0 := by decide +kernel
theorem dksX1_back_1 : cX1_back.data.toList.drop 22 = dktX1_back_1 := dk_seg dksX1_back_0 22 rfl rfl
theorem dX1_back_0 : decode cX1_back 0 = .ok (.iload_n 1, 1) := dk_27 (dk_at dksX1_back_0 0 rfl rfl)
theorem dX1_back_1 : decode cX1_back 1 = .ok (.iconst 0, 1) := dk_3 (dk_at dksX1_back_0 1 rfl rfl)
theorem dX1_back_2 : decode cX1_back 2 = .ok (.iconst 1, 1) := dk_4 (dk_at dksX1_back_0 2 rfl rfl)
theorem dX1_back_3 : decode cX1_back 3 = .ok (.invokestatic 58, 3) := dk_184 0 58 (dk_at dksX1_back_0 3 rfl rfl)
theorem dX1_back_6 : decode cX1_back 6 = .ok (.ifCond .eq 12, 3) := dk_153 0 12 (dk_at dksX1_back_0 6 rfl rfl)
theorem dX1_back_9 : decode cX1_back 9 = .ok (.aload_n 0, 1) := dk_42 (dk_at dksX1_back_0 9 rfl rfl)
theorem dX1_back_10 : decode cX1_back 10 = .ok (.getfield 22, 3) := dk_180 0 22 (dk_at dksX1_back_0 10 rfl rfl)
theorem dX1_back_13 : decode cX1_back 13 = .ok (.iload_n 1, 1) := dk_27 (dk_at dksX1_back_0 13 rfl rfl)
theorem dX1_back_14 : decode cX1_back 14 = .ok (.aaload, 1) := dk_50 (dk_at dksX1_back_0 14 rfl rfl)
theorem dX1_back_15 : decode cX1_back 15 = .ok (.ifnonnull 5, 3) := dk_199 0 5 (dk_at dksX1_back_0 15 rfl rfl)
theorem dX1_back_18 : decode cX1_back 18 = .ok (.iconst 0, 1) := dk_3 (dk_at dksX1_back_0 18 rfl rfl)
theorem dX1_back_19 : decode cX1_back 19 = .ok (.ireturn, 1) := dk_172 (dk_at dksX1_back_0 19 rfl rfl)
theorem dX1_back_20 : decode cX1_back 20 = .ok (.aload_n 0, 1) := dk_42 (dk_at dksX1_back_0 20 rfl rfl)
theorem dX1_back_21 : decode cX1_back 21 = .ok (.aload_n 0, 1) := dk_42 (dk_at dksX1_back_0 21 rfl rfl)
theorem dX1_back_22 : decode cX1_back 22 = .ok (.getfield 22, 3) := dk_180 0 22 (dk_at dksX1_back_1 0 rfl rfl)
theorem dX1_back_25 : decode cX1_back 25 = .ok (.iload_n 1, 1) := dk_27 (dk_at dksX1_back_1 3 rfl rfl)
theorem dX1_back_26 : decode cX1_back 26 = .ok (.aaload, 1) := dk_50 (dk_at dksX1_back_1 4 rfl rfl)
theorem dX1_back_27 : decode cX1_back 27 = .ok (.invokevirtual 68, 3) := dk_182 0 68 (dk_at dksX1_back_1 5 rfl rfl)
theorem dX1_back_30 : decode cX1_back 30 = .ok (.putfield 16, 3) := dk_181 0 16 (dk_at dksX1_back_1 8 rfl rfl)
theorem dX1_back_33 : decode cX1_back 33 = .ok (.iconst 1, 1) := dk_4 (dk_at dksX1_back_1 11 rfl rfl)
theorem dX1_back_34 : decode cX1_back 34 = .ok (.ireturn, 1) := dk_172 (dk_at dksX1_back_1 12 rfl rfl)
abbrev cX1_solve : ByteArray := prog_1_method_15_code
def yX1_solve : MethodName := ⟨RX1, "solve", "(I)I"⟩
def dkwX1_solve_1 : List UInt8 := [167, 0, 4, 2, 172]
abbrev dktX1_solve_1 : List UInt8 := dkwX1_solve_1 ++ []
def dkwX1_solve_0 : List UInt8 := [27, 4, 17, 0, 200, 184, 0, 58, 153, 0, 18, 187, 0, 72, 89, 42, 27, 183, 0, 74, 182, 0, 77]
abbrev dktX1_solve_0 : List UInt8 := dkwX1_solve_0 ++ dktX1_solve_1
theorem dksX1_solve_0 : cX1_solve.data.toList.drop 0 = dktX1_solve_0 := by decide +kernel
theorem dksX1_solve_1 : cX1_solve.data.toList.drop 23 = dktX1_solve_1 := dk_seg dksX1_solve_0 23 rfl rfl
theorem dX1_solve_0 : decode cX1_solve 0 = .ok (.iload_n 1, 1) := dk_27 (dk_at dksX1_solve_0 0 rfl rfl)
theorem dX1_solve_1 : decode cX1_solve 1 = .ok (.iconst 1, 1) := dk_4 (dk_at dksX1_solve_0 1 rfl rfl)
theorem dX1_solve_2 : decode cX1_solve 2 = .ok (.sipush 200, 3) := dk_17 0 200 (dk_at dksX1_solve_0 2 rfl rfl)
theorem dX1_solve_5 : decode cX1_solve 5 = .ok (.invokestatic 58, 3) := dk_184 0 58 (dk_at dksX1_solve_0 5 rfl rfl)
theorem dX1_solve_8 : decode cX1_solve 8 = .ok (.ifCond .eq 18, 3) := dk_153 0 18 (dk_at dksX1_solve_0 8 rfl rfl)
theorem dX1_solve_11 : decode cX1_solve 11 = .ok (.new 72, 3) := dk_187 0 72 (dk_at dksX1_solve_0 11 rfl rfl)
theorem dX1_solve_14 : decode cX1_solve 14 = .ok (.dup, 1) := dk_89 (dk_at dksX1_solve_0 14 rfl rfl)
theorem dX1_solve_15 : decode cX1_solve 15 = .ok (.aload_n 0, 1) := dk_42 (dk_at dksX1_solve_0 15 rfl rfl)
theorem dX1_solve_16 : decode cX1_solve 16 = .ok (.iload_n 1, 1) := dk_27 (dk_at dksX1_solve_0 16 rfl rfl)
theorem dX1_solve_17 : decode cX1_solve 17 = .ok (.invokespecial 74, 3) := dk_183 0 74 (dk_at dksX1_solve_0 17 rfl rfl)
theorem dX1_solve_20 : decode cX1_solve 20 = .ok (.invokevirtual 77, 3) := dk_182 0 77 (dk_at dksX1_solve_0 20 rfl rfl)
theorem dX1_solve_23 : decode cX1_solve 23 = .ok (.goto 4, 3) := dk_167 0 4 (dk_at dksX1_solve_1 0 rfl rfl)
theorem dX1_solve_26 : decode cX1_solve 26 = .ok (.iconst (-1), 1) := dk_2 (dk_at dksX1_solve_1 3 rfl rfl)
theorem dX1_solve_27 : decode cX1_solve 27 = .ok (.ireturn, 1) := dk_172 (dk_at dksX1_solve_1 4 rfl rfl)
abbrev cX1_at : ByteArray := prog_1_method_3_code
def yX1_at : MethodName := ⟨RX1, "at", "(I)I"⟩
def dkwX1_at_0 : List UInt8 := [26, 158, 0, 9, 5, 26, 104, 167, 0, 9, 16, 254, 26, 104, 4, 96, 172]
abbrev dktX1_at_0 : List UInt8 := dkwX1_at_0 ++ []
theorem dksX1_at_0 : cX1_at.data.toList.drop 0 = dktX1_at_0 := by decide +kernel
theorem dX1_at_0 : decode cX1_at 0 = .ok (.iload_n 0, 1) := dk_26 (dk_at dksX1_at_0 0 rfl rfl)
theorem dX1_at_1 : decode cX1_at 1 = .ok (.ifCond .le 9, 3) := dk_158 0 9 (dk_at dksX1_at_0 1 rfl rfl)
theorem dX1_at_4 : decode cX1_at 4 = .ok (.iconst 2, 1) := dk_5 (dk_at dksX1_at_0 4 rfl rfl)
theorem dX1_at_5 : decode cX1_at 5 = .ok (.iload_n 0, 1) := dk_26 (dk_at dksX1_at_0 5 rfl rfl)
theorem dX1_at_6 : decode cX1_at 6 = .ok (.imul, 1) := dk_104 (dk_at dksX1_at_0 6 rfl rfl)
theorem dX1_at_7 : decode cX1_at 7 = .ok (.goto 9, 3) := dk_167 0 9 (dk_at dksX1_at_0 7 rfl rfl)
theorem dX1_at_10 : decode cX1_at 10 = .ok (.bipush (-2), 2) := dk_16 254 (dk_at dksX1_at_0 10 rfl rfl)
theorem dX1_at_12 : decode cX1_at 12 = .ok (.iload_n 0, 1) := dk_26 (dk_at dksX1_at_0 12 rfl rfl)
theorem dX1_at_13 : decode cX1_at 13 = .ok (.imul, 1) := dk_104 (dk_at dksX1_at_0 13 rfl rfl)
theorem dX1_at_14 : decode cX1_at 14 = .ok (.iconst 1, 1) := dk_4 (dk_at dksX1_at_0 14 rfl rfl)
theorem dX1_at_15 : decode cX1_at 15 = .ok (.iadd, 1) := dk_96 (dk_at dksX1_at_0 15 rfl rfl)
theorem dX1_at_16 : decode cX1_at 16 = .ok (.ireturn, 1) := dk_172 (dk_at dksX1_at_0 16 rfl rfl)
abbrev cX1_count : ByteArray := prog_1_method_16_code
def yX1_count : MethodName := ⟨RX1, "count", "(I)I"⟩
def dkwX1_count_9 : List UInt8 := [16, 10, 100, 46, 167, 0, 4, 2, 172]
abbrev dktX1_count_9 : List UInt8 := dkwX1_count_9 ++ []
def dkwX1_count_8 : List UInt8 := [180, 0, 130, 172, 27, 16, 10, 16, 13, 184, 0, 58, 153, 0, 18, 42, 180, 0, 16, 180, 0, 133, 27]
abbrev dktX1_count_8 : List UInt8 := dkwX1_count_8 ++ dktX1_count_9
def dkwX1_count_7 : List UInt8 := [180, 0, 16, 180, 0, 124, 153, 0, 7, 4, 167, 0, 4, 3, 172, 42, 180, 0, 127, 172, 42, 180, 0, 16]
abbrev dktX1_count_7 : List UInt8 := dkwX1_count_7 ++ dktX1_count_8
def dkwX1_count_6 : List UInt8 := [172, 42, 180, 0, 16, 180, 0, 62, 172, 42, 180, 0, 16, 180, 0, 121, 185, 0, 112, 1, 0, 172, 42]
abbrev dktX1_count_6 : List UInt8 := dkwX1_count_6 ++ dktX1_count_7
def dkwX1_count_5 : List UInt8 := [180, 0, 16, 180, 0, 115, 172, 28, 172, 42, 180, 0, 16, 180, 0, 43, 172, 42, 180, 0, 16, 180, 0, 118]
abbrev dktX1_count_5 : List UInt8 := dkwX1_count_5 ++ dktX1_count_6
def dkwX1_count_4 : List UInt8 := [42, 180, 0, 16, 180, 0, 109, 172, 42, 180, 0, 16, 180, 0, 80, 185, 0, 112, 1, 0, 172, 42]
abbrev dktX1_count_4 : List UInt8 := dkwX1_count_4 ++ dktX1_count_5
def dkwX1_count_3 : List UInt8 := [170, 0, 0, 0, 170, 0, 0, 0, 0, 0, 0, 0, 14, 0, 0, 0, 73, 0, 0, 0, 81, 0, 0, 0, 94, 0, 0, 0, 102, 0, 0, 0, 104, 0, 0, 0, 112, 0, 0, 0, 120, 0, 0, 0, 128, 0, 0, 0, 141, 0, 0, 0, 157, 0, 0, 0, 170, 0, 0, 0, 170, 0, 0, 0, 170, 0, 0, 0, 170, 0, 0, 0, 162]
abbrev dktX1_count_3 : List UInt8 := dkwX1_count_3 ++ dktX1_count_4
def dkwX1_count_2 : List UInt8 := [180, 0, 106, 154, 0, 7, 4, 167, 0, 4, 3, 96, 61, 167, 255, 212, 27]
abbrev dktX1_count_2 : List UInt8 := dkwX1_count_2 ++ dktX1_count_3
def dkwX1_count_1 : List UInt8 := [45, 185, 0, 96, 1, 0, 192, 0, 100, 58, 4, 28, 25, 4, 180, 0, 102, 153, 0, 15, 25, 4]
abbrev dktX1_count_1 : List UInt8 := dkwX1_count_1 ++ dktX1_count_2
def dkwX1_count_0 : List UInt8 := [3, 61, 42, 180, 0, 16, 180, 0, 80, 185, 0, 84, 1, 0, 78, 45, 185, 0, 90, 1, 0, 153, 0, 41]
abbrev dktX1_count_0 : List UInt8 := dkwX1_count_0 ++ dktX1_count_1
theorem dksX1_count_0 : cX1_count.data.toList.drop 0 = dktX1_count_0 := by decide +kernel
theorem dksX1_count_1 : cX1_count.data.toList.drop 24 = dktX1_count_1 := dk_seg dksX1_count_0 24 rfl rfl
theorem dksX1_count_2 : cX1_count.data.toList.drop 46 = dktX1_count_2 := dk_seg dksX1_count_1 22 rfl rfl
theorem dksX1_count_3 : cX1_count.data.toList.drop 63 = dktX1_count_3 := dk_seg dksX1_count_2 17 rfl rfl
theorem dksX1_count_4 : cX1_count.data.toList.drop 136 = dktX1_count_4 := dk_seg dksX1_count_3 73 rfl rfl
theorem dksX1_count_5 : cX1_count.data.toList.drop 158 = dktX1_count_5 := dk_seg dksX1_count_4 22 rfl rfl
theorem dksX1_count_6 : cX1_count.data.toList.drop 182 = dktX1_count_6 := dk_seg dksX1_count_5 24 rfl rfl
theorem dksX1_count_7 : cX1_count.data.toList.drop 205 = dktX1_count_7 := dk_seg dksX1_count_6 23 rfl rfl
theorem dksX1_count_8 : cX1_count.data.toList.drop 229 = dktX1_count_8 := dk_seg dksX1_count_7 24 rfl rfl
theorem dksX1_count_9 : cX1_count.data.toList.drop 252 = dktX1_count_9 := dk_seg dksX1_count_8 23 rfl rfl
theorem dX1_count_0 : decode cX1_count 0 = .ok (.iconst 0, 1) := dk_3 (dk_at dksX1_count_0 0 rfl rfl)
theorem dX1_count_1 : decode cX1_count 1 = .ok (.istore_n 2, 1) := dk_61 (dk_at dksX1_count_0 1 rfl rfl)
theorem dX1_count_2 : decode cX1_count 2 = .ok (.aload_n 0, 1) := dk_42 (dk_at dksX1_count_0 2 rfl rfl)
theorem dX1_count_3 : decode cX1_count 3 = .ok (.getfield 16, 3) := dk_180 0 16 (dk_at dksX1_count_0 3 rfl rfl)
theorem dX1_count_6 : decode cX1_count 6 = .ok (.getfield 80, 3) := dk_180 0 80 (dk_at dksX1_count_0 6 rfl rfl)
theorem dX1_count_9 : decode cX1_count 9 = .ok (.invokeinterface 84 1, 5) := by decide +kernel
theorem dX1_count_14 : decode cX1_count 14 = .ok (.astore_n 3, 1) := dk_78 (dk_at dksX1_count_0 14 rfl rfl)
theorem dX1_count_15 : decode cX1_count 15 = .ok (.aload_n 3, 1) := dk_45 (dk_at dksX1_count_0 15 rfl rfl)
theorem dX1_count_16 : decode cX1_count 16 = .ok (.invokeinterface 90 1, 5) := by decide +kernel
theorem dX1_count_21 : decode cX1_count 21 = .ok (.ifCond .eq 41, 3) := dk_153 0 41 (dk_at dksX1_count_0 21 rfl rfl)
theorem dX1_count_24 : decode cX1_count 24 = .ok (.aload_n 3, 1) := dk_45 (dk_at dksX1_count_1 0 rfl rfl)
theorem dX1_count_25 : decode cX1_count 25 = .ok (.invokeinterface 96 1, 5) := by decide +kernel
theorem dX1_count_30 : decode cX1_count 30 = .ok (.checkcast 100, 3) := dk_192 0 100 (dk_at dksX1_count_1 6 rfl rfl)
theorem dX1_count_33 : decode cX1_count 33 = .ok (.astore 4, 2) := dk_58 4 (dk_at dksX1_count_1 9 rfl rfl)
theorem dX1_count_35 : decode cX1_count 35 = .ok (.iload_n 2, 1) := dk_28 (dk_at dksX1_count_1 11 rfl rfl)
theorem dX1_count_36 : decode cX1_count 36 = .ok (.aload 4, 2) := dk_25 4 (dk_at dksX1_count_1 12 rfl rfl)
theorem dX1_count_38 : decode cX1_count 38 = .ok (.getfield 102, 3) := dk_180 0 102 (dk_at dksX1_count_1 14 rfl rfl)
theorem dX1_count_41 : decode cX1_count 41 = .ok (.ifCond .eq 15, 3) := dk_153 0 15 (dk_at dksX1_count_1 17 rfl rfl)
theorem dX1_count_44 : decode cX1_count 44 = .ok (.aload 4, 2) := dk_25 4 (dk_at dksX1_count_1 20 rfl rfl)
theorem dX1_count_46 : decode cX1_count 46 = .ok (.getfield 106, 3) := dk_180 0 106 (dk_at dksX1_count_2 0 rfl rfl)
theorem dX1_count_49 : decode cX1_count 49 = .ok (.ifCond .ne 7, 3) := dk_154 0 7 (dk_at dksX1_count_2 3 rfl rfl)
theorem dX1_count_52 : decode cX1_count 52 = .ok (.iconst 1, 1) := dk_4 (dk_at dksX1_count_2 6 rfl rfl)
theorem dX1_count_53 : decode cX1_count 53 = .ok (.goto 4, 3) := dk_167 0 4 (dk_at dksX1_count_2 7 rfl rfl)
theorem dX1_count_56 : decode cX1_count 56 = .ok (.iconst 0, 1) := dk_3 (dk_at dksX1_count_2 10 rfl rfl)
theorem dX1_count_57 : decode cX1_count 57 = .ok (.iadd, 1) := dk_96 (dk_at dksX1_count_2 11 rfl rfl)
theorem dX1_count_58 : decode cX1_count 58 = .ok (.istore_n 2, 1) := dk_61 (dk_at dksX1_count_2 12 rfl rfl)
theorem dX1_count_59 : decode cX1_count 59 = .ok (.goto (-44), 3) := dk_167 255 212 (dk_at dksX1_count_2 13 rfl rfl)
theorem dX1_count_62 : decode cX1_count 62 = .ok (.iload_n 1, 1) := dk_27 (dk_at dksX1_count_2 16 rfl rfl)
theorem dX1_count_63 : decode cX1_count 63 = .ok (.tableswitch 170 0 14 #[73, 81, 94, 102, 104, 112, 120, 128, 141, 157, 170, 170, 170, 170, 162], 73) := by decide +kernel
theorem dX1_count_136 : decode cX1_count 136 = .ok (.aload_n 0, 1) := dk_42 (dk_at dksX1_count_4 0 rfl rfl)
theorem dX1_count_137 : decode cX1_count 137 = .ok (.getfield 16, 3) := dk_180 0 16 (dk_at dksX1_count_4 1 rfl rfl)
theorem dX1_count_140 : decode cX1_count 140 = .ok (.getfield 109, 3) := dk_180 0 109 (dk_at dksX1_count_4 4 rfl rfl)
theorem dX1_count_143 : decode cX1_count 143 = .ok (.ireturn, 1) := dk_172 (dk_at dksX1_count_4 7 rfl rfl)
theorem dX1_count_144 : decode cX1_count 144 = .ok (.aload_n 0, 1) := dk_42 (dk_at dksX1_count_4 8 rfl rfl)
theorem dX1_count_145 : decode cX1_count 145 = .ok (.getfield 16, 3) := dk_180 0 16 (dk_at dksX1_count_4 9 rfl rfl)
theorem dX1_count_148 : decode cX1_count 148 = .ok (.getfield 80, 3) := dk_180 0 80 (dk_at dksX1_count_4 12 rfl rfl)
theorem dX1_count_151 : decode cX1_count 151 = .ok (.invokeinterface 112 1, 5) := by decide +kernel
theorem dX1_count_156 : decode cX1_count 156 = .ok (.ireturn, 1) := dk_172 (dk_at dksX1_count_4 20 rfl rfl)
theorem dX1_count_157 : decode cX1_count 157 = .ok (.aload_n 0, 1) := dk_42 (dk_at dksX1_count_4 21 rfl rfl)
theorem dX1_count_158 : decode cX1_count 158 = .ok (.getfield 16, 3) := dk_180 0 16 (dk_at dksX1_count_5 0 rfl rfl)
theorem dX1_count_161 : decode cX1_count 161 = .ok (.getfield 115, 3) := dk_180 0 115 (dk_at dksX1_count_5 3 rfl rfl)
theorem dX1_count_164 : decode cX1_count 164 = .ok (.ireturn, 1) := dk_172 (dk_at dksX1_count_5 6 rfl rfl)
theorem dX1_count_165 : decode cX1_count 165 = .ok (.iload_n 2, 1) := dk_28 (dk_at dksX1_count_5 7 rfl rfl)
theorem dX1_count_166 : decode cX1_count 166 = .ok (.ireturn, 1) := dk_172 (dk_at dksX1_count_5 8 rfl rfl)
theorem dX1_count_167 : decode cX1_count 167 = .ok (.aload_n 0, 1) := dk_42 (dk_at dksX1_count_5 9 rfl rfl)
theorem dX1_count_168 : decode cX1_count 168 = .ok (.getfield 16, 3) := dk_180 0 16 (dk_at dksX1_count_5 10 rfl rfl)
theorem dX1_count_171 : decode cX1_count 171 = .ok (.getfield 43, 3) := dk_180 0 43 (dk_at dksX1_count_5 13 rfl rfl)
theorem dX1_count_174 : decode cX1_count 174 = .ok (.ireturn, 1) := dk_172 (dk_at dksX1_count_5 16 rfl rfl)
theorem dX1_count_175 : decode cX1_count 175 = .ok (.aload_n 0, 1) := dk_42 (dk_at dksX1_count_5 17 rfl rfl)
theorem dX1_count_176 : decode cX1_count 176 = .ok (.getfield 16, 3) := dk_180 0 16 (dk_at dksX1_count_5 18 rfl rfl)
theorem dX1_count_179 : decode cX1_count 179 = .ok (.getfield 118, 3) := dk_180 0 118 (dk_at dksX1_count_5 21 rfl rfl)
theorem dX1_count_182 : decode cX1_count 182 = .ok (.ireturn, 1) := dk_172 (dk_at dksX1_count_6 0 rfl rfl)
theorem dX1_count_183 : decode cX1_count 183 = .ok (.aload_n 0, 1) := dk_42 (dk_at dksX1_count_6 1 rfl rfl)
theorem dX1_count_184 : decode cX1_count 184 = .ok (.getfield 16, 3) := dk_180 0 16 (dk_at dksX1_count_6 2 rfl rfl)
theorem dX1_count_187 : decode cX1_count 187 = .ok (.getfield 62, 3) := dk_180 0 62 (dk_at dksX1_count_6 5 rfl rfl)
theorem dX1_count_190 : decode cX1_count 190 = .ok (.ireturn, 1) := dk_172 (dk_at dksX1_count_6 8 rfl rfl)
theorem dX1_count_191 : decode cX1_count 191 = .ok (.aload_n 0, 1) := dk_42 (dk_at dksX1_count_6 9 rfl rfl)
theorem dX1_count_192 : decode cX1_count 192 = .ok (.getfield 16, 3) := dk_180 0 16 (dk_at dksX1_count_6 10 rfl rfl)
theorem dX1_count_195 : decode cX1_count 195 = .ok (.getfield 121, 3) := dk_180 0 121 (dk_at dksX1_count_6 13 rfl rfl)
theorem dX1_count_198 : decode cX1_count 198 = .ok (.invokeinterface 112 1, 5) := by decide +kernel
theorem dX1_count_203 : decode cX1_count 203 = .ok (.ireturn, 1) := dk_172 (dk_at dksX1_count_6 21 rfl rfl)
theorem dX1_count_204 : decode cX1_count 204 = .ok (.aload_n 0, 1) := dk_42 (dk_at dksX1_count_6 22 rfl rfl)
theorem dX1_count_205 : decode cX1_count 205 = .ok (.getfield 16, 3) := dk_180 0 16 (dk_at dksX1_count_7 0 rfl rfl)
theorem dX1_count_208 : decode cX1_count 208 = .ok (.getfield 124, 3) := dk_180 0 124 (dk_at dksX1_count_7 3 rfl rfl)
theorem dX1_count_211 : decode cX1_count 211 = .ok (.ifCond .eq 7, 3) := dk_153 0 7 (dk_at dksX1_count_7 6 rfl rfl)
theorem dX1_count_214 : decode cX1_count 214 = .ok (.iconst 1, 1) := dk_4 (dk_at dksX1_count_7 9 rfl rfl)
theorem dX1_count_215 : decode cX1_count 215 = .ok (.goto 4, 3) := dk_167 0 4 (dk_at dksX1_count_7 10 rfl rfl)
theorem dX1_count_218 : decode cX1_count 218 = .ok (.iconst 0, 1) := dk_3 (dk_at dksX1_count_7 13 rfl rfl)
theorem dX1_count_219 : decode cX1_count 219 = .ok (.ireturn, 1) := dk_172 (dk_at dksX1_count_7 14 rfl rfl)
theorem dX1_count_220 : decode cX1_count 220 = .ok (.aload_n 0, 1) := dk_42 (dk_at dksX1_count_7 15 rfl rfl)
theorem dX1_count_221 : decode cX1_count 221 = .ok (.getfield 127, 3) := dk_180 0 127 (dk_at dksX1_count_7 16 rfl rfl)
theorem dX1_count_224 : decode cX1_count 224 = .ok (.ireturn, 1) := dk_172 (dk_at dksX1_count_7 19 rfl rfl)
theorem dX1_count_225 : decode cX1_count 225 = .ok (.aload_n 0, 1) := dk_42 (dk_at dksX1_count_7 20 rfl rfl)
theorem dX1_count_226 : decode cX1_count 226 = .ok (.getfield 16, 3) := dk_180 0 16 (dk_at dksX1_count_7 21 rfl rfl)
theorem dX1_count_229 : decode cX1_count 229 = .ok (.getfield 130, 3) := dk_180 0 130 (dk_at dksX1_count_8 0 rfl rfl)
theorem dX1_count_232 : decode cX1_count 232 = .ok (.ireturn, 1) := dk_172 (dk_at dksX1_count_8 3 rfl rfl)
theorem dX1_count_233 : decode cX1_count 233 = .ok (.iload_n 1, 1) := dk_27 (dk_at dksX1_count_8 4 rfl rfl)
theorem dX1_count_234 : decode cX1_count 234 = .ok (.bipush 10, 2) := dk_16 10 (dk_at dksX1_count_8 5 rfl rfl)
theorem dX1_count_236 : decode cX1_count 236 = .ok (.bipush 13, 2) := dk_16 13 (dk_at dksX1_count_8 7 rfl rfl)
theorem dX1_count_238 : decode cX1_count 238 = .ok (.invokestatic 58, 3) := dk_184 0 58 (dk_at dksX1_count_8 9 rfl rfl)
theorem dX1_count_241 : decode cX1_count 241 = .ok (.ifCond .eq 18, 3) := dk_153 0 18 (dk_at dksX1_count_8 12 rfl rfl)
theorem dX1_count_244 : decode cX1_count 244 = .ok (.aload_n 0, 1) := dk_42 (dk_at dksX1_count_8 15 rfl rfl)
theorem dX1_count_245 : decode cX1_count 245 = .ok (.getfield 16, 3) := dk_180 0 16 (dk_at dksX1_count_8 16 rfl rfl)
theorem dX1_count_248 : decode cX1_count 248 = .ok (.getfield 133, 3) := dk_180 0 133 (dk_at dksX1_count_8 19 rfl rfl)
theorem dX1_count_251 : decode cX1_count 251 = .ok (.iload_n 1, 1) := dk_27 (dk_at dksX1_count_8 22 rfl rfl)
theorem dX1_count_252 : decode cX1_count 252 = .ok (.bipush 10, 2) := dk_16 10 (dk_at dksX1_count_9 0 rfl rfl)
theorem dX1_count_254 : decode cX1_count 254 = .ok (.isub, 1) := dk_100 (dk_at dksX1_count_9 2 rfl rfl)
theorem dX1_count_255 : decode cX1_count 255 = .ok (.iaload, 1) := dk_46 (dk_at dksX1_count_9 3 rfl rfl)
theorem dX1_count_256 : decode cX1_count 256 = .ok (.goto 4, 3) := dk_167 0 4 (dk_at dksX1_count_9 4 rfl rfl)
theorem dX1_count_259 : decode cX1_count 259 = .ok (.iconst (-1), 1) := dk_2 (dk_at dksX1_count_9 7 rfl rfl)
theorem dX1_count_260 : decode cX1_count 260 = .ok (.ireturn, 1) := dk_172 (dk_at dksX1_count_9 8 rfl rfl)
abbrev cX1_assumption : ByteArray := prog_1_method_18_code
def yX1_assumption : MethodName := ⟨RX1, "assumption", "(I)I"⟩
def dkwX1_assumption_1 : List UInt8 := [27, 46, 167, 0, 4, 3, 172]
abbrev dktX1_assumption_1 : List UInt8 := dkwX1_assumption_1 ++ []
def dkwX1_assumption_0 : List UInt8 := [27, 3, 42, 180, 0, 16, 180, 0, 43, 4, 100, 184, 0, 58, 153, 0, 15, 42, 180, 0, 16, 180, 0, 148]
abbrev dktX1_assumption_0 : List UInt8 := dkwX1_assumption_0 ++ dktX1_assumption_1
theorem dksX1_assumption_0 : cX1_assumption.data.toList.drop 0 = dktX1_assumption_0 := by decide +kernel
theorem dksX1_assumption_1 : cX1_assumption.data.toList.drop 24 = dktX1_assumption_1 := dk_seg dksX1_assumption_0 24 rfl rfl
theorem dX1_assumption_0 : decode cX1_assumption 0 = .ok (.iload_n 1, 1) := dk_27 (dk_at dksX1_assumption_0 0 rfl rfl)
theorem dX1_assumption_1 : decode cX1_assumption 1 = .ok (.iconst 0, 1) := dk_3 (dk_at dksX1_assumption_0 1 rfl rfl)
theorem dX1_assumption_2 : decode cX1_assumption 2 = .ok (.aload_n 0, 1) := dk_42 (dk_at dksX1_assumption_0 2 rfl rfl)
theorem dX1_assumption_3 : decode cX1_assumption 3 = .ok (.getfield 16, 3) := dk_180 0 16 (dk_at dksX1_assumption_0 3 rfl rfl)
theorem dX1_assumption_6 : decode cX1_assumption 6 = .ok (.getfield 43, 3) := dk_180 0 43 (dk_at dksX1_assumption_0 6 rfl rfl)
theorem dX1_assumption_9 : decode cX1_assumption 9 = .ok (.iconst 1, 1) := dk_4 (dk_at dksX1_assumption_0 9 rfl rfl)
theorem dX1_assumption_10 : decode cX1_assumption 10 = .ok (.isub, 1) := dk_100 (dk_at dksX1_assumption_0 10 rfl rfl)
theorem dX1_assumption_11 : decode cX1_assumption 11 = .ok (.invokestatic 58, 3) := dk_184 0 58 (dk_at dksX1_assumption_0 11 rfl rfl)
theorem dX1_assumption_14 : decode cX1_assumption 14 = .ok (.ifCond .eq 15, 3) := dk_153 0 15 (dk_at dksX1_assumption_0 14 rfl rfl)
theorem dX1_assumption_17 : decode cX1_assumption 17 = .ok (.aload_n 0, 1) := dk_42 (dk_at dksX1_assumption_0 17 rfl rfl)
theorem dX1_assumption_18 : decode cX1_assumption 18 = .ok (.getfield 16, 3) := dk_180 0 16 (dk_at dksX1_assumption_0 18 rfl rfl)
theorem dX1_assumption_21 : decode cX1_assumption 21 = .ok (.getfield 148, 3) := dk_180 0 148 (dk_at dksX1_assumption_0 21 rfl rfl)
theorem dX1_assumption_24 : decode cX1_assumption 24 = .ok (.iload_n 1, 1) := dk_27 (dk_at dksX1_assumption_1 0 rfl rfl)
theorem dX1_assumption_25 : decode cX1_assumption 25 = .ok (.iaload, 1) := dk_46 (dk_at dksX1_assumption_1 1 rfl rfl)
theorem dX1_assumption_26 : decode cX1_assumption 26 = .ok (.goto 4, 3) := dk_167 0 4 (dk_at dksX1_assumption_1 2 rfl rfl)
theorem dX1_assumption_29 : decode cX1_assumption 29 = .ok (.iconst 0, 1) := dk_3 (dk_at dksX1_assumption_1 5 rfl rfl)
theorem dX1_assumption_30 : decode cX1_assumption 30 = .ok (.ireturn, 1) := dk_172 (dk_at dksX1_assumption_1 6 rfl rfl)
abbrev cX1_model : ByteArray := prog_1_method_19_code
def yX1_model : MethodName := ⟨RX1, "model", "(I)I"⟩
def dkwX1_model_1 : List UInt8 := [180, 0, 151, 27, 46, 167, 0, 4, 2, 172]
abbrev dktX1_model_1 : List UInt8 := dkwX1_model_1 ++ []
def dkwX1_model_0 : List UInt8 := [27, 4, 42, 180, 0, 16, 180, 0, 151, 190, 4, 100, 184, 0, 58, 153, 0, 15, 42, 180, 0, 16]
abbrev dktX1_model_0 : List UInt8 := dkwX1_model_0 ++ dktX1_model_1
theorem dksX1_model_0 : cX1_model.data.toList.drop 0 = dktX1_model_0 := by decide +kernel
theorem dksX1_model_1 : cX1_model.data.toList.drop 22 = dktX1_model_1 := dk_seg dksX1_model_0 22 rfl rfl
theorem dX1_model_0 : decode cX1_model 0 = .ok (.iload_n 1, 1) := dk_27 (dk_at dksX1_model_0 0 rfl rfl)
theorem dX1_model_1 : decode cX1_model 1 = .ok (.iconst 1, 1) := dk_4 (dk_at dksX1_model_0 1 rfl rfl)
theorem dX1_model_2 : decode cX1_model 2 = .ok (.aload_n 0, 1) := dk_42 (dk_at dksX1_model_0 2 rfl rfl)
theorem dX1_model_3 : decode cX1_model 3 = .ok (.getfield 16, 3) := dk_180 0 16 (dk_at dksX1_model_0 3 rfl rfl)
theorem dX1_model_6 : decode cX1_model 6 = .ok (.getfield 151, 3) := dk_180 0 151 (dk_at dksX1_model_0 6 rfl rfl)
theorem dX1_model_9 : decode cX1_model 9 = .ok (.arraylength, 1) := dk_190 (dk_at dksX1_model_0 9 rfl rfl)
theorem dX1_model_10 : decode cX1_model 10 = .ok (.iconst 1, 1) := dk_4 (dk_at dksX1_model_0 10 rfl rfl)
theorem dX1_model_11 : decode cX1_model 11 = .ok (.isub, 1) := dk_100 (dk_at dksX1_model_0 11 rfl rfl)
theorem dX1_model_12 : decode cX1_model 12 = .ok (.invokestatic 58, 3) := dk_184 0 58 (dk_at dksX1_model_0 12 rfl rfl)
theorem dX1_model_15 : decode cX1_model 15 = .ok (.ifCond .eq 15, 3) := dk_153 0 15 (dk_at dksX1_model_0 15 rfl rfl)
theorem dX1_model_18 : decode cX1_model 18 = .ok (.aload_n 0, 1) := dk_42 (dk_at dksX1_model_0 18 rfl rfl)
theorem dX1_model_19 : decode cX1_model 19 = .ok (.getfield 16, 3) := dk_180 0 16 (dk_at dksX1_model_0 19 rfl rfl)
theorem dX1_model_22 : decode cX1_model 22 = .ok (.getfield 151, 3) := dk_180 0 151 (dk_at dksX1_model_1 0 rfl rfl)
theorem dX1_model_25 : decode cX1_model 25 = .ok (.iload_n 1, 1) := dk_27 (dk_at dksX1_model_1 3 rfl rfl)
theorem dX1_model_26 : decode cX1_model 26 = .ok (.iaload, 1) := dk_46 (dk_at dksX1_model_1 4 rfl rfl)
theorem dX1_model_27 : decode cX1_model 27 = .ok (.goto 4, 3) := dk_167 0 4 (dk_at dksX1_model_1 5 rfl rfl)
theorem dX1_model_30 : decode cX1_model 30 = .ok (.iconst (-1), 1) := dk_2 (dk_at dksX1_model_1 8 rfl rfl)
theorem dX1_model_31 : decode cX1_model 31 = .ok (.ireturn, 1) := dk_172 (dk_at dksX1_model_1 9 rfl rfl)
abbrev cX1_core : ByteArray := prog_1_method_20_code
def yX1_core : MethodName := ⟨RX1, "core", "()I"⟩
def dkwX1_core_0 : List UInt8 := [42, 180, 0, 16, 180, 0, 154, 172]
abbrev dktX1_core_0 : List UInt8 := dkwX1_core_0 ++ []
theorem dksX1_core_0 : cX1_core.data.toList.drop 0 = dktX1_core_0 := by decide +kernel
theorem dX1_core_0 : decode cX1_core 0 = .ok (.aload_n 0, 1) := dk_42 (dk_at dksX1_core_0 0 rfl rfl)
theorem dX1_core_1 : decode cX1_core 1 = .ok (.getfield 16, 3) := dk_180 0 16 (dk_at dksX1_core_0 1 rfl rfl)
theorem dX1_core_4 : decode cX1_core 4 = .ok (.getfield 154, 3) := dk_180 0 154 (dk_at dksX1_core_0 4 rfl rfl)
theorem dX1_core_7 : decode cX1_core 7 = .ok (.ireturn, 1) := dk_172 (dk_at dksX1_core_0 7 rfl rfl)
abbrev cX1_variable : ByteArray := prog_1_method_21_code
def yX1_variable : MethodName := ⟨RX1, "variable", "(II)I"⟩
def dkwX1_variable_5 : List UInt8 := [46, 167, 0, 13, 28, 5, 160, 0, 7, 29, 167, 0, 4, 2, 172]
abbrev dktX1_variable_5 : List UInt8 := dkwX1_variable_5 ++ []
def dkwX1_variable_4 : List UInt8 := [153, 0, 7, 4, 167, 0, 34, 3, 167, 0, 30, 28, 4, 160, 0, 15, 42, 180, 0, 16, 180, 0, 163, 27]
abbrev dktX1_variable_4 : List UInt8 := dkwX1_variable_4 ++ dktX1_variable_5
def dkwX1_variable_3 : List UInt8 := [167, 0, 4, 3, 96, 62, 167, 255, 209, 28, 154, 0, 23, 42, 180, 0, 16, 180, 0, 51, 27, 51]
abbrev dktX1_variable_3 : List UInt8 := dkwX1_variable_3 ++ dktX1_variable_4
def dkwX1_variable_2 : List UInt8 := [192, 0, 100, 58, 5, 29, 25, 5, 180, 0, 106, 154, 0, 16, 25, 5, 27, 182, 0, 160, 153, 0, 7, 4]
abbrev dktX1_variable_2 : List UInt8 := dkwX1_variable_2 ++ dktX1_variable_3
def dkwX1_variable_1 : List UInt8 := [185, 0, 84, 1, 0, 58, 4, 25, 4, 185, 0, 90, 1, 0, 153, 0, 43, 25, 4, 185, 0, 96, 1, 0]
abbrev dktX1_variable_1 : List UInt8 := dkwX1_variable_1 ++ dktX1_variable_2
def dkwX1_variable_0 : List UInt8 := [42, 180, 0, 16, 27, 182, 0, 157, 154, 0, 5, 2, 172, 3, 62, 42, 180, 0, 16, 180, 0, 80]
abbrev dktX1_variable_0 : List UInt8 := dkwX1_variable_0 ++ dktX1_variable_1
theorem dksX1_variable_0 : cX1_variable.data.toList.drop 0 = dktX1_variable_0 := by decide +kernel
theorem dksX1_variable_1 : cX1_variable.data.toList.drop 22 = dktX1_variable_1 := dk_seg dksX1_variable_0 22 rfl rfl
theorem dksX1_variable_2 : cX1_variable.data.toList.drop 46 = dktX1_variable_2 := dk_seg dksX1_variable_1 24 rfl rfl
theorem dksX1_variable_3 : cX1_variable.data.toList.drop 70 = dktX1_variable_3 := dk_seg dksX1_variable_2 24 rfl rfl
theorem dksX1_variable_4 : cX1_variable.data.toList.drop 92 = dktX1_variable_4 := dk_seg dksX1_variable_3 22 rfl rfl
theorem dksX1_variable_5 : cX1_variable.data.toList.drop 116 = dktX1_variable_5 := dk_seg dksX1_variable_4 24 rfl rfl
theorem dX1_variable_0 : decode cX1_variable 0 = .ok (.aload_n 0, 1) := dk_42 (dk_at dksX1_variable_0 0 rfl rfl)
theorem dX1_variable_1 : decode cX1_variable 1 = .ok (.getfield 16, 3) := dk_180 0 16 (dk_at dksX1_variable_0 1 rfl rfl)
theorem dX1_variable_4 : decode cX1_variable 4 = .ok (.iload_n 1, 1) := dk_27 (dk_at dksX1_variable_0 4 rfl rfl)
theorem dX1_variable_5 : decode cX1_variable 5 = .ok (.invokevirtual 157, 3) := dk_182 0 157 (dk_at dksX1_variable_0 5 rfl rfl)
theorem dX1_variable_8 : decode cX1_variable 8 = .ok (.ifCond .ne 5, 3) := dk_154 0 5 (dk_at dksX1_variable_0 8 rfl rfl)
theorem dX1_variable_11 : decode cX1_variable 11 = .ok (.iconst (-1), 1) := dk_2 (dk_at dksX1_variable_0 11 rfl rfl)
theorem dX1_variable_12 : decode cX1_variable 12 = .ok (.ireturn, 1) := dk_172 (dk_at dksX1_variable_0 12 rfl rfl)
theorem dX1_variable_13 : decode cX1_variable 13 = .ok (.iconst 0, 1) := dk_3 (dk_at dksX1_variable_0 13 rfl rfl)
theorem dX1_variable_14 : decode cX1_variable 14 = .ok (.istore_n 3, 1) := dk_62 (dk_at dksX1_variable_0 14 rfl rfl)
theorem dX1_variable_15 : decode cX1_variable 15 = .ok (.aload_n 0, 1) := dk_42 (dk_at dksX1_variable_0 15 rfl rfl)
theorem dX1_variable_16 : decode cX1_variable 16 = .ok (.getfield 16, 3) := dk_180 0 16 (dk_at dksX1_variable_0 16 rfl rfl)
theorem dX1_variable_19 : decode cX1_variable 19 = .ok (.getfield 80, 3) := dk_180 0 80 (dk_at dksX1_variable_0 19 rfl rfl)
theorem dX1_variable_22 : decode cX1_variable 22 = .ok (.invokeinterface 84 1, 5) := by decide +kernel
theorem dX1_variable_27 : decode cX1_variable 27 = .ok (.astore 4, 2) := dk_58 4 (dk_at dksX1_variable_1 5 rfl rfl)
theorem dX1_variable_29 : decode cX1_variable 29 = .ok (.aload 4, 2) := dk_25 4 (dk_at dksX1_variable_1 7 rfl rfl)
theorem dX1_variable_31 : decode cX1_variable 31 = .ok (.invokeinterface 90 1, 5) := by decide +kernel
theorem dX1_variable_36 : decode cX1_variable 36 = .ok (.ifCond .eq 43, 3) := dk_153 0 43 (dk_at dksX1_variable_1 14 rfl rfl)
theorem dX1_variable_39 : decode cX1_variable 39 = .ok (.aload 4, 2) := dk_25 4 (dk_at dksX1_variable_1 17 rfl rfl)
theorem dX1_variable_41 : decode cX1_variable 41 = .ok (.invokeinterface 96 1, 5) := by decide +kernel
theorem dX1_variable_46 : decode cX1_variable 46 = .ok (.checkcast 100, 3) := dk_192 0 100 (dk_at dksX1_variable_2 0 rfl rfl)
theorem dX1_variable_49 : decode cX1_variable 49 = .ok (.astore 5, 2) := dk_58 5 (dk_at dksX1_variable_2 3 rfl rfl)
theorem dX1_variable_51 : decode cX1_variable 51 = .ok (.iload_n 3, 1) := dk_29 (dk_at dksX1_variable_2 5 rfl rfl)
theorem dX1_variable_52 : decode cX1_variable 52 = .ok (.aload 5, 2) := dk_25 5 (dk_at dksX1_variable_2 6 rfl rfl)
theorem dX1_variable_54 : decode cX1_variable 54 = .ok (.getfield 106, 3) := dk_180 0 106 (dk_at dksX1_variable_2 8 rfl rfl)
theorem dX1_variable_57 : decode cX1_variable 57 = .ok (.ifCond .ne 16, 3) := dk_154 0 16 (dk_at dksX1_variable_2 11 rfl rfl)
theorem dX1_variable_60 : decode cX1_variable 60 = .ok (.aload 5, 2) := dk_25 5 (dk_at dksX1_variable_2 14 rfl rfl)
theorem dX1_variable_62 : decode cX1_variable 62 = .ok (.iload_n 1, 1) := dk_27 (dk_at dksX1_variable_2 16 rfl rfl)
theorem dX1_variable_63 : decode cX1_variable 63 = .ok (.invokevirtual 160, 3) := dk_182 0 160 (dk_at dksX1_variable_2 17 rfl rfl)
theorem dX1_variable_66 : decode cX1_variable 66 = .ok (.ifCond .eq 7, 3) := dk_153 0 7 (dk_at dksX1_variable_2 20 rfl rfl)
theorem dX1_variable_69 : decode cX1_variable 69 = .ok (.iconst 1, 1) := dk_4 (dk_at dksX1_variable_2 23 rfl rfl)
theorem dX1_variable_70 : decode cX1_variable 70 = .ok (.goto 4, 3) := dk_167 0 4 (dk_at dksX1_variable_3 0 rfl rfl)
theorem dX1_variable_73 : decode cX1_variable 73 = .ok (.iconst 0, 1) := dk_3 (dk_at dksX1_variable_3 3 rfl rfl)
theorem dX1_variable_74 : decode cX1_variable 74 = .ok (.iadd, 1) := dk_96 (dk_at dksX1_variable_3 4 rfl rfl)
theorem dX1_variable_75 : decode cX1_variable 75 = .ok (.istore_n 3, 1) := dk_62 (dk_at dksX1_variable_3 5 rfl rfl)
theorem dX1_variable_76 : decode cX1_variable 76 = .ok (.goto (-47), 3) := dk_167 255 209 (dk_at dksX1_variable_3 6 rfl rfl)
theorem dX1_variable_79 : decode cX1_variable 79 = .ok (.iload_n 2, 1) := dk_28 (dk_at dksX1_variable_3 9 rfl rfl)
theorem dX1_variable_80 : decode cX1_variable 80 = .ok (.ifCond .ne 23, 3) := dk_154 0 23 (dk_at dksX1_variable_3 10 rfl rfl)
theorem dX1_variable_83 : decode cX1_variable 83 = .ok (.aload_n 0, 1) := dk_42 (dk_at dksX1_variable_3 13 rfl rfl)
theorem dX1_variable_84 : decode cX1_variable 84 = .ok (.getfield 16, 3) := dk_180 0 16 (dk_at dksX1_variable_3 14 rfl rfl)
theorem dX1_variable_87 : decode cX1_variable 87 = .ok (.getfield 51, 3) := dk_180 0 51 (dk_at dksX1_variable_3 17 rfl rfl)
theorem dX1_variable_90 : decode cX1_variable 90 = .ok (.iload_n 1, 1) := dk_27 (dk_at dksX1_variable_3 20 rfl rfl)
theorem dX1_variable_91 : decode cX1_variable 91 = .ok (.baload, 1) := dk_51 (dk_at dksX1_variable_3 21 rfl rfl)
theorem dX1_variable_92 : decode cX1_variable 92 = .ok (.ifCond .eq 7, 3) := dk_153 0 7 (dk_at dksX1_variable_4 0 rfl rfl)
theorem dX1_variable_95 : decode cX1_variable 95 = .ok (.iconst 1, 1) := dk_4 (dk_at dksX1_variable_4 3 rfl rfl)
theorem dX1_variable_96 : decode cX1_variable 96 = .ok (.goto 34, 3) := dk_167 0 34 (dk_at dksX1_variable_4 4 rfl rfl)
theorem dX1_variable_99 : decode cX1_variable 99 = .ok (.iconst 0, 1) := dk_3 (dk_at dksX1_variable_4 7 rfl rfl)
theorem dX1_variable_100 : decode cX1_variable 100 = .ok (.goto 30, 3) := dk_167 0 30 (dk_at dksX1_variable_4 8 rfl rfl)
theorem dX1_variable_103 : decode cX1_variable 103 = .ok (.iload_n 2, 1) := dk_28 (dk_at dksX1_variable_4 11 rfl rfl)
theorem dX1_variable_104 : decode cX1_variable 104 = .ok (.iconst 1, 1) := dk_4 (dk_at dksX1_variable_4 12 rfl rfl)
theorem dX1_variable_105 : decode cX1_variable 105 = .ok (.if_icmp .ne 15, 3) := dk_160 0 15 (dk_at dksX1_variable_4 13 rfl rfl)
theorem dX1_variable_108 : decode cX1_variable 108 = .ok (.aload_n 0, 1) := dk_42 (dk_at dksX1_variable_4 16 rfl rfl)
theorem dX1_variable_109 : decode cX1_variable 109 = .ok (.getfield 16, 3) := dk_180 0 16 (dk_at dksX1_variable_4 17 rfl rfl)
theorem dX1_variable_112 : decode cX1_variable 112 = .ok (.getfield 163, 3) := dk_180 0 163 (dk_at dksX1_variable_4 20 rfl rfl)
theorem dX1_variable_115 : decode cX1_variable 115 = .ok (.iload_n 1, 1) := dk_27 (dk_at dksX1_variable_4 23 rfl rfl)
theorem dX1_variable_116 : decode cX1_variable 116 = .ok (.iaload, 1) := dk_46 (dk_at dksX1_variable_5 0 rfl rfl)
theorem dX1_variable_117 : decode cX1_variable 117 = .ok (.goto 13, 3) := dk_167 0 13 (dk_at dksX1_variable_5 1 rfl rfl)
theorem dX1_variable_120 : decode cX1_variable 120 = .ok (.iload_n 2, 1) := dk_28 (dk_at dksX1_variable_5 4 rfl rfl)
theorem dX1_variable_121 : decode cX1_variable 121 = .ok (.iconst 2, 1) := dk_5 (dk_at dksX1_variable_5 5 rfl rfl)
theorem dX1_variable_122 : decode cX1_variable 122 = .ok (.if_icmp .ne 7, 3) := dk_160 0 7 (dk_at dksX1_variable_5 6 rfl rfl)
theorem dX1_variable_125 : decode cX1_variable 125 = .ok (.iload_n 3, 1) := dk_29 (dk_at dksX1_variable_5 9 rfl rfl)
theorem dX1_variable_126 : decode cX1_variable 126 = .ok (.goto 4, 3) := dk_167 0 4 (dk_at dksX1_variable_5 10 rfl rfl)
theorem dX1_variable_129 : decode cX1_variable 129 = .ok (.iconst (-1), 1) := dk_2 (dk_at dksX1_variable_5 13 rfl rfl)
theorem dX1_variable_130 : decode cX1_variable 130 = .ok (.ireturn, 1) := dk_172 (dk_at dksX1_variable_5 14 rfl rfl)
abbrev cX1_follows : ByteArray := prog_1_method_25_code
def yX1_follows : MethodName := ⟨RX1, "follows", "(I)I"⟩
def dkwX1_follows_2 : List UInt8 := [184, 0, 58, 153, 0, 12, 44, 180, 0, 202, 27, 46, 167, 0, 4, 3, 172]
abbrev dktX1_follows_2 : List UInt8 := dkwX1_follows_2 ++ []
def dkwX1_follows_1 : List UInt8 := [153, 0, 8, 16, 100, 167, 0, 34, 44, 180, 0, 199, 167, 0, 27, 27, 3, 44, 180, 0, 199, 4, 100]
abbrev dktX1_follows_1 : List UInt8 := dkwX1_follows_1 ++ dktX1_follows_2
def dkwX1_follows_0 : List UInt8 := [187, 0, 189, 89, 183, 0, 191, 77, 44, 42, 3, 182, 0, 192, 184, 0, 195, 62, 27, 2, 160, 0, 19, 29]
abbrev dktX1_follows_0 : List UInt8 := dkwX1_follows_0 ++ dktX1_follows_1
theorem dksX1_follows_0 : cX1_follows.data.toList.drop 0 = dktX1_follows_0 := by decide +kernel
theorem dksX1_follows_1 : cX1_follows.data.toList.drop 24 = dktX1_follows_1 := dk_seg dksX1_follows_0 24 rfl rfl
theorem dksX1_follows_2 : cX1_follows.data.toList.drop 47 = dktX1_follows_2 := dk_seg dksX1_follows_1 23 rfl rfl
theorem dX1_follows_0 : decode cX1_follows 0 = .ok (.new 189, 3) := dk_187 0 189 (dk_at dksX1_follows_0 0 rfl rfl)
theorem dX1_follows_3 : decode cX1_follows 3 = .ok (.dup, 1) := dk_89 (dk_at dksX1_follows_0 3 rfl rfl)
theorem dX1_follows_4 : decode cX1_follows 4 = .ok (.invokespecial 191, 3) := dk_183 0 191 (dk_at dksX1_follows_0 4 rfl rfl)
theorem dX1_follows_7 : decode cX1_follows 7 = .ok (.astore_n 2, 1) := dk_77 (dk_at dksX1_follows_0 7 rfl rfl)
theorem dX1_follows_8 : decode cX1_follows 8 = .ok (.aload_n 2, 1) := dk_44 (dk_at dksX1_follows_0 8 rfl rfl)
theorem dX1_follows_9 : decode cX1_follows 9 = .ok (.aload_n 0, 1) := dk_42 (dk_at dksX1_follows_0 9 rfl rfl)
theorem dX1_follows_10 : decode cX1_follows 10 = .ok (.iconst 0, 1) := dk_3 (dk_at dksX1_follows_0 10 rfl rfl)
theorem dX1_follows_11 : decode cX1_follows 11 = .ok (.invokevirtual 192, 3) := dk_182 0 192 (dk_at dksX1_follows_0 11 rfl rfl)
theorem dX1_follows_14 : decode cX1_follows 14 = .ok (.invokestatic 195, 3) := dk_184 0 195 (dk_at dksX1_follows_0 14 rfl rfl)
theorem dX1_follows_17 : decode cX1_follows 17 = .ok (.istore_n 3, 1) := dk_62 (dk_at dksX1_follows_0 17 rfl rfl)
theorem dX1_follows_18 : decode cX1_follows 18 = .ok (.iload_n 1, 1) := dk_27 (dk_at dksX1_follows_0 18 rfl rfl)
theorem dX1_follows_19 : decode cX1_follows 19 = .ok (.iconst (-1), 1) := dk_2 (dk_at dksX1_follows_0 19 rfl rfl)
theorem dX1_follows_20 : decode cX1_follows 20 = .ok (.if_icmp .ne 19, 3) := dk_160 0 19 (dk_at dksX1_follows_0 20 rfl rfl)
theorem dX1_follows_23 : decode cX1_follows 23 = .ok (.iload_n 3, 1) := dk_29 (dk_at dksX1_follows_0 23 rfl rfl)
theorem dX1_follows_24 : decode cX1_follows 24 = .ok (.ifCond .eq 8, 3) := dk_153 0 8 (dk_at dksX1_follows_1 0 rfl rfl)
theorem dX1_follows_27 : decode cX1_follows 27 = .ok (.bipush 100, 2) := dk_16 100 (dk_at dksX1_follows_1 3 rfl rfl)
theorem dX1_follows_29 : decode cX1_follows 29 = .ok (.goto 34, 3) := dk_167 0 34 (dk_at dksX1_follows_1 5 rfl rfl)
theorem dX1_follows_32 : decode cX1_follows 32 = .ok (.aload_n 2, 1) := dk_44 (dk_at dksX1_follows_1 8 rfl rfl)
theorem dX1_follows_33 : decode cX1_follows 33 = .ok (.getfield 199, 3) := dk_180 0 199 (dk_at dksX1_follows_1 9 rfl rfl)
theorem dX1_follows_36 : decode cX1_follows 36 = .ok (.goto 27, 3) := dk_167 0 27 (dk_at dksX1_follows_1 12 rfl rfl)
theorem dX1_follows_39 : decode cX1_follows 39 = .ok (.iload_n 1, 1) := dk_27 (dk_at dksX1_follows_1 15 rfl rfl)
theorem dX1_follows_40 : decode cX1_follows 40 = .ok (.iconst 0, 1) := dk_3 (dk_at dksX1_follows_1 16 rfl rfl)
theorem dX1_follows_41 : decode cX1_follows 41 = .ok (.aload_n 2, 1) := dk_44 (dk_at dksX1_follows_1 17 rfl rfl)
theorem dX1_follows_42 : decode cX1_follows 42 = .ok (.getfield 199, 3) := dk_180 0 199 (dk_at dksX1_follows_1 18 rfl rfl)
theorem dX1_follows_45 : decode cX1_follows 45 = .ok (.iconst 1, 1) := dk_4 (dk_at dksX1_follows_1 21 rfl rfl)
theorem dX1_follows_46 : decode cX1_follows 46 = .ok (.isub, 1) := dk_100 (dk_at dksX1_follows_1 22 rfl rfl)
theorem dX1_follows_47 : decode cX1_follows 47 = .ok (.invokestatic 58, 3) := dk_184 0 58 (dk_at dksX1_follows_2 0 rfl rfl)
theorem dX1_follows_50 : decode cX1_follows 50 = .ok (.ifCond .eq 12, 3) := dk_153 0 12 (dk_at dksX1_follows_2 3 rfl rfl)
theorem dX1_follows_53 : decode cX1_follows 53 = .ok (.aload_n 2, 1) := dk_44 (dk_at dksX1_follows_2 6 rfl rfl)
theorem dX1_follows_54 : decode cX1_follows 54 = .ok (.getfield 202, 3) := dk_180 0 202 (dk_at dksX1_follows_2 7 rfl rfl)
theorem dX1_follows_57 : decode cX1_follows 57 = .ok (.iload_n 1, 1) := dk_27 (dk_at dksX1_follows_2 10 rfl rfl)
theorem dX1_follows_58 : decode cX1_follows 58 = .ok (.iaload, 1) := dk_46 (dk_at dksX1_follows_2 11 rfl rfl)
theorem dX1_follows_59 : decode cX1_follows 59 = .ok (.goto 4, 3) := dk_167 0 4 (dk_at dksX1_follows_2 12 rfl rfl)
theorem dX1_follows_62 : decode cX1_follows 62 = .ok (.iconst 0, 1) := dk_3 (dk_at dksX1_follows_2 15 rfl rfl)
theorem dX1_follows_63 : decode cX1_follows 63 = .ok (.ireturn, 1) := dk_172 (dk_at dksX1_follows_2 16 rfl rfl)
abbrev cX1_literals : ByteArray := prog_1_method_23_code
def yX1_literals : MethodName := ⟨RX1, "literals", "(Z)Ljava/util/List;"⟩
def dkwX1_literals_3 : List UInt8 := [180, 0, 145, 185, 0, 178, 2, 0, 87, 167, 255, 201, 44, 176]
abbrev dktX1_literals_3 : List UInt8 := dkwX1_literals_3 ++ []
def dkwX1_literals_2 : List UInt8 := [25, 4, 180, 0, 102, 154, 0, 26, 167, 0, 11, 25, 4, 180, 0, 106, 154, 0, 15, 44, 25, 4]
abbrev dktX1_literals_2 : List UInt8 := dkwX1_literals_2 ++ dktX1_literals_3
def dkwX1_literals_1 : List UInt8 := [185, 0, 90, 1, 0, 153, 0, 52, 45, 185, 0, 96, 1, 0, 192, 0, 100, 58, 4, 27, 153, 0, 14]
abbrev dktX1_literals_1 : List UInt8 := dkwX1_literals_1 ++ dktX1_literals_2
def dkwX1_literals_0 : List UInt8 := [187, 0, 173, 89, 16, 8, 183, 0, 175, 77, 42, 180, 0, 16, 180, 0, 80, 185, 0, 84, 1, 0, 78, 45]
abbrev dktX1_literals_0 : List UInt8 := dkwX1_literals_0 ++ dktX1_literals_1
theorem dksX1_literals_0 : cX1_literals.data.toList.drop 0 = dktX1_literals_0 := by decide +kernel
theorem dksX1_literals_1 : cX1_literals.data.toList.drop 24 = dktX1_literals_1 := dk_seg dksX1_literals_0 24 rfl rfl
theorem dksX1_literals_2 : cX1_literals.data.toList.drop 47 = dktX1_literals_2 := dk_seg dksX1_literals_1 23 rfl rfl
theorem dksX1_literals_3 : cX1_literals.data.toList.drop 69 = dktX1_literals_3 := dk_seg dksX1_literals_2 22 rfl rfl
theorem dX1_literals_0 : decode cX1_literals 0 = .ok (.new 173, 3) := dk_187 0 173 (dk_at dksX1_literals_0 0 rfl rfl)
theorem dX1_literals_3 : decode cX1_literals 3 = .ok (.dup, 1) := dk_89 (dk_at dksX1_literals_0 3 rfl rfl)
theorem dX1_literals_4 : decode cX1_literals 4 = .ok (.bipush 8, 2) := dk_16 8 (dk_at dksX1_literals_0 4 rfl rfl)
theorem dX1_literals_6 : decode cX1_literals 6 = .ok (.invokespecial 175, 3) := dk_183 0 175 (dk_at dksX1_literals_0 6 rfl rfl)
theorem dX1_literals_9 : decode cX1_literals 9 = .ok (.astore_n 2, 1) := dk_77 (dk_at dksX1_literals_0 9 rfl rfl)
theorem dX1_literals_10 : decode cX1_literals 10 = .ok (.aload_n 0, 1) := dk_42 (dk_at dksX1_literals_0 10 rfl rfl)
theorem dX1_literals_11 : decode cX1_literals 11 = .ok (.getfield 16, 3) := dk_180 0 16 (dk_at dksX1_literals_0 11 rfl rfl)
theorem dX1_literals_14 : decode cX1_literals 14 = .ok (.getfield 80, 3) := dk_180 0 80 (dk_at dksX1_literals_0 14 rfl rfl)
theorem dX1_literals_17 : decode cX1_literals 17 = .ok (.invokeinterface 84 1, 5) := by decide +kernel
theorem dX1_literals_22 : decode cX1_literals 22 = .ok (.astore_n 3, 1) := dk_78 (dk_at dksX1_literals_0 22 rfl rfl)
theorem dX1_literals_23 : decode cX1_literals 23 = .ok (.aload_n 3, 1) := dk_45 (dk_at dksX1_literals_0 23 rfl rfl)
theorem dX1_literals_24 : decode cX1_literals 24 = .ok (.invokeinterface 90 1, 5) := by decide +kernel
theorem dX1_literals_29 : decode cX1_literals 29 = .ok (.ifCond .eq 52, 3) := dk_153 0 52 (dk_at dksX1_literals_1 5 rfl rfl)
theorem dX1_literals_32 : decode cX1_literals 32 = .ok (.aload_n 3, 1) := dk_45 (dk_at dksX1_literals_1 8 rfl rfl)
theorem dX1_literals_33 : decode cX1_literals 33 = .ok (.invokeinterface 96 1, 5) := by decide +kernel
theorem dX1_literals_38 : decode cX1_literals 38 = .ok (.checkcast 100, 3) := dk_192 0 100 (dk_at dksX1_literals_1 14 rfl rfl)
theorem dX1_literals_41 : decode cX1_literals 41 = .ok (.astore 4, 2) := dk_58 4 (dk_at dksX1_literals_1 17 rfl rfl)
theorem dX1_literals_43 : decode cX1_literals 43 = .ok (.iload_n 1, 1) := dk_27 (dk_at dksX1_literals_1 19 rfl rfl)
theorem dX1_literals_44 : decode cX1_literals 44 = .ok (.ifCond .eq 14, 3) := dk_153 0 14 (dk_at dksX1_literals_1 20 rfl rfl)
theorem dX1_literals_47 : decode cX1_literals 47 = .ok (.aload 4, 2) := dk_25 4 (dk_at dksX1_literals_2 0 rfl rfl)
theorem dX1_literals_49 : decode cX1_literals 49 = .ok (.getfield 102, 3) := dk_180 0 102 (dk_at dksX1_literals_2 2 rfl rfl)
theorem dX1_literals_52 : decode cX1_literals 52 = .ok (.ifCond .ne 26, 3) := dk_154 0 26 (dk_at dksX1_literals_2 5 rfl rfl)
theorem dX1_literals_55 : decode cX1_literals 55 = .ok (.goto 11, 3) := dk_167 0 11 (dk_at dksX1_literals_2 8 rfl rfl)
theorem dX1_literals_58 : decode cX1_literals 58 = .ok (.aload 4, 2) := dk_25 4 (dk_at dksX1_literals_2 11 rfl rfl)
theorem dX1_literals_60 : decode cX1_literals 60 = .ok (.getfield 106, 3) := dk_180 0 106 (dk_at dksX1_literals_2 13 rfl rfl)
theorem dX1_literals_63 : decode cX1_literals 63 = .ok (.ifCond .ne 15, 3) := dk_154 0 15 (dk_at dksX1_literals_2 16 rfl rfl)
theorem dX1_literals_66 : decode cX1_literals 66 = .ok (.aload_n 2, 1) := dk_44 (dk_at dksX1_literals_2 19 rfl rfl)
theorem dX1_literals_67 : decode cX1_literals 67 = .ok (.aload 4, 2) := dk_25 4 (dk_at dksX1_literals_2 20 rfl rfl)
theorem dX1_literals_69 : decode cX1_literals 69 = .ok (.getfield 145, 3) := dk_180 0 145 (dk_at dksX1_literals_3 0 rfl rfl)
theorem dX1_literals_72 : decode cX1_literals 72 = .ok (.invokeinterface 178 2, 5) := by decide +kernel
theorem dX1_literals_77 : decode cX1_literals 77 = .ok (.pop, 1) := dk_87 (dk_at dksX1_literals_3 8 rfl rfl)
theorem dX1_literals_78 : decode cX1_literals 78 = .ok (.goto (-55), 3) := dk_167 255 201 (dk_at dksX1_literals_3 9 rfl rfl)
theorem dX1_literals_81 : decode cX1_literals 81 = .ok (.aload_n 2, 1) := dk_44 (dk_at dksX1_literals_3 12 rfl rfl)
theorem dX1_literals_82 : decode cX1_literals 82 = .ok (.areturn, 1) := dk_176 (dk_at dksX1_literals_3 13 rfl rfl)
abbrev cX1_isWrong : ByteArray := prog_1_method_24_code
def yX1_isWrong : MethodName := ⟨RX1, "isWrong", "(LLearntReasons$Trail;Ljava/util/List;)Z"⟩
def dkwX1_isWrong_1 : List UInt8 := [186, 0, 188, 0, 0, 184, 0, 184, 172]
abbrev dktX1_isWrong_1 : List UInt8 := dkwX1_isWrong_1 ++ []
def dkwX1_isWrong_0 : List UInt8 := [42, 186, 0, 181, 0, 0, 77, 4, 62, 29, 153, 0, 12, 43, 44, 184, 0, 184, 62, 167, 255, 246, 43, 42]
abbrev dktX1_isWrong_0 : List UInt8 := dkwX1_isWrong_0 ++ dktX1_isWrong_1
theorem dksX1_isWrong_0 : cX1_isWrong.data.toList.drop 0 = dktX1_isWrong_0 := by decide +kernel
theorem dksX1_isWrong_1 : cX1_isWrong.data.toList.drop 24 = dktX1_isWrong_1 := dk_seg dksX1_isWrong_0 24 rfl rfl
theorem dX1_isWrong_0 : decode cX1_isWrong 0 = .ok (.aload_n 0, 1) := dk_42 (dk_at dksX1_isWrong_0 0 rfl rfl)
theorem dX1_isWrong_1 : decode cX1_isWrong 1 = .ok (.invokedynamic 181, 5) := by decide +kernel
theorem dX1_isWrong_6 : decode cX1_isWrong 6 = .ok (.astore_n 2, 1) := dk_77 (dk_at dksX1_isWrong_0 6 rfl rfl)
theorem dX1_isWrong_7 : decode cX1_isWrong 7 = .ok (.iconst 1, 1) := dk_4 (dk_at dksX1_isWrong_0 7 rfl rfl)
theorem dX1_isWrong_8 : decode cX1_isWrong 8 = .ok (.istore_n 3, 1) := dk_62 (dk_at dksX1_isWrong_0 8 rfl rfl)
theorem dX1_isWrong_9 : decode cX1_isWrong 9 = .ok (.iload_n 3, 1) := dk_29 (dk_at dksX1_isWrong_0 9 rfl rfl)
theorem dX1_isWrong_10 : decode cX1_isWrong 10 = .ok (.ifCond .eq 12, 3) := dk_153 0 12 (dk_at dksX1_isWrong_0 10 rfl rfl)
theorem dX1_isWrong_13 : decode cX1_isWrong 13 = .ok (.aload_n 1, 1) := dk_43 (dk_at dksX1_isWrong_0 13 rfl rfl)
theorem dX1_isWrong_14 : decode cX1_isWrong 14 = .ok (.aload_n 2, 1) := dk_44 (dk_at dksX1_isWrong_0 14 rfl rfl)
theorem dX1_isWrong_15 : decode cX1_isWrong 15 = .ok (.invokestatic 184, 3) := dk_184 0 184 (dk_at dksX1_isWrong_0 15 rfl rfl)
theorem dX1_isWrong_18 : decode cX1_isWrong 18 = .ok (.istore_n 3, 1) := dk_62 (dk_at dksX1_isWrong_0 18 rfl rfl)
theorem dX1_isWrong_19 : decode cX1_isWrong 19 = .ok (.goto (-10), 3) := dk_167 255 246 (dk_at dksX1_isWrong_0 19 rfl rfl)
theorem dX1_isWrong_22 : decode cX1_isWrong 22 = .ok (.aload_n 1, 1) := dk_43 (dk_at dksX1_isWrong_0 22 rfl rfl)
theorem dX1_isWrong_23 : decode cX1_isWrong 23 = .ok (.aload_n 0, 1) := dk_42 (dk_at dksX1_isWrong_0 23 rfl rfl)
theorem dX1_isWrong_24 : decode cX1_isWrong 24 = .ok (.invokedynamic 188, 5) := by decide +kernel
theorem dX1_isWrong_29 : decode cX1_isWrong 29 = .ok (.invokestatic 184, 3) := dk_184 0 184 (dk_at dksX1_isWrong_1 5 rfl rfl)
theorem dX1_isWrong_32 : decode cX1_isWrong 32 = .ok (.ireturn, 1) := dk_172 (dk_at dksX1_isWrong_1 8 rfl rfl)
abbrev cX1_lambda_isWrong_0 : ByteArray := prog_1_method_45_code
def yX1_lambda_isWrong_0 : MethodName := ⟨RX1, "lambda$isWrong$0", "(LLearntReasons$Trail;[I)Z"⟩
def dkwX1_lambda_isWrong_0_1 : List UInt8 := [3, 172]
abbrev dktX1_lambda_isWrong_0_1 : List UInt8 := dkwX1_lambda_isWrong_0_1 ++ []
def dkwX1_lambda_isWrong_0_0 : List UInt8 := [42, 43, 182, 1, 17, 61, 28, 153, 0, 9, 42, 28, 1, 182, 0, 208, 28, 153, 0, 7, 4, 167, 0, 4]
abbrev dktX1_lambda_isWrong_0_0 : List UInt8 := dkwX1_lambda_isWrong_0_0 ++ dktX1_lambda_isWrong_0_1
theorem dksX1_lambda_isWrong_0_0 : cX1_lambda_isWrong_0.data.toList.drop 0 = dktX1_lambda_isWrong_0_0 := by decide +kernel
theorem dksX1_lambda_isWrong_0_1 : cX1_lambda_isWrong_0.data.toList.drop 24 = dktX1_lambda_isWrong_0_1 := dk_seg dksX1_lambda_isWrong_0_0 24 rfl rfl
theorem dX1_lambda_isWrong_0_0 : decode cX1_lambda_isWrong_0 0 = .ok (.aload_n 0, 1) := dk_42 (dk_at dksX1_lambda_isWrong_0_0 0 rfl rfl)
theorem dX1_lambda_isWrong_0_1 : decode cX1_lambda_isWrong_0 1 = .ok (.aload_n 1, 1) := dk_43 (dk_at dksX1_lambda_isWrong_0_0 1 rfl rfl)
theorem dX1_lambda_isWrong_0_2 : decode cX1_lambda_isWrong_0 2 = .ok (.invokevirtual 273, 3) := dk_182 1 17 (dk_at dksX1_lambda_isWrong_0_0 2 rfl rfl)
theorem dX1_lambda_isWrong_0_5 : decode cX1_lambda_isWrong_0 5 = .ok (.istore_n 2, 1) := dk_61 (dk_at dksX1_lambda_isWrong_0_0 5 rfl rfl)
theorem dX1_lambda_isWrong_0_6 : decode cX1_lambda_isWrong_0 6 = .ok (.iload_n 2, 1) := dk_28 (dk_at dksX1_lambda_isWrong_0_0 6 rfl rfl)
theorem dX1_lambda_isWrong_0_7 : decode cX1_lambda_isWrong_0 7 = .ok (.ifCond .eq 9, 3) := dk_153 0 9 (dk_at dksX1_lambda_isWrong_0_0 7 rfl rfl)
theorem dX1_lambda_isWrong_0_10 : decode cX1_lambda_isWrong_0 10 = .ok (.aload_n 0, 1) := dk_42 (dk_at dksX1_lambda_isWrong_0_0 10 rfl rfl)
theorem dX1_lambda_isWrong_0_11 : decode cX1_lambda_isWrong_0 11 = .ok (.iload_n 2, 1) := dk_28 (dk_at dksX1_lambda_isWrong_0_0 11 rfl rfl)
theorem dX1_lambda_isWrong_0_12 : decode cX1_lambda_isWrong_0 12 = .ok (.aconst_null, 1) := dk_1 (dk_at dksX1_lambda_isWrong_0_0 12 rfl rfl)
theorem dX1_lambda_isWrong_0_13 : decode cX1_lambda_isWrong_0 13 = .ok (.invokevirtual 208, 3) := dk_182 0 208 (dk_at dksX1_lambda_isWrong_0_0 13 rfl rfl)
theorem dX1_lambda_isWrong_0_16 : decode cX1_lambda_isWrong_0 16 = .ok (.iload_n 2, 1) := dk_28 (dk_at dksX1_lambda_isWrong_0_0 16 rfl rfl)
theorem dX1_lambda_isWrong_0_17 : decode cX1_lambda_isWrong_0 17 = .ok (.ifCond .eq 7, 3) := dk_153 0 7 (dk_at dksX1_lambda_isWrong_0_0 17 rfl rfl)
theorem dX1_lambda_isWrong_0_20 : decode cX1_lambda_isWrong_0 20 = .ok (.iconst 1, 1) := dk_4 (dk_at dksX1_lambda_isWrong_0_0 20 rfl rfl)
theorem dX1_lambda_isWrong_0_21 : decode cX1_lambda_isWrong_0 21 = .ok (.goto 4, 3) := dk_167 0 4 (dk_at dksX1_lambda_isWrong_0_0 21 rfl rfl)
theorem dX1_lambda_isWrong_0_24 : decode cX1_lambda_isWrong_0 24 = .ok (.iconst 0, 1) := dk_3 (dk_at dksX1_lambda_isWrong_0_1 0 rfl rfl)
theorem dX1_lambda_isWrong_0_25 : decode cX1_lambda_isWrong_0 25 = .ok (.ireturn, 1) := dk_172 (dk_at dksX1_lambda_isWrong_0_1 1 rfl rfl)
abbrev cX1_isAny : ByteArray := prog_1_method_22_code
def yX1_isAny : MethodName := ⟨RX1, "isAny", "(Ljava/util/List;LLearntReasons$Looks;)Z"⟩
def dkwX1_isAny_1 : List UInt8 := [185, 0, 167, 2, 0, 153, 0, 5, 4, 172, 132, 2, 1, 167, 255, 222, 3, 172]
abbrev dktX1_isAny_1 : List UInt8 := dkwX1_isAny_1 ++ []
def dkwX1_isAny_0 : List UInt8 := [3, 61, 28, 42, 185, 0, 112, 1, 0, 162, 0, 30, 43, 42, 28, 185, 0, 137, 2, 0, 192, 0, 166]
abbrev dktX1_isAny_0 : List UInt8 := dkwX1_isAny_0 ++ dktX1_isAny_1
theorem dksX1_isAny_0 : cX1_isAny.data.toList.drop 0 = dktX1_isAny_0 := by decide +kernel
theorem dksX1_isAny_1 : cX1_isAny.data.toList.drop 23 = dktX1_isAny_1 := dk_seg dksX1_isAny_0 23 rfl rfl
theorem dX1_isAny_0 : decode cX1_isAny 0 = .ok (.iconst 0, 1) := dk_3 (dk_at dksX1_isAny_0 0 rfl rfl)
theorem dX1_isAny_1 : decode cX1_isAny 1 = .ok (.istore_n 2, 1) := dk_61 (dk_at dksX1_isAny_0 1 rfl rfl)
theorem dX1_isAny_2 : decode cX1_isAny 2 = .ok (.iload_n 2, 1) := dk_28 (dk_at dksX1_isAny_0 2 rfl rfl)
theorem dX1_isAny_3 : decode cX1_isAny 3 = .ok (.aload_n 0, 1) := dk_42 (dk_at dksX1_isAny_0 3 rfl rfl)
theorem dX1_isAny_4 : decode cX1_isAny 4 = .ok (.invokeinterface 112 1, 5) := by decide +kernel
theorem dX1_isAny_9 : decode cX1_isAny 9 = .ok (.if_icmp .ge 30, 3) := dk_162 0 30 (dk_at dksX1_isAny_0 9 rfl rfl)
theorem dX1_isAny_12 : decode cX1_isAny 12 = .ok (.aload_n 1, 1) := dk_43 (dk_at dksX1_isAny_0 12 rfl rfl)
theorem dX1_isAny_13 : decode cX1_isAny 13 = .ok (.aload_n 0, 1) := dk_42 (dk_at dksX1_isAny_0 13 rfl rfl)
theorem dX1_isAny_14 : decode cX1_isAny 14 = .ok (.iload_n 2, 1) := dk_28 (dk_at dksX1_isAny_0 14 rfl rfl)
theorem dX1_isAny_15 : decode cX1_isAny 15 = .ok (.invokeinterface 137 2, 5) := by decide +kernel
theorem dX1_isAny_20 : decode cX1_isAny 20 = .ok (.checkcast 166, 3) := dk_192 0 166 (dk_at dksX1_isAny_0 20 rfl rfl)
theorem dX1_isAny_23 : decode cX1_isAny 23 = .ok (.invokeinterface 167 2, 5) := by decide +kernel
theorem dX1_isAny_28 : decode cX1_isAny 28 = .ok (.ifCond .eq 5, 3) := dk_153 0 5 (dk_at dksX1_isAny_1 5 rfl rfl)
theorem dX1_isAny_31 : decode cX1_isAny 31 = .ok (.iconst 1, 1) := dk_4 (dk_at dksX1_isAny_1 8 rfl rfl)
theorem dX1_isAny_32 : decode cX1_isAny 32 = .ok (.ireturn, 1) := dk_172 (dk_at dksX1_isAny_1 9 rfl rfl)
theorem dX1_isAny_33 : decode cX1_isAny 33 = .ok (.iinc 2 1, 3) := dk_132 2 1 (dk_at dksX1_isAny_1 10 rfl rfl)
theorem dX1_isAny_36 : decode cX1_isAny 36 = .ok (.goto (-34), 3) := dk_167 255 222 (dk_at dksX1_isAny_1 13 rfl rfl)
theorem dX1_isAny_39 : decode cX1_isAny 39 = .ok (.iconst 0, 1) := dk_3 (dk_at dksX1_isAny_1 16 rfl rfl)
theorem dX1_isAny_40 : decode cX1_isAny 40 = .ok (.ireturn, 1) := dk_172 (dk_at dksX1_isAny_1 17 rfl rfl)
abbrev cX1_lambda_isWrong_1 : ByteArray := prog_1_method_44_code
def yX1_lambda_isWrong_1 : MethodName := ⟨RX1, "lambda$isWrong$1", "(LLearntReasons$Trail;[I)Z"⟩
def dkwX1_lambda_isWrong_1_0 : List UInt8 := [42, 43, 182, 1, 14, 172]
abbrev dktX1_lambda_isWrong_1_0 : List UInt8 := dkwX1_lambda_isWrong_1_0 ++ []
theorem dksX1_lambda_isWrong_1_0 : cX1_lambda_isWrong_1.data.toList.drop 0 = dktX1_lambda_isWrong_1_0 := by decide +kernel
theorem dX1_lambda_isWrong_1_0 : decode cX1_lambda_isWrong_1 0 = .ok (.aload_n 0, 1) := dk_42 (dk_at dksX1_lambda_isWrong_1_0 0 rfl rfl)
theorem dX1_lambda_isWrong_1_1 : decode cX1_lambda_isWrong_1 1 = .ok (.aload_n 1, 1) := dk_43 (dk_at dksX1_lambda_isWrong_1_0 1 rfl rfl)
theorem dX1_lambda_isWrong_1_2 : decode cX1_lambda_isWrong_1 2 = .ok (.invokevirtual 270, 3) := dk_182 1 14 (dk_at dksX1_lambda_isWrong_1_0 2 rfl rfl)
theorem dX1_lambda_isWrong_1_5 : decode cX1_lambda_isWrong_1 5 = .ok (.ireturn, 1) := dk_172 (dk_at dksX1_lambda_isWrong_1_0 5 rfl rfl)
abbrev cX1_line : ByteArray := prog_1_method_26_code
def yX1_line : MethodName := ⟨RX1, "line", "(II)I"⟩
def dkwX1_line_3 : List UInt8 := [172]
abbrev dktX1_line_3 : List UInt8 := dkwX1_line_3 ++ []
def dkwX1_line_2 : List UInt8 := [190, 167, 0, 23, 28, 3, 45, 190, 4, 100, 184, 0, 58, 153, 0, 9, 45, 28, 46, 167, 0, 5, 16, 156]
abbrev dktX1_line_2 : List UInt8 := dkwX1_line_2 ++ dktX1_line_3
def dkwX1_line_1 : List UInt8 := [172, 42, 180, 0, 16, 180, 0, 121, 27, 185, 0, 137, 2, 0, 192, 0, 166, 78, 28, 2, 160, 0, 8, 45]
abbrev dktX1_line_1 : List UInt8 := dkwX1_line_1 ++ dktX1_line_2
def dkwX1_line_0 : List UInt8 := [27, 3, 42, 180, 0, 16, 180, 0, 121, 185, 0, 112, 1, 0, 4, 100, 184, 0, 58, 154, 0, 6, 16, 156]
abbrev dktX1_line_0 : List UInt8 := dkwX1_line_0 ++ dktX1_line_1
theorem dksX1_line_0 : cX1_line.data.toList.drop 0 = dktX1_line_0 := by decide +kernel
theorem dksX1_line_1 : cX1_line.data.toList.drop 24 = dktX1_line_1 := dk_seg dksX1_line_0 24 rfl rfl
theorem dksX1_line_2 : cX1_line.data.toList.drop 48 = dktX1_line_2 := dk_seg dksX1_line_1 24 rfl rfl
theorem dksX1_line_3 : cX1_line.data.toList.drop 72 = dktX1_line_3 := dk_seg dksX1_line_2 24 rfl rfl
theorem dX1_line_0 : decode cX1_line 0 = .ok (.iload_n 1, 1) := dk_27 (dk_at dksX1_line_0 0 rfl rfl)
theorem dX1_line_1 : decode cX1_line 1 = .ok (.iconst 0, 1) := dk_3 (dk_at dksX1_line_0 1 rfl rfl)
theorem dX1_line_2 : decode cX1_line 2 = .ok (.aload_n 0, 1) := dk_42 (dk_at dksX1_line_0 2 rfl rfl)
theorem dX1_line_3 : decode cX1_line 3 = .ok (.getfield 16, 3) := dk_180 0 16 (dk_at dksX1_line_0 3 rfl rfl)
theorem dX1_line_6 : decode cX1_line 6 = .ok (.getfield 121, 3) := dk_180 0 121 (dk_at dksX1_line_0 6 rfl rfl)
theorem dX1_line_9 : decode cX1_line 9 = .ok (.invokeinterface 112 1, 5) := by decide +kernel
theorem dX1_line_14 : decode cX1_line 14 = .ok (.iconst 1, 1) := dk_4 (dk_at dksX1_line_0 14 rfl rfl)
theorem dX1_line_15 : decode cX1_line 15 = .ok (.isub, 1) := dk_100 (dk_at dksX1_line_0 15 rfl rfl)
theorem dX1_line_16 : decode cX1_line 16 = .ok (.invokestatic 58, 3) := dk_184 0 58 (dk_at dksX1_line_0 16 rfl rfl)
theorem dX1_line_19 : decode cX1_line 19 = .ok (.ifCond .ne 6, 3) := dk_154 0 6 (dk_at dksX1_line_0 19 rfl rfl)
theorem dX1_line_22 : decode cX1_line 22 = .ok (.bipush (-100), 2) := dk_16 156 (dk_at dksX1_line_0 22 rfl rfl)
theorem dX1_line_24 : decode cX1_line 24 = .ok (.ireturn, 1) := dk_172 (dk_at dksX1_line_1 0 rfl rfl)
theorem dX1_line_25 : decode cX1_line 25 = .ok (.aload_n 0, 1) := dk_42 (dk_at dksX1_line_1 1 rfl rfl)
theorem dX1_line_26 : decode cX1_line 26 = .ok (.getfield 16, 3) := dk_180 0 16 (dk_at dksX1_line_1 2 rfl rfl)
theorem dX1_line_29 : decode cX1_line 29 = .ok (.getfield 121, 3) := dk_180 0 121 (dk_at dksX1_line_1 5 rfl rfl)
theorem dX1_line_32 : decode cX1_line 32 = .ok (.iload_n 1, 1) := dk_27 (dk_at dksX1_line_1 8 rfl rfl)
theorem dX1_line_33 : decode cX1_line 33 = .ok (.invokeinterface 137 2, 5) := by decide +kernel
theorem dX1_line_38 : decode cX1_line 38 = .ok (.checkcast 166, 3) := dk_192 0 166 (dk_at dksX1_line_1 14 rfl rfl)
theorem dX1_line_41 : decode cX1_line 41 = .ok (.astore_n 3, 1) := dk_78 (dk_at dksX1_line_1 17 rfl rfl)
theorem dX1_line_42 : decode cX1_line 42 = .ok (.iload_n 2, 1) := dk_28 (dk_at dksX1_line_1 18 rfl rfl)
theorem dX1_line_43 : decode cX1_line 43 = .ok (.iconst (-1), 1) := dk_2 (dk_at dksX1_line_1 19 rfl rfl)
theorem dX1_line_44 : decode cX1_line 44 = .ok (.if_icmp .ne 8, 3) := dk_160 0 8 (dk_at dksX1_line_1 20 rfl rfl)
theorem dX1_line_47 : decode cX1_line 47 = .ok (.aload_n 3, 1) := dk_45 (dk_at dksX1_line_1 23 rfl rfl)
theorem dX1_line_48 : decode cX1_line 48 = .ok (.arraylength, 1) := dk_190 (dk_at dksX1_line_2 0 rfl rfl)
theorem dX1_line_49 : decode cX1_line 49 = .ok (.goto 23, 3) := dk_167 0 23 (dk_at dksX1_line_2 1 rfl rfl)
theorem dX1_line_52 : decode cX1_line 52 = .ok (.iload_n 2, 1) := dk_28 (dk_at dksX1_line_2 4 rfl rfl)
theorem dX1_line_53 : decode cX1_line 53 = .ok (.iconst 0, 1) := dk_3 (dk_at dksX1_line_2 5 rfl rfl)
theorem dX1_line_54 : decode cX1_line 54 = .ok (.aload_n 3, 1) := dk_45 (dk_at dksX1_line_2 6 rfl rfl)
theorem dX1_line_55 : decode cX1_line 55 = .ok (.arraylength, 1) := dk_190 (dk_at dksX1_line_2 7 rfl rfl)
theorem dX1_line_56 : decode cX1_line 56 = .ok (.iconst 1, 1) := dk_4 (dk_at dksX1_line_2 8 rfl rfl)
theorem dX1_line_57 : decode cX1_line 57 = .ok (.isub, 1) := dk_100 (dk_at dksX1_line_2 9 rfl rfl)
theorem dX1_line_58 : decode cX1_line 58 = .ok (.invokestatic 58, 3) := dk_184 0 58 (dk_at dksX1_line_2 10 rfl rfl)
theorem dX1_line_61 : decode cX1_line 61 = .ok (.ifCond .eq 9, 3) := dk_153 0 9 (dk_at dksX1_line_2 13 rfl rfl)
theorem dX1_line_64 : decode cX1_line 64 = .ok (.aload_n 3, 1) := dk_45 (dk_at dksX1_line_2 16 rfl rfl)
theorem dX1_line_65 : decode cX1_line 65 = .ok (.iload_n 2, 1) := dk_28 (dk_at dksX1_line_2 17 rfl rfl)
theorem dX1_line_66 : decode cX1_line 66 = .ok (.iaload, 1) := dk_46 (dk_at dksX1_line_2 18 rfl rfl)
theorem dX1_line_67 : decode cX1_line 67 = .ok (.goto 5, 3) := dk_167 0 5 (dk_at dksX1_line_2 19 rfl rfl)
theorem dX1_line_70 : decode cX1_line 70 = .ok (.bipush (-100), 2) := dk_16 156 (dk_at dksX1_line_2 22 rfl rfl)
theorem dX1_line_72 : decode cX1_line 72 = .ok (.ireturn, 1) := dk_172 (dk_at dksX1_line_3 0 rfl rfl)
abbrev cX1_proof : ByteArray := prog_1_method_29_code
def yX1_proof : MethodName := ⟨RX1, "proof", "()I"⟩
def dkwX1_proof_1 : List UInt8 := [185, 0, 112, 1, 0, 160, 0, 7, 2, 167, 0, 4, 27, 172]
abbrev dktX1_proof_1 : List UInt8 := dkwX1_proof_1 ++ []
def dkwX1_proof_0 : List UInt8 := [42, 42, 180, 0, 16, 180, 0, 121, 182, 0, 216, 60, 27, 42, 180, 0, 16, 180, 0, 121]
abbrev dktX1_proof_0 : List UInt8 := dkwX1_proof_0 ++ dktX1_proof_1
theorem dksX1_proof_0 : cX1_proof.data.toList.drop 0 = dktX1_proof_0 := by decide +kernel
theorem dksX1_proof_1 : cX1_proof.data.toList.drop 20 = dktX1_proof_1 := dk_seg dksX1_proof_0 20 rfl rfl
theorem dX1_proof_0 : decode cX1_proof 0 = .ok (.aload_n 0, 1) := dk_42 (dk_at dksX1_proof_0 0 rfl rfl)
theorem dX1_proof_1 : decode cX1_proof 1 = .ok (.aload_n 0, 1) := dk_42 (dk_at dksX1_proof_0 1 rfl rfl)
theorem dX1_proof_2 : decode cX1_proof 2 = .ok (.getfield 16, 3) := dk_180 0 16 (dk_at dksX1_proof_0 2 rfl rfl)
theorem dX1_proof_5 : decode cX1_proof 5 = .ok (.getfield 121, 3) := dk_180 0 121 (dk_at dksX1_proof_0 5 rfl rfl)
theorem dX1_proof_8 : decode cX1_proof 8 = .ok (.invokevirtual 216, 3) := dk_182 0 216 (dk_at dksX1_proof_0 8 rfl rfl)
theorem dX1_proof_11 : decode cX1_proof 11 = .ok (.istore_n 1, 1) := dk_60 (dk_at dksX1_proof_0 11 rfl rfl)
theorem dX1_proof_12 : decode cX1_proof 12 = .ok (.iload_n 1, 1) := dk_27 (dk_at dksX1_proof_0 12 rfl rfl)
theorem dX1_proof_13 : decode cX1_proof 13 = .ok (.aload_n 0, 1) := dk_42 (dk_at dksX1_proof_0 13 rfl rfl)
theorem dX1_proof_14 : decode cX1_proof 14 = .ok (.getfield 16, 3) := dk_180 0 16 (dk_at dksX1_proof_0 14 rfl rfl)
theorem dX1_proof_17 : decode cX1_proof 17 = .ok (.getfield 121, 3) := dk_180 0 121 (dk_at dksX1_proof_0 17 rfl rfl)
theorem dX1_proof_20 : decode cX1_proof 20 = .ok (.invokeinterface 112 1, 5) := by decide +kernel
theorem dX1_proof_25 : decode cX1_proof 25 = .ok (.if_icmp .ne 7, 3) := dk_160 0 7 (dk_at dksX1_proof_1 5 rfl rfl)
theorem dX1_proof_28 : decode cX1_proof 28 = .ok (.iconst (-1), 1) := dk_2 (dk_at dksX1_proof_1 8 rfl rfl)
theorem dX1_proof_29 : decode cX1_proof 29 = .ok (.goto 4, 3) := dk_167 0 4 (dk_at dksX1_proof_1 9 rfl rfl)
theorem dX1_proof_32 : decode cX1_proof 32 = .ok (.iload_n 1, 1) := dk_27 (dk_at dksX1_proof_1 12 rfl rfl)
theorem dX1_proof_33 : decode cX1_proof 33 = .ok (.ireturn, 1) := dk_172 (dk_at dksX1_proof_1 13 rfl rfl)
abbrev cX1_accepted : ByteArray := prog_1_method_28_code
def yX1_accepted : MethodName := ⟨RX1, "accepted", "(Ljava/util/List;)I"⟩
def dkwX1_accepted_3 : List UInt8 := [167, 255, 205, 21, 4, 172]
abbrev dktX1_accepted_3 : List UInt8 := dkwX1_accepted_3 ++ []
def dkwX1_accepted_2 : List UInt8 := [153, 0, 27, 44, 43, 21, 4, 185, 0, 137, 2, 0, 192, 0, 166, 185, 0, 178, 2, 0, 87, 132, 4, 1]
abbrev dktX1_accepted_2 : List UInt8 := dkwX1_accepted_2 ++ dktX1_accepted_3
def dkwX1_accepted_1 : List UInt8 := [185, 0, 112, 1, 0, 162, 0, 46, 45, 44, 43, 21, 4, 185, 0, 137, 2, 0, 192, 0, 166, 184, 0, 212]
abbrev dktX1_accepted_1 : List UInt8 := dkwX1_accepted_1 ++ dktX1_accepted_2
def dkwX1_accepted_0 : List UInt8 := [42, 4, 182, 0, 192, 77, 187, 0, 189, 89, 183, 0, 191, 78, 3, 54, 4, 21, 4, 43]
abbrev dktX1_accepted_0 : List UInt8 := dkwX1_accepted_0 ++ dktX1_accepted_1
theorem dksX1_accepted_0 : cX1_accepted.data.toList.drop 0 = dktX1_accepted_0 := by decide +kernel
theorem dksX1_accepted_1 : cX1_accepted.data.toList.drop 20 = dktX1_accepted_1 := dk_seg dksX1_accepted_0 20 rfl rfl
theorem dksX1_accepted_2 : cX1_accepted.data.toList.drop 44 = dktX1_accepted_2 := dk_seg dksX1_accepted_1 24 rfl rfl
theorem dksX1_accepted_3 : cX1_accepted.data.toList.drop 68 = dktX1_accepted_3 := dk_seg dksX1_accepted_2 24 rfl rfl
theorem dX1_accepted_0 : decode cX1_accepted 0 = .ok (.aload_n 0, 1) := dk_42 (dk_at dksX1_accepted_0 0 rfl rfl)
theorem dX1_accepted_1 : decode cX1_accepted 1 = .ok (.iconst 1, 1) := dk_4 (dk_at dksX1_accepted_0 1 rfl rfl)
theorem dX1_accepted_2 : decode cX1_accepted 2 = .ok (.invokevirtual 192, 3) := dk_182 0 192 (dk_at dksX1_accepted_0 2 rfl rfl)
theorem dX1_accepted_5 : decode cX1_accepted 5 = .ok (.astore_n 2, 1) := dk_77 (dk_at dksX1_accepted_0 5 rfl rfl)
theorem dX1_accepted_6 : decode cX1_accepted 6 = .ok (.new 189, 3) := dk_187 0 189 (dk_at dksX1_accepted_0 6 rfl rfl)
theorem dX1_accepted_9 : decode cX1_accepted 9 = .ok (.dup, 1) := dk_89 (dk_at dksX1_accepted_0 9 rfl rfl)
theorem dX1_accepted_10 : decode cX1_accepted 10 = .ok (.invokespecial 191, 3) := dk_183 0 191 (dk_at dksX1_accepted_0 10 rfl rfl)
theorem dX1_accepted_13 : decode cX1_accepted 13 = .ok (.astore_n 3, 1) := dk_78 (dk_at dksX1_accepted_0 13 rfl rfl)
theorem dX1_accepted_14 : decode cX1_accepted 14 = .ok (.iconst 0, 1) := dk_3 (dk_at dksX1_accepted_0 14 rfl rfl)
theorem dX1_accepted_15 : decode cX1_accepted 15 = .ok (.istore 4, 2) := dk_54 4 (dk_at dksX1_accepted_0 15 rfl rfl)
theorem dX1_accepted_17 : decode cX1_accepted 17 = .ok (.iload 4, 2) := dk_21 4 (dk_at dksX1_accepted_0 17 rfl rfl)
theorem dX1_accepted_19 : decode cX1_accepted 19 = .ok (.aload_n 1, 1) := dk_43 (dk_at dksX1_accepted_0 19 rfl rfl)
theorem dX1_accepted_20 : decode cX1_accepted 20 = .ok (.invokeinterface 112 1, 5) := by decide +kernel
theorem dX1_accepted_25 : decode cX1_accepted 25 = .ok (.if_icmp .ge 46, 3) := dk_162 0 46 (dk_at dksX1_accepted_1 5 rfl rfl)
theorem dX1_accepted_28 : decode cX1_accepted 28 = .ok (.aload_n 3, 1) := dk_45 (dk_at dksX1_accepted_1 8 rfl rfl)
theorem dX1_accepted_29 : decode cX1_accepted 29 = .ok (.aload_n 2, 1) := dk_44 (dk_at dksX1_accepted_1 9 rfl rfl)
theorem dX1_accepted_30 : decode cX1_accepted 30 = .ok (.aload_n 1, 1) := dk_43 (dk_at dksX1_accepted_1 10 rfl rfl)
theorem dX1_accepted_31 : decode cX1_accepted 31 = .ok (.iload 4, 2) := dk_21 4 (dk_at dksX1_accepted_1 11 rfl rfl)
theorem dX1_accepted_33 : decode cX1_accepted 33 = .ok (.invokeinterface 137 2, 5) := by decide +kernel
theorem dX1_accepted_38 : decode cX1_accepted 38 = .ok (.checkcast 166, 3) := dk_192 0 166 (dk_at dksX1_accepted_1 18 rfl rfl)
theorem dX1_accepted_41 : decode cX1_accepted 41 = .ok (.invokestatic 212, 3) := dk_184 0 212 (dk_at dksX1_accepted_1 21 rfl rfl)
theorem dX1_accepted_44 : decode cX1_accepted 44 = .ok (.ifCond .eq 27, 3) := dk_153 0 27 (dk_at dksX1_accepted_2 0 rfl rfl)
theorem dX1_accepted_47 : decode cX1_accepted 47 = .ok (.aload_n 2, 1) := dk_44 (dk_at dksX1_accepted_2 3 rfl rfl)
theorem dX1_accepted_48 : decode cX1_accepted 48 = .ok (.aload_n 1, 1) := dk_43 (dk_at dksX1_accepted_2 4 rfl rfl)
theorem dX1_accepted_49 : decode cX1_accepted 49 = .ok (.iload 4, 2) := dk_21 4 (dk_at dksX1_accepted_2 5 rfl rfl)
theorem dX1_accepted_51 : decode cX1_accepted 51 = .ok (.invokeinterface 137 2, 5) := by decide +kernel
theorem dX1_accepted_56 : decode cX1_accepted 56 = .ok (.checkcast 166, 3) := dk_192 0 166 (dk_at dksX1_accepted_2 12 rfl rfl)
theorem dX1_accepted_59 : decode cX1_accepted 59 = .ok (.invokeinterface 178 2, 5) := by decide +kernel
theorem dX1_accepted_64 : decode cX1_accepted 64 = .ok (.pop, 1) := dk_87 (dk_at dksX1_accepted_2 20 rfl rfl)
theorem dX1_accepted_65 : decode cX1_accepted 65 = .ok (.iinc 4 1, 3) := dk_132 4 1 (dk_at dksX1_accepted_2 21 rfl rfl)
theorem dX1_accepted_68 : decode cX1_accepted 68 = .ok (.goto (-51), 3) := dk_167 255 205 (dk_at dksX1_accepted_3 0 rfl rfl)
theorem dX1_accepted_71 : decode cX1_accepted 71 = .ok (.iload 4, 2) := dk_21 4 (dk_at dksX1_accepted_3 3 rfl rfl)
theorem dX1_accepted_73 : decode cX1_accepted 73 = .ok (.ireturn, 1) := dk_172 (dk_at dksX1_accepted_3 5 rfl rfl)
abbrev cX1_isAccepted : ByteArray := prog_1_method_27_code
def yX1_isAccepted : MethodName := ⟨RX1, "isAccepted", "(LLearntReasons$Trail;Ljava/util/List;[I)Z"⟩
def dkwX1_isAccepted_2 : List UInt8 := [167, 255, 232, 42, 43, 184, 0, 195, 172]
abbrev dktX1_isAccepted_2 : List UInt8 := dkwX1_isAccepted_2 ++ []
def dkwX1_isAccepted_1 : List UInt8 := [21, 5, 21, 4, 162, 0, 23, 45, 21, 5, 46, 54, 6, 42, 21, 6, 116, 1, 182, 0, 208, 132, 5, 1]
abbrev dktX1_isAccepted_1 : List UInt8 := dkwX1_isAccepted_1 ++ dktX1_isAccepted_2
def dkwX1_isAccepted_0 : List UInt8 := [42, 180, 0, 199, 158, 0, 11, 42, 182, 0, 205, 62, 167, 255, 244, 44, 78, 45, 190, 54, 4, 3, 54, 5]
abbrev dktX1_isAccepted_0 : List UInt8 := dkwX1_isAccepted_0 ++ dktX1_isAccepted_1
theorem dksX1_isAccepted_0 : cX1_isAccepted.data.toList.drop 0 = dktX1_isAccepted_0 := by decide +kernel
theorem dksX1_isAccepted_1 : cX1_isAccepted.data.toList.drop 24 = dktX1_isAccepted_1 := dk_seg dksX1_isAccepted_0 24 rfl rfl
theorem dksX1_isAccepted_2 : cX1_isAccepted.data.toList.drop 48 = dktX1_isAccepted_2 := dk_seg dksX1_isAccepted_1 24 rfl rfl
theorem dX1_isAccepted_0 : decode cX1_isAccepted 0 = .ok (.aload_n 0, 1) := dk_42 (dk_at dksX1_isAccepted_0 0 rfl rfl)
theorem dX1_isAccepted_1 : decode cX1_isAccepted 1 = .ok (.getfield 199, 3) := dk_180 0 199 (dk_at dksX1_isAccepted_0 1 rfl rfl)
theorem dX1_isAccepted_4 : decode cX1_isAccepted 4 = .ok (.ifCond .le 11, 3) := dk_158 0 11 (dk_at dksX1_isAccepted_0 4 rfl rfl)
theorem dX1_isAccepted_7 : decode cX1_isAccepted 7 = .ok (.aload_n 0, 1) := dk_42 (dk_at dksX1_isAccepted_0 7 rfl rfl)
theorem dX1_isAccepted_8 : decode cX1_isAccepted 8 = .ok (.invokevirtual 205, 3) := dk_182 0 205 (dk_at dksX1_isAccepted_0 8 rfl rfl)
theorem dX1_isAccepted_11 : decode cX1_isAccepted 11 = .ok (.istore_n 3, 1) := dk_62 (dk_at dksX1_isAccepted_0 11 rfl rfl)
theorem dX1_isAccepted_12 : decode cX1_isAccepted 12 = .ok (.goto (-12), 3) := dk_167 255 244 (dk_at dksX1_isAccepted_0 12 rfl rfl)
theorem dX1_isAccepted_15 : decode cX1_isAccepted 15 = .ok (.aload_n 2, 1) := dk_44 (dk_at dksX1_isAccepted_0 15 rfl rfl)
theorem dX1_isAccepted_16 : decode cX1_isAccepted 16 = .ok (.astore_n 3, 1) := dk_78 (dk_at dksX1_isAccepted_0 16 rfl rfl)
theorem dX1_isAccepted_17 : decode cX1_isAccepted 17 = .ok (.aload_n 3, 1) := dk_45 (dk_at dksX1_isAccepted_0 17 rfl rfl)
theorem dX1_isAccepted_18 : decode cX1_isAccepted 18 = .ok (.arraylength, 1) := dk_190 (dk_at dksX1_isAccepted_0 18 rfl rfl)
theorem dX1_isAccepted_19 : decode cX1_isAccepted 19 = .ok (.istore 4, 2) := dk_54 4 (dk_at dksX1_isAccepted_0 19 rfl rfl)
theorem dX1_isAccepted_21 : decode cX1_isAccepted 21 = .ok (.iconst 0, 1) := dk_3 (dk_at dksX1_isAccepted_0 21 rfl rfl)
theorem dX1_isAccepted_22 : decode cX1_isAccepted 22 = .ok (.istore 5, 2) := dk_54 5 (dk_at dksX1_isAccepted_0 22 rfl rfl)
theorem dX1_isAccepted_24 : decode cX1_isAccepted 24 = .ok (.iload 5, 2) := dk_21 5 (dk_at dksX1_isAccepted_1 0 rfl rfl)
theorem dX1_isAccepted_26 : decode cX1_isAccepted 26 = .ok (.iload 4, 2) := dk_21 4 (dk_at dksX1_isAccepted_1 2 rfl rfl)
theorem dX1_isAccepted_28 : decode cX1_isAccepted 28 = .ok (.if_icmp .ge 23, 3) := dk_162 0 23 (dk_at dksX1_isAccepted_1 4 rfl rfl)
theorem dX1_isAccepted_31 : decode cX1_isAccepted 31 = .ok (.aload_n 3, 1) := dk_45 (dk_at dksX1_isAccepted_1 7 rfl rfl)
theorem dX1_isAccepted_32 : decode cX1_isAccepted 32 = .ok (.iload 5, 2) := dk_21 5 (dk_at dksX1_isAccepted_1 8 rfl rfl)
theorem dX1_isAccepted_34 : decode cX1_isAccepted 34 = .ok (.iaload, 1) := dk_46 (dk_at dksX1_isAccepted_1 10 rfl rfl)
theorem dX1_isAccepted_35 : decode cX1_isAccepted 35 = .ok (.istore 6, 2) := dk_54 6 (dk_at dksX1_isAccepted_1 11 rfl rfl)
theorem dX1_isAccepted_37 : decode cX1_isAccepted 37 = .ok (.aload_n 0, 1) := dk_42 (dk_at dksX1_isAccepted_1 13 rfl rfl)
theorem dX1_isAccepted_38 : decode cX1_isAccepted 38 = .ok (.iload 6, 2) := dk_21 6 (dk_at dksX1_isAccepted_1 14 rfl rfl)
theorem dX1_isAccepted_40 : decode cX1_isAccepted 40 = .ok (.ineg, 1) := dk_116 (dk_at dksX1_isAccepted_1 16 rfl rfl)
theorem dX1_isAccepted_41 : decode cX1_isAccepted 41 = .ok (.aconst_null, 1) := dk_1 (dk_at dksX1_isAccepted_1 17 rfl rfl)
theorem dX1_isAccepted_42 : decode cX1_isAccepted 42 = .ok (.invokevirtual 208, 3) := dk_182 0 208 (dk_at dksX1_isAccepted_1 18 rfl rfl)
theorem dX1_isAccepted_45 : decode cX1_isAccepted 45 = .ok (.iinc 5 1, 3) := dk_132 5 1 (dk_at dksX1_isAccepted_1 21 rfl rfl)
theorem dX1_isAccepted_48 : decode cX1_isAccepted 48 = .ok (.goto (-24), 3) := dk_167 255 232 (dk_at dksX1_isAccepted_2 0 rfl rfl)
theorem dX1_isAccepted_51 : decode cX1_isAccepted 51 = .ok (.aload_n 0, 1) := dk_42 (dk_at dksX1_isAccepted_2 3 rfl rfl)
theorem dX1_isAccepted_52 : decode cX1_isAccepted 52 = .ok (.aload_n 1, 1) := dk_43 (dk_at dksX1_isAccepted_2 4 rfl rfl)
theorem dX1_isAccepted_53 : decode cX1_isAccepted 53 = .ok (.invokestatic 195, 3) := dk_184 0 195 (dk_at dksX1_isAccepted_2 5 rfl rfl)
theorem dX1_isAccepted_56 : decode cX1_isAccepted 56 = .ok (.ireturn, 1) := dk_172 (dk_at dksX1_isAccepted_2 8 rfl rfl)
abbrev cX1_refute : ByteArray := prog_1_method_30_code
def yX1_refute : MethodName := ⟨RX1, "refute", "()I"⟩
def dkwX1_refute_5 : List UInt8 := [25, 5, 191]
abbrev dktX1_refute_5 : List UInt8 := dkwX1_refute_5 ++ []
def dkwX1_refute_4 : List UInt8 := [42, 44, 180, 0, 237, 181, 0, 229, 2, 62, 42, 3, 181, 0, 127, 29, 172, 58, 5, 42, 3, 181, 0, 127]
abbrev dktX1_refute_4 : List UInt8 := dkwX1_refute_4 ++ dktX1_refute_5
def dkwX1_refute_3 : List UInt8 := [180, 0, 232, 181, 0, 232, 132, 4, 1, 167, 255, 214, 29, 54, 4, 42, 3, 181, 0, 127, 21, 4, 172, 77]
abbrev dktX1_refute_3 : List UInt8 := dkwX1_refute_3 ++ dktX1_refute_4
def dkwX1_refute_2 : List UInt8 := [21, 4, 185, 0, 137, 2, 0, 192, 0, 166, 190, 154, 0, 7, 4, 167, 0, 10, 42, 180, 0, 16]
abbrev dktX1_refute_2 : List UInt8 := dkwX1_refute_2 ++ dktX1_refute_3
def dkwX1_refute_1 : List UInt8 := [62, 42, 180, 0, 16, 3, 181, 0, 232, 3, 54, 4, 21, 4, 29, 162, 0, 42, 42, 180, 0, 16, 44]
abbrev dktX1_refute_1 : List UInt8 := dkwX1_refute_1 ++ dktX1_refute_2
def dkwX1_refute_0 : List UInt8 := [187, 0, 220, 89, 42, 183, 0, 222, 76, 43, 182, 0, 225, 77, 42, 3, 181, 0, 229, 42, 44, 182, 0, 216]
abbrev dktX1_refute_0 : List UInt8 := dkwX1_refute_0 ++ dktX1_refute_1
theorem dksX1_refute_0 : cX1_refute.data.toList.drop 0 = dktX1_refute_0 := by decide +kernel
theorem dksX1_refute_1 : cX1_refute.data.toList.drop 24 = dktX1_refute_1 := dk_seg dksX1_refute_0 24 rfl rfl
theorem dksX1_refute_2 : cX1_refute.data.toList.drop 47 = dktX1_refute_2 := dk_seg dksX1_refute_1 23 rfl rfl
theorem dksX1_refute_3 : cX1_refute.data.toList.drop 69 = dktX1_refute_3 := dk_seg dksX1_refute_2 22 rfl rfl
theorem dksX1_refute_4 : cX1_refute.data.toList.drop 93 = dktX1_refute_4 := dk_seg dksX1_refute_3 24 rfl rfl
theorem dksX1_refute_5 : cX1_refute.data.toList.drop 117 = dktX1_refute_5 := dk_seg dksX1_refute_4 24 rfl rfl
theorem dX1_refute_0 : decode cX1_refute 0 = .ok (.new 220, 3) := dk_187 0 220 (dk_at dksX1_refute_0 0 rfl rfl)
theorem dX1_refute_3 : decode cX1_refute 3 = .ok (.dup, 1) := dk_89 (dk_at dksX1_refute_0 3 rfl rfl)
theorem dX1_refute_4 : decode cX1_refute 4 = .ok (.aload_n 0, 1) := dk_42 (dk_at dksX1_refute_0 4 rfl rfl)
theorem dX1_refute_5 : decode cX1_refute 5 = .ok (.invokespecial 222, 3) := dk_183 0 222 (dk_at dksX1_refute_0 5 rfl rfl)
theorem dX1_refute_8 : decode cX1_refute 8 = .ok (.astore_n 1, 1) := dk_76 (dk_at dksX1_refute_0 8 rfl rfl)
theorem dX1_refute_9 : decode cX1_refute 9 = .ok (.aload_n 1, 1) := dk_43 (dk_at dksX1_refute_0 9 rfl rfl)
theorem dX1_refute_10 : decode cX1_refute 10 = .ok (.invokevirtual 225, 3) := dk_182 0 225 (dk_at dksX1_refute_0 10 rfl rfl)
theorem dX1_refute_13 : decode cX1_refute 13 = .ok (.astore_n 2, 1) := dk_77 (dk_at dksX1_refute_0 13 rfl rfl)
theorem dX1_refute_14 : decode cX1_refute 14 = .ok (.aload_n 0, 1) := dk_42 (dk_at dksX1_refute_0 14 rfl rfl)
theorem dX1_refute_15 : decode cX1_refute 15 = .ok (.iconst 0, 1) := dk_3 (dk_at dksX1_refute_0 15 rfl rfl)
theorem dX1_refute_16 : decode cX1_refute 16 = .ok (.putfield 229, 3) := dk_181 0 229 (dk_at dksX1_refute_0 16 rfl rfl)
theorem dX1_refute_19 : decode cX1_refute 19 = .ok (.aload_n 0, 1) := dk_42 (dk_at dksX1_refute_0 19 rfl rfl)
theorem dX1_refute_20 : decode cX1_refute 20 = .ok (.aload_n 2, 1) := dk_44 (dk_at dksX1_refute_0 20 rfl rfl)
theorem dX1_refute_21 : decode cX1_refute 21 = .ok (.invokevirtual 216, 3) := dk_182 0 216 (dk_at dksX1_refute_0 21 rfl rfl)
theorem dX1_refute_24 : decode cX1_refute 24 = .ok (.istore_n 3, 1) := dk_62 (dk_at dksX1_refute_1 0 rfl rfl)
theorem dX1_refute_25 : decode cX1_refute 25 = .ok (.aload_n 0, 1) := dk_42 (dk_at dksX1_refute_1 1 rfl rfl)
theorem dX1_refute_26 : decode cX1_refute 26 = .ok (.getfield 16, 3) := dk_180 0 16 (dk_at dksX1_refute_1 2 rfl rfl)
theorem dX1_refute_29 : decode cX1_refute 29 = .ok (.iconst 0, 1) := dk_3 (dk_at dksX1_refute_1 5 rfl rfl)
theorem dX1_refute_30 : decode cX1_refute 30 = .ok (.putfield 232, 3) := dk_181 0 232 (dk_at dksX1_refute_1 6 rfl rfl)
theorem dX1_refute_33 : decode cX1_refute 33 = .ok (.iconst 0, 1) := dk_3 (dk_at dksX1_refute_1 9 rfl rfl)
theorem dX1_refute_34 : decode cX1_refute 34 = .ok (.istore 4, 2) := dk_54 4 (dk_at dksX1_refute_1 10 rfl rfl)
theorem dX1_refute_36 : decode cX1_refute 36 = .ok (.iload 4, 2) := dk_21 4 (dk_at dksX1_refute_1 12 rfl rfl)
theorem dX1_refute_38 : decode cX1_refute 38 = .ok (.iload_n 3, 1) := dk_29 (dk_at dksX1_refute_1 14 rfl rfl)
theorem dX1_refute_39 : decode cX1_refute 39 = .ok (.if_icmp .ge 42, 3) := dk_162 0 42 (dk_at dksX1_refute_1 15 rfl rfl)
theorem dX1_refute_42 : decode cX1_refute 42 = .ok (.aload_n 0, 1) := dk_42 (dk_at dksX1_refute_1 18 rfl rfl)
theorem dX1_refute_43 : decode cX1_refute 43 = .ok (.getfield 16, 3) := dk_180 0 16 (dk_at dksX1_refute_1 19 rfl rfl)
theorem dX1_refute_46 : decode cX1_refute 46 = .ok (.aload_n 2, 1) := dk_44 (dk_at dksX1_refute_1 22 rfl rfl)
theorem dX1_refute_47 : decode cX1_refute 47 = .ok (.iload 4, 2) := dk_21 4 (dk_at dksX1_refute_2 0 rfl rfl)
theorem dX1_refute_49 : decode cX1_refute 49 = .ok (.invokeinterface 137 2, 5) := by decide +kernel
theorem dX1_refute_54 : decode cX1_refute 54 = .ok (.checkcast 166, 3) := dk_192 0 166 (dk_at dksX1_refute_2 7 rfl rfl)
theorem dX1_refute_57 : decode cX1_refute 57 = .ok (.arraylength, 1) := dk_190 (dk_at dksX1_refute_2 10 rfl rfl)
theorem dX1_refute_58 : decode cX1_refute 58 = .ok (.ifCond .ne 7, 3) := dk_154 0 7 (dk_at dksX1_refute_2 11 rfl rfl)
theorem dX1_refute_61 : decode cX1_refute 61 = .ok (.iconst 1, 1) := dk_4 (dk_at dksX1_refute_2 14 rfl rfl)
theorem dX1_refute_62 : decode cX1_refute 62 = .ok (.goto 10, 3) := dk_167 0 10 (dk_at dksX1_refute_2 15 rfl rfl)
theorem dX1_refute_65 : decode cX1_refute 65 = .ok (.aload_n 0, 1) := dk_42 (dk_at dksX1_refute_2 18 rfl rfl)
theorem dX1_refute_66 : decode cX1_refute 66 = .ok (.getfield 16, 3) := dk_180 0 16 (dk_at dksX1_refute_2 19 rfl rfl)
theorem dX1_refute_69 : decode cX1_refute 69 = .ok (.getfield 232, 3) := dk_180 0 232 (dk_at dksX1_refute_3 0 rfl rfl)
theorem dX1_refute_72 : decode cX1_refute 72 = .ok (.putfield 232, 3) := dk_181 0 232 (dk_at dksX1_refute_3 3 rfl rfl)
theorem dX1_refute_75 : decode cX1_refute 75 = .ok (.iinc 4 1, 3) := dk_132 4 1 (dk_at dksX1_refute_3 6 rfl rfl)
theorem dX1_refute_78 : decode cX1_refute 78 = .ok (.goto (-42), 3) := dk_167 255 214 (dk_at dksX1_refute_3 9 rfl rfl)
theorem dX1_refute_81 : decode cX1_refute 81 = .ok (.iload_n 3, 1) := dk_29 (dk_at dksX1_refute_3 12 rfl rfl)
theorem dX1_refute_82 : decode cX1_refute 82 = .ok (.istore 4, 2) := dk_54 4 (dk_at dksX1_refute_3 13 rfl rfl)
theorem dX1_refute_84 : decode cX1_refute 84 = .ok (.aload_n 0, 1) := dk_42 (dk_at dksX1_refute_3 15 rfl rfl)
theorem dX1_refute_85 : decode cX1_refute 85 = .ok (.iconst 0, 1) := dk_3 (dk_at dksX1_refute_3 16 rfl rfl)
theorem dX1_refute_86 : decode cX1_refute 86 = .ok (.putfield 127, 3) := dk_181 0 127 (dk_at dksX1_refute_3 17 rfl rfl)
theorem dX1_refute_89 : decode cX1_refute 89 = .ok (.iload 4, 2) := dk_21 4 (dk_at dksX1_refute_3 20 rfl rfl)
theorem dX1_refute_91 : decode cX1_refute 91 = .ok (.ireturn, 1) := dk_172 (dk_at dksX1_refute_3 22 rfl rfl)
theorem dX1_refute_92 : decode cX1_refute 92 = .ok (.astore_n 2, 1) := dk_77 (dk_at dksX1_refute_3 23 rfl rfl)
theorem dX1_refute_93 : decode cX1_refute 93 = .ok (.aload_n 0, 1) := dk_42 (dk_at dksX1_refute_4 0 rfl rfl)
theorem dX1_refute_94 : decode cX1_refute 94 = .ok (.aload_n 2, 1) := dk_44 (dk_at dksX1_refute_4 1 rfl rfl)
theorem dX1_refute_95 : decode cX1_refute 95 = .ok (.getfield 237, 3) := dk_180 0 237 (dk_at dksX1_refute_4 2 rfl rfl)
theorem dX1_refute_98 : decode cX1_refute 98 = .ok (.putfield 229, 3) := dk_181 0 229 (dk_at dksX1_refute_4 5 rfl rfl)
theorem dX1_refute_101 : decode cX1_refute 101 = .ok (.iconst (-1), 1) := dk_2 (dk_at dksX1_refute_4 8 rfl rfl)
theorem dX1_refute_102 : decode cX1_refute 102 = .ok (.istore_n 3, 1) := dk_62 (dk_at dksX1_refute_4 9 rfl rfl)
theorem dX1_refute_103 : decode cX1_refute 103 = .ok (.aload_n 0, 1) := dk_42 (dk_at dksX1_refute_4 10 rfl rfl)
theorem dX1_refute_104 : decode cX1_refute 104 = .ok (.iconst 0, 1) := dk_3 (dk_at dksX1_refute_4 11 rfl rfl)
theorem dX1_refute_105 : decode cX1_refute 105 = .ok (.putfield 127, 3) := dk_181 0 127 (dk_at dksX1_refute_4 12 rfl rfl)
theorem dX1_refute_108 : decode cX1_refute 108 = .ok (.iload_n 3, 1) := dk_29 (dk_at dksX1_refute_4 15 rfl rfl)
theorem dX1_refute_109 : decode cX1_refute 109 = .ok (.ireturn, 1) := dk_172 (dk_at dksX1_refute_4 16 rfl rfl)
theorem dX1_refute_110 : decode cX1_refute 110 = .ok (.astore 5, 2) := dk_58 5 (dk_at dksX1_refute_4 17 rfl rfl)
theorem dX1_refute_112 : decode cX1_refute 112 = .ok (.aload_n 0, 1) := dk_42 (dk_at dksX1_refute_4 19 rfl rfl)
theorem dX1_refute_113 : decode cX1_refute 113 = .ok (.iconst 0, 1) := dk_3 (dk_at dksX1_refute_4 20 rfl rfl)
theorem dX1_refute_114 : decode cX1_refute 114 = .ok (.putfield 127, 3) := dk_181 0 127 (dk_at dksX1_refute_4 21 rfl rfl)
theorem dX1_refute_117 : decode cX1_refute 117 = .ok (.aload 5, 2) := dk_25 5 (dk_at dksX1_refute_5 0 rfl rfl)
theorem dX1_refute_119 : decode cX1_refute 119 = .ok (.athrow, 1) := dk_191 (dk_at dksX1_refute_5 2 rfl rfl)
abbrev cX1_closed : ByteArray := prog_1_method_31_code
def yX1_closed : MethodName := ⟨RX1, "closed", "()I"⟩
def dkwX1_closed_0 : List UInt8 := [42, 180, 0, 16, 180, 0, 232, 172]
abbrev dktX1_closed_0 : List UInt8 := dkwX1_closed_0 ++ []
theorem dksX1_closed_0 : cX1_closed.data.toList.drop 0 = dktX1_closed_0 := by decide +kernel
theorem dX1_closed_0 : decode cX1_closed 0 = .ok (.aload_n 0, 1) := dk_42 (dk_at dksX1_closed_0 0 rfl rfl)
theorem dX1_closed_1 : decode cX1_closed 1 = .ok (.getfield 16, 3) := dk_180 0 16 (dk_at dksX1_closed_0 1 rfl rfl)
theorem dX1_closed_4 : decode cX1_closed 4 = .ok (.getfield 232, 3) := dk_180 0 232 (dk_at dksX1_closed_0 4 rfl rfl)
theorem dX1_closed_7 : decode cX1_closed 7 = .ok (.ireturn, 1) := dk_172 (dk_at dksX1_closed_0 7 rfl rfl)
abbrev cX1_models : ByteArray := prog_1_method_34_code
def yX1_models : MethodName := ⟨RX1, "models", "()I"⟩
def dkwX1_models_1 : List UInt8 := [186, 0, 246, 0, 0, 182, 0, 249, 43, 3, 46, 172]
abbrev dktX1_models_1 : List UInt8 := dkwX1_models_1 ++ []
def dkwX1_models_0 : List UInt8 := [42, 180, 0, 16, 180, 0, 109, 16, 12, 164, 0, 5, 2, 172, 4, 188, 10, 76, 42, 43]
abbrev dktX1_models_0 : List UInt8 := dkwX1_models_0 ++ dktX1_models_1
theorem dksX1_models_0 : cX1_models.data.toList.drop 0 = dktX1_models_0 := by decide +kernel
theorem dksX1_models_1 : cX1_models.data.toList.drop 20 = dktX1_models_1 := dk_seg dksX1_models_0 20 rfl rfl
theorem dX1_models_0 : decode cX1_models 0 = .ok (.aload_n 0, 1) := dk_42 (dk_at dksX1_models_0 0 rfl rfl)
theorem dX1_models_1 : decode cX1_models 1 = .ok (.getfield 16, 3) := dk_180 0 16 (dk_at dksX1_models_0 1 rfl rfl)
theorem dX1_models_4 : decode cX1_models 4 = .ok (.getfield 109, 3) := dk_180 0 109 (dk_at dksX1_models_0 4 rfl rfl)
theorem dX1_models_7 : decode cX1_models 7 = .ok (.bipush 12, 2) := dk_16 12 (dk_at dksX1_models_0 7 rfl rfl)
theorem dX1_models_9 : decode cX1_models 9 = .ok (.if_icmp .le 5, 3) := dk_164 0 5 (dk_at dksX1_models_0 9 rfl rfl)
theorem dX1_models_12 : decode cX1_models 12 = .ok (.iconst (-1), 1) := dk_2 (dk_at dksX1_models_0 12 rfl rfl)
theorem dX1_models_13 : decode cX1_models 13 = .ok (.ireturn, 1) := dk_172 (dk_at dksX1_models_0 13 rfl rfl)
theorem dX1_models_14 : decode cX1_models 14 = .ok (.iconst 1, 1) := dk_4 (dk_at dksX1_models_0 14 rfl rfl)
theorem dX1_models_15 : decode cX1_models 15 = .ok (.newarray .int, 2) := dk_188_10 (dk_at dksX1_models_0 15 rfl rfl)
theorem dX1_models_17 : decode cX1_models 17 = .ok (.astore_n 1, 1) := dk_76 (dk_at dksX1_models_0 17 rfl rfl)
theorem dX1_models_18 : decode cX1_models 18 = .ok (.aload_n 0, 1) := dk_42 (dk_at dksX1_models_0 18 rfl rfl)
theorem dX1_models_19 : decode cX1_models 19 = .ok (.aload_n 1, 1) := dk_43 (dk_at dksX1_models_0 19 rfl rfl)
theorem dX1_models_20 : decode cX1_models 20 = .ok (.invokedynamic 246, 5) := by decide +kernel
theorem dX1_models_25 : decode cX1_models 25 = .ok (.invokevirtual 249, 3) := dk_182 0 249 (dk_at dksX1_models_1 5 rfl rfl)
theorem dX1_models_28 : decode cX1_models 28 = .ok (.aload_n 1, 1) := dk_43 (dk_at dksX1_models_1 8 rfl rfl)
theorem dX1_models_29 : decode cX1_models 29 = .ok (.iconst 0, 1) := dk_3 (dk_at dksX1_models_1 9 rfl rfl)
theorem dX1_models_30 : decode cX1_models 30 = .ok (.iaload, 1) := dk_46 (dk_at dksX1_models_1 10 rfl rfl)
theorem dX1_models_31 : decode cX1_models 31 = .ok (.ireturn, 1) := dk_172 (dk_at dksX1_models_1 11 rfl rfl)
abbrev cX1_lambda_models_3 : ByteArray := prog_1_method_42_code
def yX1_lambda_models_3 : MethodName := ⟨RX1, "lambda$models$3", "([II)V"⟩
def dkwX1_lambda_models_3_0 : List UInt8 := [42, 3, 92, 46, 4, 96, 79, 177]
abbrev dktX1_lambda_models_3_0 : List UInt8 := dkwX1_lambda_models_3_0 ++ []
theorem dksX1_lambda_models_3_0 : cX1_lambda_models_3.data.toList.drop 0 = dktX1_lambda_models_3_0 := by decide +kernel
theorem dX1_lambda_models_3_0 : decode cX1_lambda_models_3 0 = .ok (.aload_n 0, 1) := dk_42 (dk_at dksX1_lambda_models_3_0 0 rfl rfl)
theorem dX1_lambda_models_3_1 : decode cX1_lambda_models_3 1 = .ok (.iconst 0, 1) := dk_3 (dk_at dksX1_lambda_models_3_0 1 rfl rfl)
theorem dX1_lambda_models_3_2 : decode cX1_lambda_models_3 2 = .ok (.dup2, 1) := dk_92 (dk_at dksX1_lambda_models_3_0 2 rfl rfl)
theorem dX1_lambda_models_3_3 : decode cX1_lambda_models_3 3 = .ok (.iaload, 1) := dk_46 (dk_at dksX1_lambda_models_3_0 3 rfl rfl)
theorem dX1_lambda_models_3_4 : decode cX1_lambda_models_3 4 = .ok (.iconst 1, 1) := dk_4 (dk_at dksX1_lambda_models_3_0 4 rfl rfl)
theorem dX1_lambda_models_3_5 : decode cX1_lambda_models_3 5 = .ok (.iadd, 1) := dk_96 (dk_at dksX1_lambda_models_3_0 5 rfl rfl)
theorem dX1_lambda_models_3_6 : decode cX1_lambda_models_3 6 = .ok (.iastore, 1) := dk_79 (dk_at dksX1_lambda_models_3_0 6 rfl rfl)
theorem dX1_lambda_models_3_7 : decode cX1_lambda_models_3 7 = .ok (.return_, 1) := dk_177 (dk_at dksX1_lambda_models_3_0 7 rfl rfl)
abbrev cX1_models_2 : ByteArray := prog_1_method_33_code
def yX1_models_2 : MethodName := ⟨RX1, "models", "(LLearntReasons$Model;)V"⟩
def dkwX1_models_2_2 : List UInt8 := [185, 0, 241, 2, 0, 45, 3, 92, 46, 4, 96, 79, 167, 255, 216, 177]
abbrev dktX1_models_2_2 : List UInt8 := dkwX1_models_2_2 ++ []
def dkwX1_models_2_1 : List UInt8 := [180, 0, 16, 180, 0, 109, 120, 162, 0, 31, 44, 25, 4, 184, 0, 184, 154, 0, 12, 43, 45, 3, 46]
abbrev dktX1_models_2_1 : List UInt8 := dkwX1_models_2_1 ++ dktX1_models_2_2
def dkwX1_models_2_0 : List UInt8 := [42, 4, 182, 0, 192, 77, 4, 188, 10, 78, 45, 186, 0, 238, 0, 0, 58, 4, 45, 3, 46, 4, 42]
abbrev dktX1_models_2_0 : List UInt8 := dkwX1_models_2_0 ++ dktX1_models_2_1
theorem dksX1_models_2_0 : cX1_models_2.data.toList.drop 0 = dktX1_models_2_0 := by decide +kernel
theorem dksX1_models_2_1 : cX1_models_2.data.toList.drop 23 = dktX1_models_2_1 := dk_seg dksX1_models_2_0 23 rfl rfl
theorem dksX1_models_2_2 : cX1_models_2.data.toList.drop 46 = dktX1_models_2_2 := dk_seg dksX1_models_2_1 23 rfl rfl
theorem dX1_models_2_0 : decode cX1_models_2 0 = .ok (.aload_n 0, 1) := dk_42 (dk_at dksX1_models_2_0 0 rfl rfl)
theorem dX1_models_2_1 : decode cX1_models_2 1 = .ok (.iconst 1, 1) := dk_4 (dk_at dksX1_models_2_0 1 rfl rfl)
theorem dX1_models_2_2 : decode cX1_models_2 2 = .ok (.invokevirtual 192, 3) := dk_182 0 192 (dk_at dksX1_models_2_0 2 rfl rfl)
theorem dX1_models_2_5 : decode cX1_models_2 5 = .ok (.astore_n 2, 1) := dk_77 (dk_at dksX1_models_2_0 5 rfl rfl)
theorem dX1_models_2_6 : decode cX1_models_2 6 = .ok (.iconst 1, 1) := dk_4 (dk_at dksX1_models_2_0 6 rfl rfl)
theorem dX1_models_2_7 : decode cX1_models_2 7 = .ok (.newarray .int, 2) := dk_188_10 (dk_at dksX1_models_2_0 7 rfl rfl)
theorem dX1_models_2_9 : decode cX1_models_2 9 = .ok (.astore_n 3, 1) := dk_78 (dk_at dksX1_models_2_0 9 rfl rfl)
theorem dX1_models_2_10 : decode cX1_models_2 10 = .ok (.aload_n 3, 1) := dk_45 (dk_at dksX1_models_2_0 10 rfl rfl)
theorem dX1_models_2_11 : decode cX1_models_2 11 = .ok (.invokedynamic 238, 5) := by decide +kernel
theorem dX1_models_2_16 : decode cX1_models_2 16 = .ok (.astore 4, 2) := dk_58 4 (dk_at dksX1_models_2_0 16 rfl rfl)
theorem dX1_models_2_18 : decode cX1_models_2 18 = .ok (.aload_n 3, 1) := dk_45 (dk_at dksX1_models_2_0 18 rfl rfl)
theorem dX1_models_2_19 : decode cX1_models_2 19 = .ok (.iconst 0, 1) := dk_3 (dk_at dksX1_models_2_0 19 rfl rfl)
theorem dX1_models_2_20 : decode cX1_models_2 20 = .ok (.iaload, 1) := dk_46 (dk_at dksX1_models_2_0 20 rfl rfl)
theorem dX1_models_2_21 : decode cX1_models_2 21 = .ok (.iconst 1, 1) := dk_4 (dk_at dksX1_models_2_0 21 rfl rfl)
theorem dX1_models_2_22 : decode cX1_models_2 22 = .ok (.aload_n 0, 1) := dk_42 (dk_at dksX1_models_2_0 22 rfl rfl)
theorem dX1_models_2_23 : decode cX1_models_2 23 = .ok (.getfield 16, 3) := dk_180 0 16 (dk_at dksX1_models_2_1 0 rfl rfl)
theorem dX1_models_2_26 : decode cX1_models_2 26 = .ok (.getfield 109, 3) := dk_180 0 109 (dk_at dksX1_models_2_1 3 rfl rfl)
theorem dX1_models_2_29 : decode cX1_models_2 29 = .ok (.ishl, 1) := dk_120 (dk_at dksX1_models_2_1 6 rfl rfl)
theorem dX1_models_2_30 : decode cX1_models_2 30 = .ok (.if_icmp .ge 31, 3) := dk_162 0 31 (dk_at dksX1_models_2_1 7 rfl rfl)
theorem dX1_models_2_33 : decode cX1_models_2 33 = .ok (.aload_n 2, 1) := dk_44 (dk_at dksX1_models_2_1 10 rfl rfl)
theorem dX1_models_2_34 : decode cX1_models_2 34 = .ok (.aload 4, 2) := dk_25 4 (dk_at dksX1_models_2_1 11 rfl rfl)
theorem dX1_models_2_36 : decode cX1_models_2 36 = .ok (.invokestatic 184, 3) := dk_184 0 184 (dk_at dksX1_models_2_1 13 rfl rfl)
theorem dX1_models_2_39 : decode cX1_models_2 39 = .ok (.ifCond .ne 12, 3) := dk_154 0 12 (dk_at dksX1_models_2_1 16 rfl rfl)
theorem dX1_models_2_42 : decode cX1_models_2 42 = .ok (.aload_n 1, 1) := dk_43 (dk_at dksX1_models_2_1 19 rfl rfl)
theorem dX1_models_2_43 : decode cX1_models_2 43 = .ok (.aload_n 3, 1) := dk_45 (dk_at dksX1_models_2_1 20 rfl rfl)
theorem dX1_models_2_44 : decode cX1_models_2 44 = .ok (.iconst 0, 1) := dk_3 (dk_at dksX1_models_2_1 21 rfl rfl)
theorem dX1_models_2_45 : decode cX1_models_2 45 = .ok (.iaload, 1) := dk_46 (dk_at dksX1_models_2_1 22 rfl rfl)
theorem dX1_models_2_46 : decode cX1_models_2 46 = .ok (.invokeinterface 241 2, 5) := by decide +kernel
theorem dX1_models_2_51 : decode cX1_models_2 51 = .ok (.aload_n 3, 1) := dk_45 (dk_at dksX1_models_2_2 5 rfl rfl)
theorem dX1_models_2_52 : decode cX1_models_2 52 = .ok (.iconst 0, 1) := dk_3 (dk_at dksX1_models_2_2 6 rfl rfl)
theorem dX1_models_2_53 : decode cX1_models_2 53 = .ok (.dup2, 1) := dk_92 (dk_at dksX1_models_2_2 7 rfl rfl)
theorem dX1_models_2_54 : decode cX1_models_2 54 = .ok (.iaload, 1) := dk_46 (dk_at dksX1_models_2_2 8 rfl rfl)
theorem dX1_models_2_55 : decode cX1_models_2 55 = .ok (.iconst 1, 1) := dk_4 (dk_at dksX1_models_2_2 9 rfl rfl)
theorem dX1_models_2_56 : decode cX1_models_2 56 = .ok (.iadd, 1) := dk_96 (dk_at dksX1_models_2_2 10 rfl rfl)
theorem dX1_models_2_57 : decode cX1_models_2 57 = .ok (.iastore, 1) := dk_79 (dk_at dksX1_models_2_2 11 rfl rfl)
theorem dX1_models_2_58 : decode cX1_models_2 58 = .ok (.goto (-40), 3) := dk_167 255 216 (dk_at dksX1_models_2_2 12 rfl rfl)
theorem dX1_models_2_61 : decode cX1_models_2 61 = .ok (.return_, 1) := dk_177 (dk_at dksX1_models_2_2 15 rfl rfl)
abbrev cX1_lambda_models_2 : ByteArray := prog_1_method_43_code
def yX1_lambda_models_2 : MethodName := ⟨RX1, "lambda$models$2", "([I[I)Z"⟩
def dkwX1_lambda_models_2_0 : List UInt8 := [42, 3, 46, 43, 184, 1, 10, 172]
abbrev dktX1_lambda_models_2_0 : List UInt8 := dkwX1_lambda_models_2_0 ++ []
theorem dksX1_lambda_models_2_0 : cX1_lambda_models_2.data.toList.drop 0 = dktX1_lambda_models_2_0 := by decide +kernel
theorem dX1_lambda_models_2_0 : decode cX1_lambda_models_2 0 = .ok (.aload_n 0, 1) := dk_42 (dk_at dksX1_lambda_models_2_0 0 rfl rfl)
theorem dX1_lambda_models_2_1 : decode cX1_lambda_models_2 1 = .ok (.iconst 0, 1) := dk_3 (dk_at dksX1_lambda_models_2_0 1 rfl rfl)
theorem dX1_lambda_models_2_2 : decode cX1_lambda_models_2 2 = .ok (.iaload, 1) := dk_46 (dk_at dksX1_lambda_models_2_0 2 rfl rfl)
theorem dX1_lambda_models_2_3 : decode cX1_lambda_models_2 3 = .ok (.aload_n 1, 1) := dk_43 (dk_at dksX1_lambda_models_2_0 3 rfl rfl)
theorem dX1_lambda_models_2_4 : decode cX1_lambda_models_2 4 = .ok (.invokestatic 266, 3) := dk_184 1 10 (dk_at dksX1_lambda_models_2_0 4 rfl rfl)
theorem dX1_lambda_models_2_7 : decode cX1_lambda_models_2 7 = .ok (.ireturn, 1) := dk_172 (dk_at dksX1_lambda_models_2_0 7 rfl rfl)
abbrev cX1_isMissed : ByteArray := prog_1_method_32_code
def yX1_isMissed : MethodName := ⟨RX1, "isMissed", "(I[I)Z"⟩
def dkwX1_isMissed_2 : List UInt8 := [132, 4, 1, 167, 255, 215, 4, 172]
abbrev dktX1_isMissed_2 : List UInt8 := dkwX1_isMissed_2 ++ []
def dkwX1_isMissed_1 : List UInt8 := [184, 0, 55, 4, 100, 122, 4, 126, 21, 5, 158, 0, 7, 4, 167, 0, 4, 3, 160, 0, 5, 3, 172]
abbrev dktX1_isMissed_1 : List UInt8 := dkwX1_isMissed_1 ++ dktX1_isMissed_2
def dkwX1_isMissed_0 : List UInt8 := [43, 77, 44, 190, 62, 3, 54, 4, 21, 4, 29, 162, 0, 41, 44, 21, 4, 46, 54, 5, 26, 21, 5]
abbrev dktX1_isMissed_0 : List UInt8 := dkwX1_isMissed_0 ++ dktX1_isMissed_1
theorem dksX1_isMissed_0 : cX1_isMissed.data.toList.drop 0 = dktX1_isMissed_0 := by decide +kernel
theorem dksX1_isMissed_1 : cX1_isMissed.data.toList.drop 23 = dktX1_isMissed_1 := dk_seg dksX1_isMissed_0 23 rfl rfl
theorem dksX1_isMissed_2 : cX1_isMissed.data.toList.drop 46 = dktX1_isMissed_2 := dk_seg dksX1_isMissed_1 23 rfl rfl
theorem dX1_isMissed_0 : decode cX1_isMissed 0 = .ok (.aload_n 1, 1) := dk_43 (dk_at dksX1_isMissed_0 0 rfl rfl)
theorem dX1_isMissed_1 : decode cX1_isMissed 1 = .ok (.astore_n 2, 1) := dk_77 (dk_at dksX1_isMissed_0 1 rfl rfl)
theorem dX1_isMissed_2 : decode cX1_isMissed 2 = .ok (.aload_n 2, 1) := dk_44 (dk_at dksX1_isMissed_0 2 rfl rfl)
theorem dX1_isMissed_3 : decode cX1_isMissed 3 = .ok (.arraylength, 1) := dk_190 (dk_at dksX1_isMissed_0 3 rfl rfl)
theorem dX1_isMissed_4 : decode cX1_isMissed 4 = .ok (.istore_n 3, 1) := dk_62 (dk_at dksX1_isMissed_0 4 rfl rfl)
theorem dX1_isMissed_5 : decode cX1_isMissed 5 = .ok (.iconst 0, 1) := dk_3 (dk_at dksX1_isMissed_0 5 rfl rfl)
theorem dX1_isMissed_6 : decode cX1_isMissed 6 = .ok (.istore 4, 2) := dk_54 4 (dk_at dksX1_isMissed_0 6 rfl rfl)
theorem dX1_isMissed_8 : decode cX1_isMissed 8 = .ok (.iload 4, 2) := dk_21 4 (dk_at dksX1_isMissed_0 8 rfl rfl)
theorem dX1_isMissed_10 : decode cX1_isMissed 10 = .ok (.iload_n 3, 1) := dk_29 (dk_at dksX1_isMissed_0 10 rfl rfl)
theorem dX1_isMissed_11 : decode cX1_isMissed 11 = .ok (.if_icmp .ge 41, 3) := dk_162 0 41 (dk_at dksX1_isMissed_0 11 rfl rfl)
theorem dX1_isMissed_14 : decode cX1_isMissed 14 = .ok (.aload_n 2, 1) := dk_44 (dk_at dksX1_isMissed_0 14 rfl rfl)
theorem dX1_isMissed_15 : decode cX1_isMissed 15 = .ok (.iload 4, 2) := dk_21 4 (dk_at dksX1_isMissed_0 15 rfl rfl)
theorem dX1_isMissed_17 : decode cX1_isMissed 17 = .ok (.iaload, 1) := dk_46 (dk_at dksX1_isMissed_0 17 rfl rfl)
theorem dX1_isMissed_18 : decode cX1_isMissed 18 = .ok (.istore 5, 2) := dk_54 5 (dk_at dksX1_isMissed_0 18 rfl rfl)
theorem dX1_isMissed_20 : decode cX1_isMissed 20 = .ok (.iload_n 0, 1) := dk_26 (dk_at dksX1_isMissed_0 20 rfl rfl)
theorem dX1_isMissed_21 : decode cX1_isMissed 21 = .ok (.iload 5, 2) := dk_21 5 (dk_at dksX1_isMissed_0 21 rfl rfl)
theorem dX1_isMissed_23 : decode cX1_isMissed 23 = .ok (.invokestatic 55, 3) := dk_184 0 55 (dk_at dksX1_isMissed_1 0 rfl rfl)
theorem dX1_isMissed_26 : decode cX1_isMissed 26 = .ok (.iconst 1, 1) := dk_4 (dk_at dksX1_isMissed_1 3 rfl rfl)
theorem dX1_isMissed_27 : decode cX1_isMissed 27 = .ok (.isub, 1) := dk_100 (dk_at dksX1_isMissed_1 4 rfl rfl)
theorem dX1_isMissed_28 : decode cX1_isMissed 28 = .ok (.ishr, 1) := dk_122 (dk_at dksX1_isMissed_1 5 rfl rfl)
theorem dX1_isMissed_29 : decode cX1_isMissed 29 = .ok (.iconst 1, 1) := dk_4 (dk_at dksX1_isMissed_1 6 rfl rfl)
theorem dX1_isMissed_30 : decode cX1_isMissed 30 = .ok (.iand, 1) := dk_126 (dk_at dksX1_isMissed_1 7 rfl rfl)
theorem dX1_isMissed_31 : decode cX1_isMissed 31 = .ok (.iload 5, 2) := dk_21 5 (dk_at dksX1_isMissed_1 8 rfl rfl)
theorem dX1_isMissed_33 : decode cX1_isMissed 33 = .ok (.ifCond .le 7, 3) := dk_158 0 7 (dk_at dksX1_isMissed_1 10 rfl rfl)
theorem dX1_isMissed_36 : decode cX1_isMissed 36 = .ok (.iconst 1, 1) := dk_4 (dk_at dksX1_isMissed_1 13 rfl rfl)
theorem dX1_isMissed_37 : decode cX1_isMissed 37 = .ok (.goto 4, 3) := dk_167 0 4 (dk_at dksX1_isMissed_1 14 rfl rfl)
theorem dX1_isMissed_40 : decode cX1_isMissed 40 = .ok (.iconst 0, 1) := dk_3 (dk_at dksX1_isMissed_1 17 rfl rfl)
theorem dX1_isMissed_41 : decode cX1_isMissed 41 = .ok (.if_icmp .ne 5, 3) := dk_160 0 5 (dk_at dksX1_isMissed_1 18 rfl rfl)
theorem dX1_isMissed_44 : decode cX1_isMissed 44 = .ok (.iconst 0, 1) := dk_3 (dk_at dksX1_isMissed_1 21 rfl rfl)
theorem dX1_isMissed_45 : decode cX1_isMissed 45 = .ok (.ireturn, 1) := dk_172 (dk_at dksX1_isMissed_1 22 rfl rfl)
theorem dX1_isMissed_46 : decode cX1_isMissed 46 = .ok (.iinc 4 1, 3) := dk_132 4 1 (dk_at dksX1_isMissed_2 0 rfl rfl)
theorem dX1_isMissed_49 : decode cX1_isMissed 49 = .ok (.goto (-41), 3) := dk_167 255 215 (dk_at dksX1_isMissed_2 3 rfl rfl)
theorem dX1_isMissed_52 : decode cX1_isMissed 52 = .ok (.iconst 1, 1) := dk_4 (dk_at dksX1_isMissed_2 6 rfl rfl)
theorem dX1_isMissed_53 : decode cX1_isMissed 53 = .ok (.ireturn, 1) := dk_172 (dk_at dksX1_isMissed_2 7 rfl rfl)
abbrev cX1_fixed : ByteArray := prog_1_method_35_code
def yX1_fixed : MethodName := ⟨RX1, "fixed", "(Z)I"⟩
def dkwX1_fixed_2 : List UInt8 := [182, 0, 249, 45, 4, 46, 154, 0, 7, 2, 167, 0, 6, 45, 3, 46, 172]
abbrev dktX1_fixed_2 : List UInt8 := dkwX1_fixed_2 ++ []
def dkwX1_fixed_1 : List UInt8 := [100, 61, 5, 188, 10, 89, 3, 28, 79, 89, 4, 3, 79, 78, 42, 45, 27, 28, 186, 0, 253, 0, 0]
abbrev dktX1_fixed_1 : List UInt8 := dkwX1_fixed_1 ++ dktX1_fixed_2
def dkwX1_fixed_0 : List UInt8 := [42, 180, 0, 16, 180, 0, 109, 16, 12, 164, 0, 5, 2, 172, 4, 42, 180, 0, 16, 180, 0, 109, 120, 4]
abbrev dktX1_fixed_0 : List UInt8 := dkwX1_fixed_0 ++ dktX1_fixed_1
theorem dksX1_fixed_0 : cX1_fixed.data.toList.drop 0 = dktX1_fixed_0 := by decide +kernel
theorem dksX1_fixed_1 : cX1_fixed.data.toList.drop 24 = dktX1_fixed_1 := dk_seg dksX1_fixed_0 24 rfl rfl
theorem dksX1_fixed_2 : cX1_fixed.data.toList.drop 47 = dktX1_fixed_2 := dk_seg dksX1_fixed_1 23 rfl rfl
theorem dX1_fixed_0 : decode cX1_fixed 0 = .ok (.aload_n 0, 1) := dk_42 (dk_at dksX1_fixed_0 0 rfl rfl)
theorem dX1_fixed_1 : decode cX1_fixed 1 = .ok (.getfield 16, 3) := dk_180 0 16 (dk_at dksX1_fixed_0 1 rfl rfl)
theorem dX1_fixed_4 : decode cX1_fixed 4 = .ok (.getfield 109, 3) := dk_180 0 109 (dk_at dksX1_fixed_0 4 rfl rfl)
theorem dX1_fixed_7 : decode cX1_fixed 7 = .ok (.bipush 12, 2) := dk_16 12 (dk_at dksX1_fixed_0 7 rfl rfl)
theorem dX1_fixed_9 : decode cX1_fixed 9 = .ok (.if_icmp .le 5, 3) := dk_164 0 5 (dk_at dksX1_fixed_0 9 rfl rfl)
theorem dX1_fixed_12 : decode cX1_fixed 12 = .ok (.iconst (-1), 1) := dk_2 (dk_at dksX1_fixed_0 12 rfl rfl)
theorem dX1_fixed_13 : decode cX1_fixed 13 = .ok (.ireturn, 1) := dk_172 (dk_at dksX1_fixed_0 13 rfl rfl)
theorem dX1_fixed_14 : decode cX1_fixed 14 = .ok (.iconst 1, 1) := dk_4 (dk_at dksX1_fixed_0 14 rfl rfl)
theorem dX1_fixed_15 : decode cX1_fixed 15 = .ok (.aload_n 0, 1) := dk_42 (dk_at dksX1_fixed_0 15 rfl rfl)
theorem dX1_fixed_16 : decode cX1_fixed 16 = .ok (.getfield 16, 3) := dk_180 0 16 (dk_at dksX1_fixed_0 16 rfl rfl)
theorem dX1_fixed_19 : decode cX1_fixed 19 = .ok (.getfield 109, 3) := dk_180 0 109 (dk_at dksX1_fixed_0 19 rfl rfl)
theorem dX1_fixed_22 : decode cX1_fixed 22 = .ok (.ishl, 1) := dk_120 (dk_at dksX1_fixed_0 22 rfl rfl)
theorem dX1_fixed_23 : decode cX1_fixed 23 = .ok (.iconst 1, 1) := dk_4 (dk_at dksX1_fixed_0 23 rfl rfl)
theorem dX1_fixed_24 : decode cX1_fixed 24 = .ok (.isub, 1) := dk_100 (dk_at dksX1_fixed_1 0 rfl rfl)
theorem dX1_fixed_25 : decode cX1_fixed 25 = .ok (.istore_n 2, 1) := dk_61 (dk_at dksX1_fixed_1 1 rfl rfl)
theorem dX1_fixed_26 : decode cX1_fixed 26 = .ok (.iconst 2, 1) := dk_5 (dk_at dksX1_fixed_1 2 rfl rfl)
theorem dX1_fixed_27 : decode cX1_fixed 27 = .ok (.newarray .int, 2) := dk_188_10 (dk_at dksX1_fixed_1 3 rfl rfl)
theorem dX1_fixed_29 : decode cX1_fixed 29 = .ok (.dup, 1) := dk_89 (dk_at dksX1_fixed_1 5 rfl rfl)
theorem dX1_fixed_30 : decode cX1_fixed 30 = .ok (.iconst 0, 1) := dk_3 (dk_at dksX1_fixed_1 6 rfl rfl)
theorem dX1_fixed_31 : decode cX1_fixed 31 = .ok (.iload_n 2, 1) := dk_28 (dk_at dksX1_fixed_1 7 rfl rfl)
theorem dX1_fixed_32 : decode cX1_fixed 32 = .ok (.iastore, 1) := dk_79 (dk_at dksX1_fixed_1 8 rfl rfl)
theorem dX1_fixed_33 : decode cX1_fixed 33 = .ok (.dup, 1) := dk_89 (dk_at dksX1_fixed_1 9 rfl rfl)
theorem dX1_fixed_34 : decode cX1_fixed 34 = .ok (.iconst 1, 1) := dk_4 (dk_at dksX1_fixed_1 10 rfl rfl)
theorem dX1_fixed_35 : decode cX1_fixed 35 = .ok (.iconst 0, 1) := dk_3 (dk_at dksX1_fixed_1 11 rfl rfl)
theorem dX1_fixed_36 : decode cX1_fixed 36 = .ok (.iastore, 1) := dk_79 (dk_at dksX1_fixed_1 12 rfl rfl)
theorem dX1_fixed_37 : decode cX1_fixed 37 = .ok (.astore_n 3, 1) := dk_78 (dk_at dksX1_fixed_1 13 rfl rfl)
theorem dX1_fixed_38 : decode cX1_fixed 38 = .ok (.aload_n 0, 1) := dk_42 (dk_at dksX1_fixed_1 14 rfl rfl)
theorem dX1_fixed_39 : decode cX1_fixed 39 = .ok (.aload_n 3, 1) := dk_45 (dk_at dksX1_fixed_1 15 rfl rfl)
theorem dX1_fixed_40 : decode cX1_fixed 40 = .ok (.iload_n 1, 1) := dk_27 (dk_at dksX1_fixed_1 16 rfl rfl)
theorem dX1_fixed_41 : decode cX1_fixed 41 = .ok (.iload_n 2, 1) := dk_28 (dk_at dksX1_fixed_1 17 rfl rfl)
theorem dX1_fixed_42 : decode cX1_fixed 42 = .ok (.invokedynamic 253, 5) := by decide +kernel
theorem dX1_fixed_47 : decode cX1_fixed 47 = .ok (.invokevirtual 249, 3) := dk_182 0 249 (dk_at dksX1_fixed_2 0 rfl rfl)
theorem dX1_fixed_50 : decode cX1_fixed 50 = .ok (.aload_n 3, 1) := dk_45 (dk_at dksX1_fixed_2 3 rfl rfl)
theorem dX1_fixed_51 : decode cX1_fixed 51 = .ok (.iconst 1, 1) := dk_4 (dk_at dksX1_fixed_2 4 rfl rfl)
theorem dX1_fixed_52 : decode cX1_fixed 52 = .ok (.iaload, 1) := dk_46 (dk_at dksX1_fixed_2 5 rfl rfl)
theorem dX1_fixed_53 : decode cX1_fixed 53 = .ok (.ifCond .ne 7, 3) := dk_154 0 7 (dk_at dksX1_fixed_2 6 rfl rfl)
theorem dX1_fixed_56 : decode cX1_fixed 56 = .ok (.iconst (-1), 1) := dk_2 (dk_at dksX1_fixed_2 9 rfl rfl)
theorem dX1_fixed_57 : decode cX1_fixed 57 = .ok (.goto 6, 3) := dk_167 0 6 (dk_at dksX1_fixed_2 10 rfl rfl)
theorem dX1_fixed_60 : decode cX1_fixed 60 = .ok (.aload_n 3, 1) := dk_45 (dk_at dksX1_fixed_2 13 rfl rfl)
theorem dX1_fixed_61 : decode cX1_fixed 61 = .ok (.iconst 0, 1) := dk_3 (dk_at dksX1_fixed_2 14 rfl rfl)
theorem dX1_fixed_62 : decode cX1_fixed 62 = .ok (.iaload, 1) := dk_46 (dk_at dksX1_fixed_2 15 rfl rfl)
theorem dX1_fixed_63 : decode cX1_fixed 63 = .ok (.ireturn, 1) := dk_172 (dk_at dksX1_fixed_2 16 rfl rfl)
abbrev cX1_lambda_fixed_4 : ByteArray := prog_1_method_41_code
def yX1_lambda_fixed_4 : MethodName := ⟨RX1, "lambda$fixed$4", "([IZII)V"⟩
def dkwX1_lambda_fixed_4_1 : List UInt8 := [96, 79, 177]
abbrev dktX1_lambda_fixed_4_1 : List UInt8 := dkwX1_lambda_fixed_4_1 ++ []
def dkwX1_lambda_fixed_4_0 : List UInt8 := [42, 3, 92, 46, 27, 153, 0, 7, 29, 167, 0, 8, 28, 29, 2, 130, 126, 126, 79, 42, 4, 92, 46, 4]
abbrev dktX1_lambda_fixed_4_0 : List UInt8 := dkwX1_lambda_fixed_4_0 ++ dktX1_lambda_fixed_4_1
theorem dksX1_lambda_fixed_4_0 : cX1_lambda_fixed_4.data.toList.drop 0 = dktX1_lambda_fixed_4_0 := by decide +kernel
theorem dksX1_lambda_fixed_4_1 : cX1_lambda_fixed_4.data.toList.drop 24 = dktX1_lambda_fixed_4_1 := dk_seg dksX1_lambda_fixed_4_0 24 rfl rfl
theorem dX1_lambda_fixed_4_0 : decode cX1_lambda_fixed_4 0 = .ok (.aload_n 0, 1) := dk_42 (dk_at dksX1_lambda_fixed_4_0 0 rfl rfl)
theorem dX1_lambda_fixed_4_1 : decode cX1_lambda_fixed_4 1 = .ok (.iconst 0, 1) := dk_3 (dk_at dksX1_lambda_fixed_4_0 1 rfl rfl)
theorem dX1_lambda_fixed_4_2 : decode cX1_lambda_fixed_4 2 = .ok (.dup2, 1) := dk_92 (dk_at dksX1_lambda_fixed_4_0 2 rfl rfl)
theorem dX1_lambda_fixed_4_3 : decode cX1_lambda_fixed_4 3 = .ok (.iaload, 1) := dk_46 (dk_at dksX1_lambda_fixed_4_0 3 rfl rfl)
theorem dX1_lambda_fixed_4_4 : decode cX1_lambda_fixed_4 4 = .ok (.iload_n 1, 1) := dk_27 (dk_at dksX1_lambda_fixed_4_0 4 rfl rfl)
theorem dX1_lambda_fixed_4_5 : decode cX1_lambda_fixed_4 5 = .ok (.ifCond .eq 7, 3) := dk_153 0 7 (dk_at dksX1_lambda_fixed_4_0 5 rfl rfl)
theorem dX1_lambda_fixed_4_8 : decode cX1_lambda_fixed_4 8 = .ok (.iload_n 3, 1) := dk_29 (dk_at dksX1_lambda_fixed_4_0 8 rfl rfl)
theorem dX1_lambda_fixed_4_9 : decode cX1_lambda_fixed_4 9 = .ok (.goto 8, 3) := dk_167 0 8 (dk_at dksX1_lambda_fixed_4_0 9 rfl rfl)
theorem dX1_lambda_fixed_4_12 : decode cX1_lambda_fixed_4 12 = .ok (.iload_n 2, 1) := dk_28 (dk_at dksX1_lambda_fixed_4_0 12 rfl rfl)
theorem dX1_lambda_fixed_4_13 : decode cX1_lambda_fixed_4 13 = .ok (.iload_n 3, 1) := dk_29 (dk_at dksX1_lambda_fixed_4_0 13 rfl rfl)
theorem dX1_lambda_fixed_4_14 : decode cX1_lambda_fixed_4 14 = .ok (.iconst (-1), 1) := dk_2 (dk_at dksX1_lambda_fixed_4_0 14 rfl rfl)
theorem dX1_lambda_fixed_4_15 : decode cX1_lambda_fixed_4 15 = .ok (.ixor, 1) := dk_130 (dk_at dksX1_lambda_fixed_4_0 15 rfl rfl)
theorem dX1_lambda_fixed_4_16 : decode cX1_lambda_fixed_4 16 = .ok (.iand, 1) := dk_126 (dk_at dksX1_lambda_fixed_4_0 16 rfl rfl)
theorem dX1_lambda_fixed_4_17 : decode cX1_lambda_fixed_4 17 = .ok (.iand, 1) := dk_126 (dk_at dksX1_lambda_fixed_4_0 17 rfl rfl)
theorem dX1_lambda_fixed_4_18 : decode cX1_lambda_fixed_4 18 = .ok (.iastore, 1) := dk_79 (dk_at dksX1_lambda_fixed_4_0 18 rfl rfl)
theorem dX1_lambda_fixed_4_19 : decode cX1_lambda_fixed_4 19 = .ok (.aload_n 0, 1) := dk_42 (dk_at dksX1_lambda_fixed_4_0 19 rfl rfl)
theorem dX1_lambda_fixed_4_20 : decode cX1_lambda_fixed_4 20 = .ok (.iconst 1, 1) := dk_4 (dk_at dksX1_lambda_fixed_4_0 20 rfl rfl)
theorem dX1_lambda_fixed_4_21 : decode cX1_lambda_fixed_4 21 = .ok (.dup2, 1) := dk_92 (dk_at dksX1_lambda_fixed_4_0 21 rfl rfl)
theorem dX1_lambda_fixed_4_22 : decode cX1_lambda_fixed_4 22 = .ok (.iaload, 1) := dk_46 (dk_at dksX1_lambda_fixed_4_0 22 rfl rfl)
theorem dX1_lambda_fixed_4_23 : decode cX1_lambda_fixed_4 23 = .ok (.iconst 1, 1) := dk_4 (dk_at dksX1_lambda_fixed_4_0 23 rfl rfl)
theorem dX1_lambda_fixed_4_24 : decode cX1_lambda_fixed_4 24 = .ok (.iadd, 1) := dk_96 (dk_at dksX1_lambda_fixed_4_1 0 rfl rfl)
theorem dX1_lambda_fixed_4_25 : decode cX1_lambda_fixed_4 25 = .ok (.iastore, 1) := dk_79 (dk_at dksX1_lambda_fixed_4_1 1 rfl rfl)
theorem dX1_lambda_fixed_4_26 : decode cX1_lambda_fixed_4 26 = .ok (.return_, 1) := dk_177 (dk_at dksX1_lambda_fixed_4_1 2 rfl rfl)
abbrev cX1_feed : ByteArray := prog_1_method_37_code
def yX1_feed : MethodName := ⟨RX1, "feed", "(IIIII)I"⟩
def dkwX1_feed_2 : List UInt8 := [172]
abbrev dktX1_feed_2 : List UInt8 := dkwX1_feed_2 ++ []
def dkwX1_feed_1 : List UInt8 := [4, 28, 79, 89, 5, 29, 79, 89, 6, 21, 4, 79, 89, 7, 21, 5, 79, 182, 1, 0, 42, 180, 0, 127]
abbrev dktX1_feed_1 : List UInt8 := dkwX1_feed_1 ++ dktX1_feed_2
def dkwX1_feed_0 : List UInt8 := [42, 180, 0, 127, 16, 20, 96, 17, 1, 144, 164, 0, 5, 2, 172, 42, 8, 188, 10, 89, 3, 27, 79, 89]
abbrev dktX1_feed_0 : List UInt8 := dkwX1_feed_0 ++ dktX1_feed_1
theorem dksX1_feed_0 : cX1_feed.data.toList.drop 0 = dktX1_feed_0 := by decide +kernel
theorem dksX1_feed_1 : cX1_feed.data.toList.drop 24 = dktX1_feed_1 := dk_seg dksX1_feed_0 24 rfl rfl
theorem dksX1_feed_2 : cX1_feed.data.toList.drop 48 = dktX1_feed_2 := dk_seg dksX1_feed_1 24 rfl rfl
theorem dX1_feed_0 : decode cX1_feed 0 = .ok (.aload_n 0, 1) := dk_42 (dk_at dksX1_feed_0 0 rfl rfl)
theorem dX1_feed_1 : decode cX1_feed 1 = .ok (.getfield 127, 3) := dk_180 0 127 (dk_at dksX1_feed_0 1 rfl rfl)
theorem dX1_feed_4 : decode cX1_feed 4 = .ok (.bipush 20, 2) := dk_16 20 (dk_at dksX1_feed_0 4 rfl rfl)
theorem dX1_feed_6 : decode cX1_feed 6 = .ok (.iadd, 1) := dk_96 (dk_at dksX1_feed_0 6 rfl rfl)
theorem dX1_feed_7 : decode cX1_feed 7 = .ok (.sipush 400, 3) := dk_17 1 144 (dk_at dksX1_feed_0 7 rfl rfl)
theorem dX1_feed_10 : decode cX1_feed 10 = .ok (.if_icmp .le 5, 3) := dk_164 0 5 (dk_at dksX1_feed_0 10 rfl rfl)
theorem dX1_feed_13 : decode cX1_feed 13 = .ok (.iconst (-1), 1) := dk_2 (dk_at dksX1_feed_0 13 rfl rfl)
theorem dX1_feed_14 : decode cX1_feed 14 = .ok (.ireturn, 1) := dk_172 (dk_at dksX1_feed_0 14 rfl rfl)
theorem dX1_feed_15 : decode cX1_feed 15 = .ok (.aload_n 0, 1) := dk_42 (dk_at dksX1_feed_0 15 rfl rfl)
theorem dX1_feed_16 : decode cX1_feed 16 = .ok (.iconst 5, 1) := dk_8 (dk_at dksX1_feed_0 16 rfl rfl)
theorem dX1_feed_17 : decode cX1_feed 17 = .ok (.newarray .int, 2) := dk_188_10 (dk_at dksX1_feed_0 17 rfl rfl)
theorem dX1_feed_19 : decode cX1_feed 19 = .ok (.dup, 1) := dk_89 (dk_at dksX1_feed_0 19 rfl rfl)
theorem dX1_feed_20 : decode cX1_feed 20 = .ok (.iconst 0, 1) := dk_3 (dk_at dksX1_feed_0 20 rfl rfl)
theorem dX1_feed_21 : decode cX1_feed 21 = .ok (.iload_n 1, 1) := dk_27 (dk_at dksX1_feed_0 21 rfl rfl)
theorem dX1_feed_22 : decode cX1_feed 22 = .ok (.iastore, 1) := dk_79 (dk_at dksX1_feed_0 22 rfl rfl)
theorem dX1_feed_23 : decode cX1_feed 23 = .ok (.dup, 1) := dk_89 (dk_at dksX1_feed_0 23 rfl rfl)
theorem dX1_feed_24 : decode cX1_feed 24 = .ok (.iconst 1, 1) := dk_4 (dk_at dksX1_feed_1 0 rfl rfl)
theorem dX1_feed_25 : decode cX1_feed 25 = .ok (.iload_n 2, 1) := dk_28 (dk_at dksX1_feed_1 1 rfl rfl)
theorem dX1_feed_26 : decode cX1_feed 26 = .ok (.iastore, 1) := dk_79 (dk_at dksX1_feed_1 2 rfl rfl)
theorem dX1_feed_27 : decode cX1_feed 27 = .ok (.dup, 1) := dk_89 (dk_at dksX1_feed_1 3 rfl rfl)
theorem dX1_feed_28 : decode cX1_feed 28 = .ok (.iconst 2, 1) := dk_5 (dk_at dksX1_feed_1 4 rfl rfl)
theorem dX1_feed_29 : decode cX1_feed 29 = .ok (.iload_n 3, 1) := dk_29 (dk_at dksX1_feed_1 5 rfl rfl)
theorem dX1_feed_30 : decode cX1_feed 30 = .ok (.iastore, 1) := dk_79 (dk_at dksX1_feed_1 6 rfl rfl)
theorem dX1_feed_31 : decode cX1_feed 31 = .ok (.dup, 1) := dk_89 (dk_at dksX1_feed_1 7 rfl rfl)
theorem dX1_feed_32 : decode cX1_feed 32 = .ok (.iconst 3, 1) := dk_6 (dk_at dksX1_feed_1 8 rfl rfl)
theorem dX1_feed_33 : decode cX1_feed 33 = .ok (.iload 4, 2) := dk_21 4 (dk_at dksX1_feed_1 9 rfl rfl)
theorem dX1_feed_35 : decode cX1_feed 35 = .ok (.iastore, 1) := dk_79 (dk_at dksX1_feed_1 11 rfl rfl)
theorem dX1_feed_36 : decode cX1_feed 36 = .ok (.dup, 1) := dk_89 (dk_at dksX1_feed_1 12 rfl rfl)
theorem dX1_feed_37 : decode cX1_feed 37 = .ok (.iconst 4, 1) := dk_7 (dk_at dksX1_feed_1 13 rfl rfl)
theorem dX1_feed_38 : decode cX1_feed 38 = .ok (.iload 5, 2) := dk_21 5 (dk_at dksX1_feed_1 14 rfl rfl)
theorem dX1_feed_40 : decode cX1_feed 40 = .ok (.iastore, 1) := dk_79 (dk_at dksX1_feed_1 16 rfl rfl)
theorem dX1_feed_41 : decode cX1_feed 41 = .ok (.invokevirtual 256, 3) := dk_182 1 0 (dk_at dksX1_feed_1 17 rfl rfl)
theorem dX1_feed_44 : decode cX1_feed 44 = .ok (.aload_n 0, 1) := dk_42 (dk_at dksX1_feed_1 20 rfl rfl)
theorem dX1_feed_45 : decode cX1_feed 45 = .ok (.getfield 127, 3) := dk_180 0 127 (dk_at dksX1_feed_1 21 rfl rfl)
theorem dX1_feed_48 : decode cX1_feed 48 = .ok (.ireturn, 1) := dk_172 (dk_at dksX1_feed_2 0 rfl rfl)
abbrev cX1_put : ByteArray := prog_1_method_36_code
def yX1_put : MethodName := ⟨RX1, "put", "([I)V"⟩
def dkwX1_put_2 : List UInt8 := [180, 0, 127, 4, 96, 181, 0, 127, 132, 6, 248, 167, 255, 223, 132, 4, 1, 167, 255, 201, 177]
abbrev dktX1_put_2 : List UInt8 := dkwX1_put_2 ++ []
def dkwX1_put_1 : List UInt8 := [21, 6, 155, 0, 34, 42, 180, 0, 26, 42, 180, 0, 127, 21, 5, 21, 6, 122, 145, 84, 42, 89]
abbrev dktX1_put_1 : List UInt8 := dkwX1_put_1 ++ dktX1_put_2
def dkwX1_put_0 : List UInt8 := [43, 77, 44, 190, 62, 3, 54, 4, 21, 4, 29, 162, 0, 55, 44, 21, 4, 46, 54, 5, 16, 24, 54, 6]
abbrev dktX1_put_0 : List UInt8 := dkwX1_put_0 ++ dktX1_put_1
theorem dksX1_put_0 : cX1_put.data.toList.drop 0 = dktX1_put_0 := by decide +kernel
theorem dksX1_put_1 : cX1_put.data.toList.drop 24 = dktX1_put_1 := dk_seg dksX1_put_0 24 rfl rfl
theorem dksX1_put_2 : cX1_put.data.toList.drop 46 = dktX1_put_2 := dk_seg dksX1_put_1 22 rfl rfl
theorem dX1_put_0 : decode cX1_put 0 = .ok (.aload_n 1, 1) := dk_43 (dk_at dksX1_put_0 0 rfl rfl)
theorem dX1_put_1 : decode cX1_put 1 = .ok (.astore_n 2, 1) := dk_77 (dk_at dksX1_put_0 1 rfl rfl)
theorem dX1_put_2 : decode cX1_put 2 = .ok (.aload_n 2, 1) := dk_44 (dk_at dksX1_put_0 2 rfl rfl)
theorem dX1_put_3 : decode cX1_put 3 = .ok (.arraylength, 1) := dk_190 (dk_at dksX1_put_0 3 rfl rfl)
theorem dX1_put_4 : decode cX1_put 4 = .ok (.istore_n 3, 1) := dk_62 (dk_at dksX1_put_0 4 rfl rfl)
theorem dX1_put_5 : decode cX1_put 5 = .ok (.iconst 0, 1) := dk_3 (dk_at dksX1_put_0 5 rfl rfl)
theorem dX1_put_6 : decode cX1_put 6 = .ok (.istore 4, 2) := dk_54 4 (dk_at dksX1_put_0 6 rfl rfl)
theorem dX1_put_8 : decode cX1_put 8 = .ok (.iload 4, 2) := dk_21 4 (dk_at dksX1_put_0 8 rfl rfl)
theorem dX1_put_10 : decode cX1_put 10 = .ok (.iload_n 3, 1) := dk_29 (dk_at dksX1_put_0 10 rfl rfl)
theorem dX1_put_11 : decode cX1_put 11 = .ok (.if_icmp .ge 55, 3) := dk_162 0 55 (dk_at dksX1_put_0 11 rfl rfl)
theorem dX1_put_14 : decode cX1_put 14 = .ok (.aload_n 2, 1) := dk_44 (dk_at dksX1_put_0 14 rfl rfl)
theorem dX1_put_15 : decode cX1_put 15 = .ok (.iload 4, 2) := dk_21 4 (dk_at dksX1_put_0 15 rfl rfl)
theorem dX1_put_17 : decode cX1_put 17 = .ok (.iaload, 1) := dk_46 (dk_at dksX1_put_0 17 rfl rfl)
theorem dX1_put_18 : decode cX1_put 18 = .ok (.istore 5, 2) := dk_54 5 (dk_at dksX1_put_0 18 rfl rfl)
theorem dX1_put_20 : decode cX1_put 20 = .ok (.bipush 24, 2) := dk_16 24 (dk_at dksX1_put_0 20 rfl rfl)
theorem dX1_put_22 : decode cX1_put 22 = .ok (.istore 6, 2) := dk_54 6 (dk_at dksX1_put_0 22 rfl rfl)
theorem dX1_put_24 : decode cX1_put 24 = .ok (.iload 6, 2) := dk_21 6 (dk_at dksX1_put_1 0 rfl rfl)
theorem dX1_put_26 : decode cX1_put 26 = .ok (.ifCond .lt 34, 3) := dk_155 0 34 (dk_at dksX1_put_1 2 rfl rfl)
theorem dX1_put_29 : decode cX1_put 29 = .ok (.aload_n 0, 1) := dk_42 (dk_at dksX1_put_1 5 rfl rfl)
theorem dX1_put_30 : decode cX1_put 30 = .ok (.getfield 26, 3) := dk_180 0 26 (dk_at dksX1_put_1 6 rfl rfl)
theorem dX1_put_33 : decode cX1_put 33 = .ok (.aload_n 0, 1) := dk_42 (dk_at dksX1_put_1 9 rfl rfl)
theorem dX1_put_34 : decode cX1_put 34 = .ok (.getfield 127, 3) := dk_180 0 127 (dk_at dksX1_put_1 10 rfl rfl)
theorem dX1_put_37 : decode cX1_put 37 = .ok (.iload 5, 2) := dk_21 5 (dk_at dksX1_put_1 13 rfl rfl)
theorem dX1_put_39 : decode cX1_put 39 = .ok (.iload 6, 2) := dk_21 6 (dk_at dksX1_put_1 15 rfl rfl)
theorem dX1_put_41 : decode cX1_put 41 = .ok (.ishr, 1) := dk_122 (dk_at dksX1_put_1 17 rfl rfl)
theorem dX1_put_42 : decode cX1_put 42 = .ok (.i2b, 1) := dk_145 (dk_at dksX1_put_1 18 rfl rfl)
theorem dX1_put_43 : decode cX1_put 43 = .ok (.bastore, 1) := dk_84 (dk_at dksX1_put_1 19 rfl rfl)
theorem dX1_put_44 : decode cX1_put 44 = .ok (.aload_n 0, 1) := dk_42 (dk_at dksX1_put_1 20 rfl rfl)
theorem dX1_put_45 : decode cX1_put 45 = .ok (.dup, 1) := dk_89 (dk_at dksX1_put_1 21 rfl rfl)
theorem dX1_put_46 : decode cX1_put 46 = .ok (.getfield 127, 3) := dk_180 0 127 (dk_at dksX1_put_2 0 rfl rfl)
theorem dX1_put_49 : decode cX1_put 49 = .ok (.iconst 1, 1) := dk_4 (dk_at dksX1_put_2 3 rfl rfl)
theorem dX1_put_50 : decode cX1_put 50 = .ok (.iadd, 1) := dk_96 (dk_at dksX1_put_2 4 rfl rfl)
theorem dX1_put_51 : decode cX1_put 51 = .ok (.putfield 127, 3) := dk_181 0 127 (dk_at dksX1_put_2 5 rfl rfl)
theorem dX1_put_54 : decode cX1_put 54 = .ok (.iinc 6 (-8), 3) := dk_132 6 248 (dk_at dksX1_put_2 8 rfl rfl)
theorem dX1_put_57 : decode cX1_put 57 = .ok (.goto (-33), 3) := dk_167 255 223 (dk_at dksX1_put_2 11 rfl rfl)
theorem dX1_put_60 : decode cX1_put 60 = .ok (.iinc 4 1, 3) := dk_132 4 1 (dk_at dksX1_put_2 14 rfl rfl)
theorem dX1_put_63 : decode cX1_put 63 = .ok (.goto (-55), 3) := dk_167 255 201 (dk_at dksX1_put_2 17 rfl rfl)
theorem dX1_put_66 : decode cX1_put 66 = .ok (.return_, 1) := dk_177 (dk_at dksX1_put_2 20 rfl rfl)
abbrev cX1_end : ByteArray := prog_1_method_38_code
def yX1_end : MethodName := ⟨RX1, "end", "(I)Z"⟩
def dkwX1_end_0 : List UInt8 := [27, 3, 42, 180, 0, 127, 184, 0, 58, 154, 0, 5, 3, 172, 42, 27, 181, 0, 127, 4, 172]
abbrev dktX1_end_0 : List UInt8 := dkwX1_end_0 ++ []
theorem dksX1_end_0 : cX1_end.data.toList.drop 0 = dktX1_end_0 := by decide +kernel
theorem dX1_end_0 : decode cX1_end 0 = .ok (.iload_n 1, 1) := dk_27 (dk_at dksX1_end_0 0 rfl rfl)
theorem dX1_end_1 : decode cX1_end 1 = .ok (.iconst 0, 1) := dk_3 (dk_at dksX1_end_0 1 rfl rfl)
theorem dX1_end_2 : decode cX1_end 2 = .ok (.aload_n 0, 1) := dk_42 (dk_at dksX1_end_0 2 rfl rfl)
theorem dX1_end_3 : decode cX1_end 3 = .ok (.getfield 127, 3) := dk_180 0 127 (dk_at dksX1_end_0 3 rfl rfl)
theorem dX1_end_6 : decode cX1_end 6 = .ok (.invokestatic 58, 3) := dk_184 0 58 (dk_at dksX1_end_0 6 rfl rfl)
theorem dX1_end_9 : decode cX1_end 9 = .ok (.ifCond .ne 5, 3) := dk_154 0 5 (dk_at dksX1_end_0 9 rfl rfl)
theorem dX1_end_12 : decode cX1_end 12 = .ok (.iconst 0, 1) := dk_3 (dk_at dksX1_end_0 12 rfl rfl)
theorem dX1_end_13 : decode cX1_end 13 = .ok (.ireturn, 1) := dk_172 (dk_at dksX1_end_0 13 rfl rfl)
theorem dX1_end_14 : decode cX1_end 14 = .ok (.aload_n 0, 1) := dk_42 (dk_at dksX1_end_0 14 rfl rfl)
theorem dX1_end_15 : decode cX1_end 15 = .ok (.iload_n 1, 1) := dk_27 (dk_at dksX1_end_0 15 rfl rfl)
theorem dX1_end_16 : decode cX1_end 16 = .ok (.putfield 127, 3) := dk_181 0 127 (dk_at dksX1_end_0 16 rfl rfl)
theorem dX1_end_19 : decode cX1_end 19 = .ok (.iconst 1, 1) := dk_4 (dk_at dksX1_end_0 19 rfl rfl)
theorem dX1_end_20 : decode cX1_end 20 = .ok (.ireturn, 1) := dk_172 (dk_at dksX1_end_0 20 rfl rfl)
abbrev cX1_tell : ByteArray := prog_1_method_39_code
def yX1_tell : MethodName := ⟨RX1, "tell", "()I"⟩
def dkwX1_tell_2 : List UInt8 := [3, 181, 0, 127, 29, 172, 58, 4, 42, 3, 181, 0, 127, 25, 4, 191]
abbrev dktX1_tell_2 : List UInt8 := dkwX1_tell_2 ++ []
def dkwX1_tell_1 : List UInt8 := [181, 0, 229, 28, 62, 42, 3, 181, 0, 127, 29, 172, 77, 42, 44, 180, 0, 237, 181, 0, 229, 2, 62, 42]
abbrev dktX1_tell_1 : List UInt8 := dkwX1_tell_1 ++ dktX1_tell_2
def dkwX1_tell_0 : List UInt8 := [187, 0, 220, 89, 42, 183, 0, 222, 76, 43, 182, 1, 4, 61, 42, 43, 180, 1, 7, 181, 0, 16, 42, 3]
abbrev dktX1_tell_0 : List UInt8 := dkwX1_tell_0 ++ dktX1_tell_1
theorem dksX1_tell_0 : cX1_tell.data.toList.drop 0 = dktX1_tell_0 := by decide +kernel
theorem dksX1_tell_1 : cX1_tell.data.toList.drop 24 = dktX1_tell_1 := dk_seg dksX1_tell_0 24 rfl rfl
theorem dksX1_tell_2 : cX1_tell.data.toList.drop 48 = dktX1_tell_2 := dk_seg dksX1_tell_1 24 rfl rfl
theorem dX1_tell_0 : decode cX1_tell 0 = .ok (.new 220, 3) := dk_187 0 220 (dk_at dksX1_tell_0 0 rfl rfl)
theorem dX1_tell_3 : decode cX1_tell 3 = .ok (.dup, 1) := dk_89 (dk_at dksX1_tell_0 3 rfl rfl)
theorem dX1_tell_4 : decode cX1_tell 4 = .ok (.aload_n 0, 1) := dk_42 (dk_at dksX1_tell_0 4 rfl rfl)
theorem dX1_tell_5 : decode cX1_tell 5 = .ok (.invokespecial 222, 3) := dk_183 0 222 (dk_at dksX1_tell_0 5 rfl rfl)
theorem dX1_tell_8 : decode cX1_tell 8 = .ok (.astore_n 1, 1) := dk_76 (dk_at dksX1_tell_0 8 rfl rfl)
theorem dX1_tell_9 : decode cX1_tell 9 = .ok (.aload_n 1, 1) := dk_43 (dk_at dksX1_tell_0 9 rfl rfl)
theorem dX1_tell_10 : decode cX1_tell 10 = .ok (.invokevirtual 260, 3) := dk_182 1 4 (dk_at dksX1_tell_0 10 rfl rfl)
theorem dX1_tell_13 : decode cX1_tell 13 = .ok (.istore_n 2, 1) := dk_61 (dk_at dksX1_tell_0 13 rfl rfl)
theorem dX1_tell_14 : decode cX1_tell 14 = .ok (.aload_n 0, 1) := dk_42 (dk_at dksX1_tell_0 14 rfl rfl)
theorem dX1_tell_15 : decode cX1_tell 15 = .ok (.aload_n 1, 1) := dk_43 (dk_at dksX1_tell_0 15 rfl rfl)
theorem dX1_tell_16 : decode cX1_tell 16 = .ok (.getfield 263, 3) := dk_180 1 7 (dk_at dksX1_tell_0 16 rfl rfl)
theorem dX1_tell_19 : decode cX1_tell 19 = .ok (.putfield 16, 3) := dk_181 0 16 (dk_at dksX1_tell_0 19 rfl rfl)
theorem dX1_tell_22 : decode cX1_tell 22 = .ok (.aload_n 0, 1) := dk_42 (dk_at dksX1_tell_0 22 rfl rfl)
theorem dX1_tell_23 : decode cX1_tell 23 = .ok (.iconst 0, 1) := dk_3 (dk_at dksX1_tell_0 23 rfl rfl)
theorem dX1_tell_24 : decode cX1_tell 24 = .ok (.putfield 229, 3) := dk_181 0 229 (dk_at dksX1_tell_1 0 rfl rfl)
theorem dX1_tell_27 : decode cX1_tell 27 = .ok (.iload_n 2, 1) := dk_28 (dk_at dksX1_tell_1 3 rfl rfl)
theorem dX1_tell_28 : decode cX1_tell 28 = .ok (.istore_n 3, 1) := dk_62 (dk_at dksX1_tell_1 4 rfl rfl)
theorem dX1_tell_29 : decode cX1_tell 29 = .ok (.aload_n 0, 1) := dk_42 (dk_at dksX1_tell_1 5 rfl rfl)
theorem dX1_tell_30 : decode cX1_tell 30 = .ok (.iconst 0, 1) := dk_3 (dk_at dksX1_tell_1 6 rfl rfl)
theorem dX1_tell_31 : decode cX1_tell 31 = .ok (.putfield 127, 3) := dk_181 0 127 (dk_at dksX1_tell_1 7 rfl rfl)
theorem dX1_tell_34 : decode cX1_tell 34 = .ok (.iload_n 3, 1) := dk_29 (dk_at dksX1_tell_1 10 rfl rfl)
theorem dX1_tell_35 : decode cX1_tell 35 = .ok (.ireturn, 1) := dk_172 (dk_at dksX1_tell_1 11 rfl rfl)
theorem dX1_tell_36 : decode cX1_tell 36 = .ok (.astore_n 2, 1) := dk_77 (dk_at dksX1_tell_1 12 rfl rfl)
theorem dX1_tell_37 : decode cX1_tell 37 = .ok (.aload_n 0, 1) := dk_42 (dk_at dksX1_tell_1 13 rfl rfl)
theorem dX1_tell_38 : decode cX1_tell 38 = .ok (.aload_n 2, 1) := dk_44 (dk_at dksX1_tell_1 14 rfl rfl)
theorem dX1_tell_39 : decode cX1_tell 39 = .ok (.getfield 237, 3) := dk_180 0 237 (dk_at dksX1_tell_1 15 rfl rfl)
theorem dX1_tell_42 : decode cX1_tell 42 = .ok (.putfield 229, 3) := dk_181 0 229 (dk_at dksX1_tell_1 18 rfl rfl)
theorem dX1_tell_45 : decode cX1_tell 45 = .ok (.iconst (-1), 1) := dk_2 (dk_at dksX1_tell_1 21 rfl rfl)
theorem dX1_tell_46 : decode cX1_tell 46 = .ok (.istore_n 3, 1) := dk_62 (dk_at dksX1_tell_1 22 rfl rfl)
theorem dX1_tell_47 : decode cX1_tell 47 = .ok (.aload_n 0, 1) := dk_42 (dk_at dksX1_tell_1 23 rfl rfl)
theorem dX1_tell_48 : decode cX1_tell 48 = .ok (.iconst 0, 1) := dk_3 (dk_at dksX1_tell_2 0 rfl rfl)
theorem dX1_tell_49 : decode cX1_tell 49 = .ok (.putfield 127, 3) := dk_181 0 127 (dk_at dksX1_tell_2 1 rfl rfl)
theorem dX1_tell_52 : decode cX1_tell 52 = .ok (.iload_n 3, 1) := dk_29 (dk_at dksX1_tell_2 4 rfl rfl)
theorem dX1_tell_53 : decode cX1_tell 53 = .ok (.ireturn, 1) := dk_172 (dk_at dksX1_tell_2 5 rfl rfl)
theorem dX1_tell_54 : decode cX1_tell 54 = .ok (.astore 4, 2) := dk_58 4 (dk_at dksX1_tell_2 6 rfl rfl)
theorem dX1_tell_56 : decode cX1_tell 56 = .ok (.aload_n 0, 1) := dk_42 (dk_at dksX1_tell_2 8 rfl rfl)
theorem dX1_tell_57 : decode cX1_tell 57 = .ok (.iconst 0, 1) := dk_3 (dk_at dksX1_tell_2 9 rfl rfl)
theorem dX1_tell_58 : decode cX1_tell 58 = .ok (.putfield 127, 3) := dk_181 0 127 (dk_at dksX1_tell_2 10 rfl rfl)
theorem dX1_tell_61 : decode cX1_tell 61 = .ok (.aload 4, 2) := dk_25 4 (dk_at dksX1_tell_2 13 rfl rfl)
theorem dX1_tell_63 : decode cX1_tell 63 = .ok (.athrow, 1) := dk_191 (dk_at dksX1_tell_2 15 rfl rfl)
abbrev cX1_fault : ByteArray := prog_1_method_40_code
def yX1_fault : MethodName := ⟨RX1, "fault", "()I"⟩
theorem dX1_fault_0 : decode cX1_fault 0 = .ok (.aload_n 0, 1) := by decide +kernel
theorem dX1_fault_1 : decode cX1_fault 1 = .ok (.getfield 229, 3) := by decide +kernel
theorem dX1_fault_4 : decode cX1_fault 4 = .ok (.ireturn, 1) := by decide +kernel
abbrev cX1_clause : ByteArray := prog_1_method_17_code
def yX1_clause : MethodName := ⟨RX1, "clause", "(II)I"⟩
def dkwX1_clause_6 : List UInt8 := [153, 0, 7, 4, 167, 0, 4, 3, 172, 45, 180, 0, 145, 28, 46, 172]
abbrev dktX1_clause_6 : List UInt8 := dkwX1_clause_6 ++ []
def dkwX1_clause_5 : List UInt8 := [45, 182, 0, 141, 172, 45, 180, 0, 102, 153, 0, 7, 4, 167, 0, 4, 3, 172, 45, 180, 0, 106]
abbrev dktX1_clause_5 : List UInt8 := dkwX1_clause_5 ++ dktX1_clause_6
def dkwX1_clause_4 : List UInt8 := [170, 0, 0, 0, 0, 57, 255, 255, 255, 253, 255, 255, 255, 255, 0, 0, 0, 44, 0, 0, 0, 31, 0, 0, 0, 26]
abbrev dktX1_clause_4 : List UInt8 := dkwX1_clause_4 ++ dktX1_clause_5
def dkwX1_clause_3 : List UInt8 := [185, 0, 137, 2, 0, 192, 0, 100, 78, 28]
abbrev dktX1_clause_3 : List UInt8 := dkwX1_clause_3 ++ dktX1_clause_4
def dkwX1_clause_2 : List UInt8 := [184, 0, 58, 154, 0, 11, 187, 0, 142, 89, 183, 0, 144, 191, 42, 180, 0, 16, 180, 0, 80, 27]
abbrev dktX1_clause_2 : List UInt8 := dkwX1_clause_2 ++ dktX1_clause_3
def dkwX1_clause_1 : List UInt8 := [16, 253, 42, 180, 0, 16, 180, 0, 80, 27, 185, 0, 137, 2, 0, 192, 0, 100, 182, 0, 141, 4, 100]
abbrev dktX1_clause_1 : List UInt8 := dkwX1_clause_1 ++ dktX1_clause_2
def dkwX1_clause_0 : List UInt8 := [27, 3, 42, 180, 0, 16, 180, 0, 80, 185, 0, 112, 1, 0, 4, 100, 184, 0, 58, 153, 0, 33, 28]
abbrev dktX1_clause_0 : List UInt8 := dkwX1_clause_0 ++ dktX1_clause_1
theorem dksX1_clause_0 : cX1_clause.data.toList.drop 0 = dktX1_clause_0 := by decide +kernel
theorem dksX1_clause_1 : cX1_clause.data.toList.drop 23 = dktX1_clause_1 := dk_seg dksX1_clause_0 23 rfl rfl
theorem dksX1_clause_2 : cX1_clause.data.toList.drop 46 = dktX1_clause_2 := dk_seg dksX1_clause_1 23 rfl rfl
theorem dksX1_clause_3 : cX1_clause.data.toList.drop 68 = dktX1_clause_3 := dk_seg dksX1_clause_2 22 rfl rfl
theorem dksX1_clause_4 : cX1_clause.data.toList.drop 78 = dktX1_clause_4 := dk_seg dksX1_clause_3 10 rfl rfl
theorem dksX1_clause_5 : cX1_clause.data.toList.drop 104 = dktX1_clause_5 := dk_seg dksX1_clause_4 26 rfl rfl
theorem dksX1_clause_6 : cX1_clause.data.toList.drop 126 = dktX1_clause_6 := dk_seg dksX1_clause_5 22 rfl rfl
theorem dX1_clause_0 : decode cX1_clause 0 = .ok (.iload_n 1, 1) := dk_27 (dk_at dksX1_clause_0 0 rfl rfl)
theorem dX1_clause_1 : decode cX1_clause 1 = .ok (.iconst 0, 1) := dk_3 (dk_at dksX1_clause_0 1 rfl rfl)
theorem dX1_clause_2 : decode cX1_clause 2 = .ok (.aload_n 0, 1) := dk_42 (dk_at dksX1_clause_0 2 rfl rfl)
theorem dX1_clause_3 : decode cX1_clause 3 = .ok (.getfield 16, 3) := dk_180 0 16 (dk_at dksX1_clause_0 3 rfl rfl)
theorem dX1_clause_6 : decode cX1_clause 6 = .ok (.getfield 80, 3) := dk_180 0 80 (dk_at dksX1_clause_0 6 rfl rfl)
theorem dX1_clause_9 : decode cX1_clause 9 = .ok (.invokeinterface 112 1, 5) := by decide +kernel
theorem dX1_clause_14 : decode cX1_clause 14 = .ok (.iconst 1, 1) := dk_4 (dk_at dksX1_clause_0 14 rfl rfl)
theorem dX1_clause_15 : decode cX1_clause 15 = .ok (.isub, 1) := dk_100 (dk_at dksX1_clause_0 15 rfl rfl)
theorem dX1_clause_16 : decode cX1_clause 16 = .ok (.invokestatic 58, 3) := dk_184 0 58 (dk_at dksX1_clause_0 16 rfl rfl)
theorem dX1_clause_19 : decode cX1_clause 19 = .ok (.ifCond .eq 33, 3) := dk_153 0 33 (dk_at dksX1_clause_0 19 rfl rfl)
theorem dX1_clause_22 : decode cX1_clause 22 = .ok (.iload_n 2, 1) := dk_28 (dk_at dksX1_clause_0 22 rfl rfl)
theorem dX1_clause_23 : decode cX1_clause 23 = .ok (.bipush (-3), 2) := dk_16 253 (dk_at dksX1_clause_1 0 rfl rfl)
theorem dX1_clause_25 : decode cX1_clause 25 = .ok (.aload_n 0, 1) := dk_42 (dk_at dksX1_clause_1 2 rfl rfl)
theorem dX1_clause_26 : decode cX1_clause 26 = .ok (.getfield 16, 3) := dk_180 0 16 (dk_at dksX1_clause_1 3 rfl rfl)
theorem dX1_clause_29 : decode cX1_clause 29 = .ok (.getfield 80, 3) := dk_180 0 80 (dk_at dksX1_clause_1 6 rfl rfl)
theorem dX1_clause_32 : decode cX1_clause 32 = .ok (.iload_n 1, 1) := dk_27 (dk_at dksX1_clause_1 9 rfl rfl)
theorem dX1_clause_33 : decode cX1_clause 33 = .ok (.invokeinterface 137 2, 5) := by decide +kernel
theorem dX1_clause_38 : decode cX1_clause 38 = .ok (.checkcast 100, 3) := dk_192 0 100 (dk_at dksX1_clause_1 15 rfl rfl)
theorem dX1_clause_41 : decode cX1_clause 41 = .ok (.invokevirtual 141, 3) := dk_182 0 141 (dk_at dksX1_clause_1 18 rfl rfl)
theorem dX1_clause_44 : decode cX1_clause 44 = .ok (.iconst 1, 1) := dk_4 (dk_at dksX1_clause_1 21 rfl rfl)
theorem dX1_clause_45 : decode cX1_clause 45 = .ok (.isub, 1) := dk_100 (dk_at dksX1_clause_1 22 rfl rfl)
theorem dX1_clause_46 : decode cX1_clause 46 = .ok (.invokestatic 58, 3) := dk_184 0 58 (dk_at dksX1_clause_2 0 rfl rfl)
theorem dX1_clause_49 : decode cX1_clause 49 = .ok (.ifCond .ne 11, 3) := dk_154 0 11 (dk_at dksX1_clause_2 3 rfl rfl)
theorem dX1_clause_52 : decode cX1_clause 52 = .ok (.new 142, 3) := dk_187 0 142 (dk_at dksX1_clause_2 6 rfl rfl)
theorem dX1_clause_55 : decode cX1_clause 55 = .ok (.dup, 1) := dk_89 (dk_at dksX1_clause_2 9 rfl rfl)
theorem dX1_clause_56 : decode cX1_clause 56 = .ok (.invokespecial 144, 3) := dk_183 0 144 (dk_at dksX1_clause_2 10 rfl rfl)
theorem dX1_clause_59 : decode cX1_clause 59 = .ok (.athrow, 1) := dk_191 (dk_at dksX1_clause_2 13 rfl rfl)
theorem dX1_clause_60 : decode cX1_clause 60 = .ok (.aload_n 0, 1) := dk_42 (dk_at dksX1_clause_2 14 rfl rfl)
theorem dX1_clause_61 : decode cX1_clause 61 = .ok (.getfield 16, 3) := dk_180 0 16 (dk_at dksX1_clause_2 15 rfl rfl)
theorem dX1_clause_64 : decode cX1_clause 64 = .ok (.getfield 80, 3) := dk_180 0 80 (dk_at dksX1_clause_2 18 rfl rfl)
theorem dX1_clause_67 : decode cX1_clause 67 = .ok (.iload_n 1, 1) := dk_27 (dk_at dksX1_clause_2 21 rfl rfl)
theorem dX1_clause_68 : decode cX1_clause 68 = .ok (.invokeinterface 137 2, 5) := by decide +kernel
theorem dX1_clause_73 : decode cX1_clause 73 = .ok (.checkcast 100, 3) := dk_192 0 100 (dk_at dksX1_clause_3 5 rfl rfl)
theorem dX1_clause_76 : decode cX1_clause 76 = .ok (.astore_n 3, 1) := dk_78 (dk_at dksX1_clause_3 8 rfl rfl)
theorem dX1_clause_77 : decode cX1_clause 77 = .ok (.iload_n 2, 1) := dk_28 (dk_at dksX1_clause_3 9 rfl rfl)
theorem dX1_clause_78 : decode cX1_clause 78 = .ok (.tableswitch 57 (-3) (-1) #[44, 31, 26], 26) := by decide +kernel
theorem dX1_clause_104 : decode cX1_clause 104 = .ok (.aload_n 3, 1) := dk_45 (dk_at dksX1_clause_5 0 rfl rfl)
theorem dX1_clause_105 : decode cX1_clause 105 = .ok (.invokevirtual 141, 3) := dk_182 0 141 (dk_at dksX1_clause_5 1 rfl rfl)
theorem dX1_clause_108 : decode cX1_clause 108 = .ok (.ireturn, 1) := dk_172 (dk_at dksX1_clause_5 4 rfl rfl)
theorem dX1_clause_109 : decode cX1_clause 109 = .ok (.aload_n 3, 1) := dk_45 (dk_at dksX1_clause_5 5 rfl rfl)
theorem dX1_clause_110 : decode cX1_clause 110 = .ok (.getfield 102, 3) := dk_180 0 102 (dk_at dksX1_clause_5 6 rfl rfl)
theorem dX1_clause_113 : decode cX1_clause 113 = .ok (.ifCond .eq 7, 3) := dk_153 0 7 (dk_at dksX1_clause_5 9 rfl rfl)
theorem dX1_clause_116 : decode cX1_clause 116 = .ok (.iconst 1, 1) := dk_4 (dk_at dksX1_clause_5 12 rfl rfl)
theorem dX1_clause_117 : decode cX1_clause 117 = .ok (.goto 4, 3) := dk_167 0 4 (dk_at dksX1_clause_5 13 rfl rfl)
theorem dX1_clause_120 : decode cX1_clause 120 = .ok (.iconst 0, 1) := dk_3 (dk_at dksX1_clause_5 16 rfl rfl)
theorem dX1_clause_121 : decode cX1_clause 121 = .ok (.ireturn, 1) := dk_172 (dk_at dksX1_clause_5 17 rfl rfl)
theorem dX1_clause_122 : decode cX1_clause 122 = .ok (.aload_n 3, 1) := dk_45 (dk_at dksX1_clause_5 18 rfl rfl)
theorem dX1_clause_123 : decode cX1_clause 123 = .ok (.getfield 106, 3) := dk_180 0 106 (dk_at dksX1_clause_5 19 rfl rfl)
theorem dX1_clause_126 : decode cX1_clause 126 = .ok (.ifCond .eq 7, 3) := dk_153 0 7 (dk_at dksX1_clause_6 0 rfl rfl)
theorem dX1_clause_129 : decode cX1_clause 129 = .ok (.iconst 1, 1) := dk_4 (dk_at dksX1_clause_6 3 rfl rfl)
theorem dX1_clause_130 : decode cX1_clause 130 = .ok (.goto 4, 3) := dk_167 0 4 (dk_at dksX1_clause_6 4 rfl rfl)
theorem dX1_clause_133 : decode cX1_clause 133 = .ok (.iconst 0, 1) := dk_3 (dk_at dksX1_clause_6 7 rfl rfl)
theorem dX1_clause_134 : decode cX1_clause 134 = .ok (.ireturn, 1) := dk_172 (dk_at dksX1_clause_6 8 rfl rfl)
theorem dX1_clause_135 : decode cX1_clause 135 = .ok (.aload_n 3, 1) := dk_45 (dk_at dksX1_clause_6 9 rfl rfl)
theorem dX1_clause_136 : decode cX1_clause 136 = .ok (.getfield 145, 3) := dk_180 0 145 (dk_at dksX1_clause_6 10 rfl rfl)
theorem dX1_clause_139 : decode cX1_clause 139 = .ok (.iload_n 2, 1) := dk_28 (dk_at dksX1_clause_6 13 rfl rfl)
theorem dX1_clause_140 : decode cX1_clause 140 = .ok (.iaload, 1) := dk_46 (dk_at dksX1_clause_6 14 rfl rfl)
theorem dX1_clause_141 : decode cX1_clause 141 = .ok (.ireturn, 1) := dk_172 (dk_at dksX1_clause_6 15 rfl rfl)
theorem q105 : (Jvm.Cond.initialized "LearntReasons") ∈ lw_all := lw_g (lw_at lw_m1 1 rfl) rfl
theorem q138 : (Jvm.Cond.instantiable "LearntReasons" (5 : Nat)) ∈ lw_all := lw_g (lw_at lw_m1 34 rfl) rfl
theorem q140 : (Jvm.Cond.instanceMethod ({ cls := "LearntReasons", name := "<init>", desc := "()V" } : Jvm.MethodName)) ∈ lw_all := lw_g (lw_at lw_m1 36 rfl) rfl
theorem q141 : (Jvm.Cond.code ({ cls := "LearntReasons", name := "<init>", desc := "()V" } : Jvm.MethodName) prog_1_method_4_code (1 : Nat) (Option.none : Option Jvm.ClassFile.FieldType)) ∈ lw_all := lw_g (lw_at lw_m1 37 rfl) rfl
theorem q142 : (Jvm.Cond.methodLink "LearntReasons" (7 : Nat) ({ cls := "java/lang/Object", name := "<init>", desc := "()V" } : Jvm.MethodName)) ∈ lw_all := lw_g (lw_at lw_m1 38 rfl) rfl
theorem q145 : (Jvm.Cond.classLink "LearntReasons" (13 : Nat) "LearntReasons$State") ∈ lw_all := lw_g (lw_at lw_m1 41 rfl) rfl
theorem q147 : (Jvm.Cond.methodLinkNest "LearntReasons" (15 : Nat) ({ cls := "LearntReasons$State", name := "<init>", desc := "()V" } : Jvm.MethodName) "LearntReasons") ∈ lw_tbl := lw_at lw_m1 43 rfl
theorem q184 : (Jvm.Cond.fieldLinkNest "LearntReasons" (80 : Nat) "LearntReasons$State" "clauses" "Ljava/util/List;" "LearntReasons") ∈ lw_tbl := lw_at lw_m1 80 rfl
theorem q187 : (Jvm.Cond.fieldLinkNest "LearntReasons" (121 : Nat) "LearntReasons$State" "log" "Ljava/util/List;" "LearntReasons") ∈ lw_tbl := lw_at lw_m1 83 rfl
theorem q191 : (Jvm.Cond.fieldLinkNest "LearntReasons" (148 : Nat) "LearntReasons$State" "assumed" "[I" "LearntReasons") ∈ lw_tbl := lw_at lw_m1 87 rfl
theorem q194 : (Jvm.Cond.fieldLinkNest "LearntReasons" (163 : Nat) "LearntReasons$State" "scores" "[I" "LearntReasons") ∈ lw_tbl := lw_at lw_m1 90 rfl
theorem q197 : (Jvm.Cond.fieldLinkNest "LearntReasons" (133 : Nat) "LearntReasons$State" "counts" "[I" "LearntReasons") ∈ lw_tbl := lw_at lw_m1 93 rfl
theorem q201 : (Jvm.Cond.fieldLinkNest "LearntReasons" (51 : Nat) "LearntReasons$State" "phases" "[Z" "LearntReasons") ∈ lw_tbl := lw_at lw_m1 97 rfl
theorem q206 : (Jvm.Cond.fieldLinkNest "LearntReasons" (109 : Nat) "LearntReasons$State" "variables" "I" "LearntReasons") ∈ lw_tbl := lw_at lw_m1 102 rfl
theorem q208 : (Jvm.Cond.fieldLinkNest "LearntReasons" (115 : Nat) "LearntReasons$State" "told" "I" "LearntReasons") ∈ lw_tbl := lw_at lw_m1 104 rfl
theorem q210 : (Jvm.Cond.fieldLinkNest "LearntReasons" (43 : Nat) "LearntReasons$State" "assumptions" "I" "LearntReasons") ∈ lw_tbl := lw_at lw_m1 106 rfl
theorem q214 : (Jvm.Cond.fieldLinkNest "LearntReasons" (118 : Nat) "LearntReasons$State" "opened" "I" "LearntReasons") ∈ lw_tbl := lw_at lw_m1 110 rfl
theorem q216 : (Jvm.Cond.fieldLinkNest "LearntReasons" (62 : Nat) "LearntReasons$State" "unit" "I" "LearntReasons") ∈ lw_tbl := lw_at lw_m1 112 rfl
theorem q219 : (Jvm.Cond.fieldLinkNest "LearntReasons" (130 : Nat) "LearntReasons$State" "ended" "I" "LearntReasons") ∈ lw_tbl := lw_at lw_m1 115 rfl
theorem q222 : (Jvm.Cond.fieldLinkNest "LearntReasons" (154 : Nat) "LearntReasons$State" "core" "I" "LearntReasons") ∈ lw_tbl := lw_at lw_m1 118 rfl
theorem q225 : (Jvm.Cond.fieldLinkNest "LearntReasons" (232 : Nat) "LearntReasons$State" "closed" "I" "LearntReasons") ∈ lw_tbl := lw_at lw_m1 121 rfl
theorem q227 : (Jvm.Cond.fieldLinkNest "LearntReasons" (151 : Nat) "LearntReasons$State" "model" "[I" "LearntReasons") ∈ lw_tbl := lw_at lw_m1 123 rfl
theorem q230 : (Jvm.Cond.fieldLinkNest "LearntReasons" (124 : Nat) "LearntReasons$State" "isRefuted" "Z" "LearntReasons") ∈ lw_tbl := lw_at lw_m1 126 rfl
theorem q272 : (Jvm.Cond.fieldLink "LearntReasons" (16 : Nat) "LearntReasons" "state" "LLearntReasons$State;") ∈ lw_all := lw_g (lw_at lw_m1 168 rfl) rfl
theorem q273 : (Jvm.Cond.fieldLink "LearntReasons" (22 : Nat) "LearntReasons" "kept" "[LLearntReasons$State;") ∈ lw_all := lw_g (lw_at lw_m1 169 rfl) rfl
theorem q275 : (Jvm.Cond.fieldLink "LearntReasons" (26 : Nat) "LearntReasons" "tape" "[B") ∈ lw_all := lw_g (lw_at lw_m1 171 rfl) rfl
theorem q277 : (Jvm.Cond.fieldLink "LearntReasons" (127 : Nat) "LearntReasons" "taped" "I") ∈ lw_all := lw_g (lw_at lw_m1 173 rfl) rfl
theorem q278 : (Jvm.Cond.fieldLink "LearntReasons" (229 : Nat) "LearntReasons" "fault" "I") ∈ lw_all := lw_g (lw_at lw_m1 174 rfl) rfl
theorem q279 : (Jvm.Cond.lays "LearntReasons" "LearntReasons" "state" "LLearntReasons$State;") ∈ lw_all := lw_g (lw_at lw_m1 175 rfl) rfl
theorem q280 : (Jvm.Cond.soleField "LearntReasons" "state") ∈ lw_all := lw_g (lw_at lw_m1 176 rfl) rfl
theorem q281 : (Jvm.Cond.laysFinal "LearntReasons" "LearntReasons" "kept" "[LLearntReasons$State;") ∈ lw_all := lw_g (lw_at lw_m1 177 rfl) rfl
theorem q282 : (Jvm.Cond.soleField "LearntReasons" "kept") ∈ lw_all := lw_g (lw_at lw_m1 178 rfl) rfl
theorem q283 : (Jvm.Cond.laysFinal "LearntReasons" "LearntReasons" "tape" "[B") ∈ lw_all := lw_g (lw_at lw_m1 179 rfl) rfl
theorem q284 : (Jvm.Cond.soleField "LearntReasons" "tape") ∈ lw_all := lw_g (lw_at lw_m1 180 rfl) rfl
theorem q285 : (Jvm.Cond.lays "LearntReasons" "LearntReasons" "taped" "I") ∈ lw_all := lw_g (lw_at lw_m1 181 rfl) rfl
theorem q286 : (Jvm.Cond.soleField "LearntReasons" "taped") ∈ lw_all := lw_g (lw_at lw_m1 182 rfl) rfl
theorem q287 : (Jvm.Cond.lays "LearntReasons" "LearntReasons" "fault" "I") ∈ lw_all := lw_g (lw_at lw_m1 183 rfl) rfl
theorem q288 : (Jvm.Cond.soleField "LearntReasons" "fault") ∈ lw_all := lw_g (lw_at lw_m1 184 rfl) rfl
theorem q289 : (Jvm.Cond.superclass "LearntReasons" "java/lang/Object") ∈ lw_all := lw_g (lw_at lw_m1 185 rfl) rfl
theorem q292 : (Jvm.Cond.instanceMethod ({ cls := "LearntReasons", name := "grow", desc := "(I)I" } : Jvm.MethodName)) ∈ lw_all := lw_g (lw_at lw_m1 188 rfl) rfl
theorem q293 : (Jvm.Cond.selects "LearntReasons" ({ cls := "LearntReasons", name := "grow", desc := "(I)I" } : Jvm.MethodName) ({ cls := "LearntReasons", name := "grow", desc := "(I)I" } : Jvm.MethodName)) ∈ lw_all := lw_g (lw_at lw_m1 189 rfl) rfl
theorem q294 : (Jvm.Cond.code ({ cls := "LearntReasons", name := "grow", desc := "(I)I" } : Jvm.MethodName) prog_1_method_5_code (2 : Nat) (Option.some Jvm.ClassFile.FieldType.int)) ∈ lw_all := lw_g (lw_at lw_m1 190 rfl) rfl
theorem q295 : (Jvm.Cond.methodLink "LearntReasons" (30 : Nat) ({ cls := "LearntReasons$State", name := "grow", desc := "(I)I" } : Jvm.MethodName)) ∈ lw_all := lw_g (lw_at lw_m1 191 rfl) rfl
theorem q300 : (Jvm.Cond.static ({ cls := "LearntReasons", name := "in", desc := "(III)Z" } : Jvm.MethodName)) ∈ lw_all := lw_g (lw_at lw_m1 196 rfl) rfl
theorem q301 : (Jvm.Cond.code ({ cls := "LearntReasons", name := "in", desc := "(III)Z" } : Jvm.MethodName) prog_1_method_1_code (3 : Nat) (Option.some Jvm.ClassFile.FieldType.boolean)) ∈ lw_all := lw_g (lw_at lw_m1 197 rfl) rfl
theorem q303 : (Jvm.Cond.instanceMethod ({ cls := "LearntReasons", name := "add", desc := "(I)I" } : Jvm.MethodName)) ∈ lw_all := lw_g (lw_at lw_m1 199 rfl) rfl
theorem q304 : (Jvm.Cond.selects "LearntReasons" ({ cls := "LearntReasons", name := "add", desc := "(I)I" } : Jvm.MethodName) ({ cls := "LearntReasons", name := "add", desc := "(I)I" } : Jvm.MethodName)) ∈ lw_all := lw_g (lw_at lw_m1 200 rfl) rfl
theorem q305 : (Jvm.Cond.code ({ cls := "LearntReasons", name := "add", desc := "(I)I" } : Jvm.MethodName) prog_1_method_6_code (2 : Nat) (Option.some Jvm.ClassFile.FieldType.int)) ∈ lw_all := lw_g (lw_at lw_m1 201 rfl) rfl
theorem q306 : (Jvm.Cond.methodLink "LearntReasons" (33 : Nat) ({ cls := "LearntReasons$State", name := "add", desc := "(I)I" } : Jvm.MethodName)) ∈ lw_all := lw_g (lw_at lw_m1 202 rfl) rfl
theorem q315 : (Jvm.Cond.static ({ cls := "LearntReasons", name := "variableOf", desc := "(I)I" } : Jvm.MethodName)) ∈ lw_all := lw_g (lw_at lw_m1 211 rfl) rfl
theorem q316 : (Jvm.Cond.code ({ cls := "LearntReasons", name := "variableOf", desc := "(I)I" } : Jvm.MethodName) prog_1_method_2_code (1 : Nat) (Option.some Jvm.ClassFile.FieldType.int)) ∈ lw_all := lw_g (lw_at lw_m1 212 rfl) rfl
theorem q317 : (Jvm.Cond.methodLink "LearntReasons" (1 : Nat) ({ cls := "java/lang/Math", name := "abs", desc := "(I)I" } : Jvm.MethodName)) ∈ lw_all := lw_g (lw_at lw_m1 213 rfl) rfl
theorem q328 : (Jvm.Cond.instanceMethod ({ cls := "LearntReasons", name := "close", desc := "()I" } : Jvm.MethodName)) ∈ lw_all := lw_g (lw_at lw_m1 224 rfl) rfl
theorem q329 : (Jvm.Cond.selects "LearntReasons" ({ cls := "LearntReasons", name := "close", desc := "()I" } : Jvm.MethodName) ({ cls := "LearntReasons", name := "close", desc := "()I" } : Jvm.MethodName)) ∈ lw_all := lw_g (lw_at lw_m1 225 rfl) rfl
theorem q330 : (Jvm.Cond.code ({ cls := "LearntReasons", name := "close", desc := "()I" } : Jvm.MethodName) prog_1_method_7_code (1 : Nat) (Option.some Jvm.ClassFile.FieldType.int)) ∈ lw_all := lw_g (lw_at lw_m1 226 rfl) rfl
theorem q331 : (Jvm.Cond.methodLink "LearntReasons" (36 : Nat) ({ cls := "LearntReasons$State", name := "close", desc := "()I" } : Jvm.MethodName)) ∈ lw_all := lw_g (lw_at lw_m1 227 rfl) rfl
theorem q382 : (Jvm.Cond.fieldLinkNest "LearntReasons" (145 : Nat) "LearntReasons$Clause" "literals" "[I" "LearntReasons") ∈ lw_tbl := lw_at lw_m2 38 rfl
theorem q385 : (Jvm.Cond.fieldLinkNest "LearntReasons" (102 : Nat) "LearntReasons$Clause" "isLearnt" "Z" "LearntReasons") ∈ lw_tbl := lw_at lw_m2 41 rfl
theorem q392 : (Jvm.Cond.fieldLinkNest "LearntReasons" (106 : Nat) "LearntReasons$Clause" "isGone" "Z" "LearntReasons") ∈ lw_tbl := lw_at lw_m2 48 rfl
theorem q451 : (Jvm.Cond.selects "LearntReasons" ({ cls := "java/lang/Object", name := "getClass", desc := "()Ljava/lang/Class;" } : Jvm.MethodName) ({ cls := "java/lang/Object", name := "getClass", desc := "()Ljava/lang/Class;" } : Jvm.MethodName)) ∈ lw_all := lw_g (lw_at lw_m2 107 rfl) rfl
theorem q474 : (Jvm.Cond.instanceMethod ({ cls := "LearntReasons", name := "assume", desc := "(I)I" } : Jvm.MethodName)) ∈ lw_all := lw_g (lw_at lw_m2 130 rfl) rfl
theorem q475 : (Jvm.Cond.selects "LearntReasons" ({ cls := "LearntReasons", name := "assume", desc := "(I)I" } : Jvm.MethodName) ({ cls := "LearntReasons", name := "assume", desc := "(I)I" } : Jvm.MethodName)) ∈ lw_all := lw_g (lw_at lw_m2 131 rfl) rfl
theorem q476 : (Jvm.Cond.code ({ cls := "LearntReasons", name := "assume", desc := "(I)I" } : Jvm.MethodName) prog_1_method_8_code (2 : Nat) (Option.some Jvm.ClassFile.FieldType.int)) ∈ lw_all := lw_g (lw_at lw_m2 132 rfl) rfl
theorem q477 : (Jvm.Cond.methodLink "LearntReasons" (40 : Nat) ({ cls := "LearntReasons$State", name := "assume", desc := "(I)I" } : Jvm.MethodName)) ∈ lw_all := lw_g (lw_at lw_m2 133 rfl) rfl
theorem q482 : (Jvm.Cond.instanceMethod ({ cls := "LearntReasons", name := "free", desc := "()I" } : Jvm.MethodName)) ∈ lw_all := lw_g (lw_at lw_m2 138 rfl) rfl
theorem q483 : (Jvm.Cond.selects "LearntReasons" ({ cls := "LearntReasons", name := "free", desc := "()I" } : Jvm.MethodName) ({ cls := "LearntReasons", name := "free", desc := "()I" } : Jvm.MethodName)) ∈ lw_all := lw_g (lw_at lw_m2 139 rfl) rfl
theorem q484 : (Jvm.Cond.code ({ cls := "LearntReasons", name := "free", desc := "()I" } : Jvm.MethodName) prog_1_method_9_code (2 : Nat) (Option.some Jvm.ClassFile.FieldType.int)) ∈ lw_all := lw_g (lw_at lw_m2 140 rfl) rfl
theorem q486 : (Jvm.Cond.instanceMethod ({ cls := "LearntReasons", name := "phase", desc := "(I)Z" } : Jvm.MethodName)) ∈ lw_all := lw_g (lw_at lw_m2 142 rfl) rfl
theorem q487 : (Jvm.Cond.selects "LearntReasons" ({ cls := "LearntReasons", name := "phase", desc := "(I)Z" } : Jvm.MethodName) ({ cls := "LearntReasons", name := "phase", desc := "(I)Z" } : Jvm.MethodName)) ∈ lw_all := lw_g (lw_at lw_m2 143 rfl) rfl
theorem q488 : (Jvm.Cond.code ({ cls := "LearntReasons", name := "phase", desc := "(I)Z" } : Jvm.MethodName) prog_1_method_10_code (2 : Nat) (Option.some Jvm.ClassFile.FieldType.boolean)) ∈ lw_all := lw_g (lw_at lw_m2 144 rfl) rfl
theorem q489 : (Jvm.Cond.methodLink "LearntReasons" (47 : Nat) ({ cls := "LearntReasons$State", name := "isLiteral", desc := "(I)Z" } : Jvm.MethodName)) ∈ lw_all := lw_g (lw_at lw_m2 145 rfl) rfl
theorem q490 : (Jvm.Cond.methodLink "LearntReasons" (55 : Nat) ({ cls := "LearntReasons", name := "variableOf", desc := "(I)I" } : Jvm.MethodName)) ∈ lw_all := lw_g (lw_at lw_m2 146 rfl) rfl
theorem q492 : (Jvm.Cond.instanceMethod ({ cls := "LearntReasons", name := "unit", desc := "(I)Z" } : Jvm.MethodName)) ∈ lw_all := lw_g (lw_at lw_m2 148 rfl) rfl
theorem q493 : (Jvm.Cond.selects "LearntReasons" ({ cls := "LearntReasons", name := "unit", desc := "(I)Z" } : Jvm.MethodName) ({ cls := "LearntReasons", name := "unit", desc := "(I)Z" } : Jvm.MethodName)) ∈ lw_all := lw_g (lw_at lw_m2 149 rfl) rfl
theorem q494 : (Jvm.Cond.code ({ cls := "LearntReasons", name := "unit", desc := "(I)Z" } : Jvm.MethodName) prog_1_method_11_code (2 : Nat) (Option.some Jvm.ClassFile.FieldType.boolean)) ∈ lw_all := lw_g (lw_at lw_m2 150 rfl) rfl
theorem q495 : (Jvm.Cond.methodLink "LearntReasons" (58 : Nat) ({ cls := "LearntReasons", name := "in", desc := "(III)Z" } : Jvm.MethodName)) ∈ lw_all := lw_g (lw_at lw_m2 151 rfl) rfl
theorem q497 : (Jvm.Cond.instanceMethod ({ cls := "LearntReasons", name := "forget", desc := "(I)I" } : Jvm.MethodName)) ∈ lw_all := lw_g (lw_at lw_m2 153 rfl) rfl
theorem q498 : (Jvm.Cond.selects "LearntReasons" ({ cls := "LearntReasons", name := "forget", desc := "(I)I" } : Jvm.MethodName) ({ cls := "LearntReasons", name := "forget", desc := "(I)I" } : Jvm.MethodName)) ∈ lw_all := lw_g (lw_at lw_m2 154 rfl) rfl
theorem q499 : (Jvm.Cond.code ({ cls := "LearntReasons", name := "forget", desc := "(I)I" } : Jvm.MethodName) prog_1_method_12_code (2 : Nat) (Option.some Jvm.ClassFile.FieldType.int)) ∈ lw_all := lw_g (lw_at lw_m2 155 rfl) rfl
theorem q500 : (Jvm.Cond.methodLink "LearntReasons" (65 : Nat) ({ cls := "LearntReasons$State", name := "forget", desc := "(I)I" } : Jvm.MethodName)) ∈ lw_all := lw_g (lw_at lw_m2 156 rfl) rfl
theorem q623 : (Jvm.Cond.instanceMethod ({ cls := "LearntReasons", name := "keep", desc := "(I)Z" } : Jvm.MethodName)) ∈ lw_all := lw_g (lw_at lw_m3 39 rfl) rfl
theorem q624 : (Jvm.Cond.selects "LearntReasons" ({ cls := "LearntReasons", name := "keep", desc := "(I)Z" } : Jvm.MethodName) ({ cls := "LearntReasons", name := "keep", desc := "(I)Z" } : Jvm.MethodName)) ∈ lw_all := lw_g (lw_at lw_m3 40 rfl) rfl
theorem q625 : (Jvm.Cond.code ({ cls := "LearntReasons", name := "keep", desc := "(I)Z" } : Jvm.MethodName) prog_1_method_13_code (2 : Nat) (Option.some Jvm.ClassFile.FieldType.boolean)) ∈ lw_all := lw_g (lw_at lw_m3 41 rfl) rfl
theorem q626 : (Jvm.Cond.methodLink "LearntReasons" (68 : Nat) ({ cls := "LearntReasons$State", name := "like", desc := "()LLearntReasons$State;" } : Jvm.MethodName)) ∈ lw_all := lw_g (lw_at lw_m3 42 rfl) rfl
theorem q659 : (Jvm.Cond.instanceMethod ({ cls := "LearntReasons", name := "back", desc := "(I)Z" } : Jvm.MethodName)) ∈ lw_all := lw_g (lw_at lw_m3 75 rfl) rfl
theorem q660 : (Jvm.Cond.selects "LearntReasons" ({ cls := "LearntReasons", name := "back", desc := "(I)Z" } : Jvm.MethodName) ({ cls := "LearntReasons", name := "back", desc := "(I)Z" } : Jvm.MethodName)) ∈ lw_all := lw_g (lw_at lw_m3 76 rfl) rfl
theorem q661 : (Jvm.Cond.code ({ cls := "LearntReasons", name := "back", desc := "(I)Z" } : Jvm.MethodName) prog_1_method_14_code (2 : Nat) (Option.some Jvm.ClassFile.FieldType.boolean)) ∈ lw_all := lw_g (lw_at lw_m3 77 rfl) rfl
theorem q663 : (Jvm.Cond.instanceMethod ({ cls := "LearntReasons", name := "solve", desc := "(I)I" } : Jvm.MethodName)) ∈ lw_all := lw_g (lw_at lw_m3 79 rfl) rfl
theorem q664 : (Jvm.Cond.selects "LearntReasons" ({ cls := "LearntReasons", name := "solve", desc := "(I)I" } : Jvm.MethodName) ({ cls := "LearntReasons", name := "solve", desc := "(I)I" } : Jvm.MethodName)) ∈ lw_all := lw_g (lw_at lw_m3 80 rfl) rfl
theorem q665 : (Jvm.Cond.code ({ cls := "LearntReasons", name := "solve", desc := "(I)I" } : Jvm.MethodName) prog_1_method_15_code (2 : Nat) (Option.some Jvm.ClassFile.FieldType.int)) ∈ lw_all := lw_g (lw_at lw_m3 81 rfl) rfl
theorem q666 : (Jvm.Cond.classLink "LearntReasons" (72 : Nat) "LearntReasons$Search") ∈ lw_all := lw_g (lw_at lw_m3 82 rfl) rfl
theorem q668 : (Jvm.Cond.methodLink "LearntReasons" (74 : Nat) ({ cls := "LearntReasons$Search", name := "<init>", desc := "(LLearntReasons;I)V" } : Jvm.MethodName)) ∈ lw_all := lw_g (lw_at lw_m3 84 rfl) rfl
theorem q720 : (Jvm.Cond.static ({ cls := "LearntReasons", name := "at", desc := "(I)I" } : Jvm.MethodName)) ∈ lw_all := lw_g (lw_at lw_m3 136 rfl) rfl
theorem q721 : (Jvm.Cond.code ({ cls := "LearntReasons", name := "at", desc := "(I)I" } : Jvm.MethodName) prog_1_method_3_code (1 : Nat) (Option.some Jvm.ClassFile.FieldType.int)) ∈ lw_all := lw_g (lw_at lw_m3 137 rfl) rfl
theorem q777 : (Jvm.Cond.fieldLink "LearntReasons" (202 : Nat) "LearntReasons$Trail" "trail" "[I") ∈ lw_all := lw_g (lw_at lw_m3 193 rfl) rfl
theorem q791 : (Jvm.Cond.fieldLink "LearntReasons" (199 : Nat) "LearntReasons$Trail" "many" "I") ∈ lw_all := lw_g (lw_at lw_m3 207 rfl) rfl
theorem q832 : (Jvm.Cond.methodLink "LearntReasons" (77 : Nat) ({ cls := "LearntReasons$Search", name := "goes", desc := "()I" } : Jvm.MethodName)) ∈ lw_all := lw_g (lw_at lw_m4 8 rfl) rfl
theorem q1000 : (Jvm.Cond.instanceMethod ({ cls := "LearntReasons", name := "count", desc := "(I)I" } : Jvm.MethodName)) ∈ lw_all := lw_g (lw_at lw_m4 176 rfl) rfl
theorem q1001 : (Jvm.Cond.selects "LearntReasons" ({ cls := "LearntReasons", name := "count", desc := "(I)I" } : Jvm.MethodName) ({ cls := "LearntReasons", name := "count", desc := "(I)I" } : Jvm.MethodName)) ∈ lw_all := lw_g (lw_at lw_m4 177 rfl) rfl
theorem q1002 : (Jvm.Cond.code ({ cls := "LearntReasons", name := "count", desc := "(I)I" } : Jvm.MethodName) prog_1_method_16_code (5 : Nat) (Option.some Jvm.ClassFile.FieldType.int)) ∈ lw_all := lw_g (lw_at lw_m4 178 rfl) rfl
theorem q1003 : (Jvm.Cond.interfaceEntry "LearntReasons" (84 : Nat)) ∈ lw_tbl := lw_at lw_m4 179 rfl
theorem q1004 : (Jvm.Cond.methodLink "LearntReasons" (84 : Nat) ({ cls := "java/util/List", name := "iterator", desc := "()Ljava/util/Iterator;" } : Jvm.MethodName)) ∈ lw_all := lw_g (lw_at lw_m4 180 rfl) rfl
theorem q1005 : (Jvm.Cond.interfaceEntry "LearntReasons" (90 : Nat)) ∈ lw_tbl := lw_at lw_m4 181 rfl
theorem q1006 : (Jvm.Cond.methodLink "LearntReasons" (90 : Nat) ({ cls := "java/util/Iterator", name := "hasNext", desc := "()Z" } : Jvm.MethodName)) ∈ lw_all := lw_g (lw_at lw_m4 182 rfl) rfl
theorem q1007 : (Jvm.Cond.interfaceEntry "LearntReasons" (96 : Nat)) ∈ lw_tbl := lw_at lw_m4 183 rfl
theorem q1008 : (Jvm.Cond.methodLink "LearntReasons" (96 : Nat) ({ cls := "java/util/Iterator", name := "next", desc := "()Ljava/lang/Object;" } : Jvm.MethodName)) ∈ lw_all := lw_g (lw_at lw_m4 184 rfl) rfl
theorem q1009 : (Jvm.Cond.classLink "LearntReasons" (100 : Nat) "LearntReasons$Clause") ∈ lw_all := lw_g (lw_at lw_m4 185 rfl) rfl
theorem q1010 : (Jvm.Cond.interfaceEntry "LearntReasons" (112 : Nat)) ∈ lw_tbl := lw_at lw_m4 186 rfl
theorem q1011 : (Jvm.Cond.methodLink "LearntReasons" (112 : Nat) ({ cls := "java/util/List", name := "size", desc := "()I" } : Jvm.MethodName)) ∈ lw_all := lw_g (lw_at lw_m4 187 rfl) rfl
theorem q1013 : (Jvm.Cond.instanceMethod ({ cls := "LearntReasons", name := "assumption", desc := "(I)I" } : Jvm.MethodName)) ∈ lw_all := lw_g (lw_at lw_m4 189 rfl) rfl
theorem q1014 : (Jvm.Cond.selects "LearntReasons" ({ cls := "LearntReasons", name := "assumption", desc := "(I)I" } : Jvm.MethodName) ({ cls := "LearntReasons", name := "assumption", desc := "(I)I" } : Jvm.MethodName)) ∈ lw_all := lw_g (lw_at lw_m4 190 rfl) rfl
theorem q1015 : (Jvm.Cond.code ({ cls := "LearntReasons", name := "assumption", desc := "(I)I" } : Jvm.MethodName) prog_1_method_18_code (2 : Nat) (Option.some Jvm.ClassFile.FieldType.int)) ∈ lw_all := lw_g (lw_at lw_m4 191 rfl) rfl
theorem q1017 : (Jvm.Cond.instanceMethod ({ cls := "LearntReasons", name := "model", desc := "(I)I" } : Jvm.MethodName)) ∈ lw_all := lw_g (lw_at lw_m4 193 rfl) rfl
theorem q1018 : (Jvm.Cond.selects "LearntReasons" ({ cls := "LearntReasons", name := "model", desc := "(I)I" } : Jvm.MethodName) ({ cls := "LearntReasons", name := "model", desc := "(I)I" } : Jvm.MethodName)) ∈ lw_all := lw_g (lw_at lw_m4 194 rfl) rfl
theorem q1019 : (Jvm.Cond.code ({ cls := "LearntReasons", name := "model", desc := "(I)I" } : Jvm.MethodName) prog_1_method_19_code (2 : Nat) (Option.some Jvm.ClassFile.FieldType.int)) ∈ lw_all := lw_g (lw_at lw_m4 195 rfl) rfl
theorem q1021 : (Jvm.Cond.instanceMethod ({ cls := "LearntReasons", name := "core", desc := "()I" } : Jvm.MethodName)) ∈ lw_all := lw_g (lw_at lw_m4 197 rfl) rfl
theorem q1022 : (Jvm.Cond.selects "LearntReasons" ({ cls := "LearntReasons", name := "core", desc := "()I" } : Jvm.MethodName) ({ cls := "LearntReasons", name := "core", desc := "()I" } : Jvm.MethodName)) ∈ lw_all := lw_g (lw_at lw_m4 198 rfl) rfl
theorem q1023 : (Jvm.Cond.code ({ cls := "LearntReasons", name := "core", desc := "()I" } : Jvm.MethodName) prog_1_method_20_code (1 : Nat) (Option.some Jvm.ClassFile.FieldType.int)) ∈ lw_all := lw_g (lw_at lw_m4 199 rfl) rfl
theorem q1025 : (Jvm.Cond.instanceMethod ({ cls := "LearntReasons", name := "variable", desc := "(II)I" } : Jvm.MethodName)) ∈ lw_all := lw_g (lw_at lw_m4 201 rfl) rfl
theorem q1026 : (Jvm.Cond.selects "LearntReasons" ({ cls := "LearntReasons", name := "variable", desc := "(II)I" } : Jvm.MethodName) ({ cls := "LearntReasons", name := "variable", desc := "(II)I" } : Jvm.MethodName)) ∈ lw_all := lw_g (lw_at lw_m4 202 rfl) rfl
theorem q1027 : (Jvm.Cond.code ({ cls := "LearntReasons", name := "variable", desc := "(II)I" } : Jvm.MethodName) prog_1_method_21_code (6 : Nat) (Option.some Jvm.ClassFile.FieldType.int)) ∈ lw_all := lw_g (lw_at lw_m4 203 rfl) rfl
theorem q1028 : (Jvm.Cond.methodLink "LearntReasons" (157 : Nat) ({ cls := "LearntReasons$State", name := "isVariable", desc := "(I)Z" } : Jvm.MethodName)) ∈ lw_all := lw_g (lw_at lw_m4 204 rfl) rfl
theorem q1029 : (Jvm.Cond.methodLink "LearntReasons" (160 : Nat) ({ cls := "LearntReasons$Clause", name := "has", desc := "(I)Z" } : Jvm.MethodName)) ∈ lw_all := lw_g (lw_at lw_m4 205 rfl) rfl
theorem q1035 : (Jvm.Cond.instanceMethod ({ cls := "LearntReasons", name := "follows", desc := "(I)I" } : Jvm.MethodName)) ∈ lw_all := lw_g (lw_at lw_m4 211 rfl) rfl
theorem q1036 : (Jvm.Cond.selects "LearntReasons" ({ cls := "LearntReasons", name := "follows", desc := "(I)I" } : Jvm.MethodName) ({ cls := "LearntReasons", name := "follows", desc := "(I)I" } : Jvm.MethodName)) ∈ lw_all := lw_g (lw_at lw_m4 212 rfl) rfl
theorem q1037 : (Jvm.Cond.code ({ cls := "LearntReasons", name := "follows", desc := "(I)I" } : Jvm.MethodName) prog_1_method_25_code (4 : Nat) (Option.some Jvm.ClassFile.FieldType.int)) ∈ lw_all := lw_g (lw_at lw_m4 213 rfl) rfl
theorem q1038 : (Jvm.Cond.classLink "LearntReasons" (189 : Nat) "LearntReasons$Trail") ∈ lw_all := lw_g (lw_at lw_m4 214 rfl) rfl
theorem q1040 : (Jvm.Cond.methodLinkNest "LearntReasons" (191 : Nat) ({ cls := "LearntReasons$Trail", name := "<init>", desc := "()V" } : Jvm.MethodName) "LearntReasons") ∈ lw_tbl := lw_at lw_m4 216 rfl
theorem q1049 : (Jvm.Cond.methodLink "LearntReasons" (192 : Nat) ({ cls := "LearntReasons", name := "literals", desc := "(Z)Ljava/util/List;" } : Jvm.MethodName)) ∈ lw_all := lw_g (lw_at lw_m4 225 rfl) rfl
theorem q1050 : (Jvm.Cond.privateMethod ({ cls := "LearntReasons", name := "literals", desc := "(Z)Ljava/util/List;" } : Jvm.MethodName)) ∈ lw_tbl := lw_at lw_m4 226 rfl
theorem q1051 : (Jvm.Cond.instanceMethod ({ cls := "LearntReasons", name := "literals", desc := "(Z)Ljava/util/List;" } : Jvm.MethodName)) ∈ lw_all := lw_g (lw_at lw_m4 227 rfl) rfl
theorem q1052 : (Jvm.Cond.code ({ cls := "LearntReasons", name := "literals", desc := "(Z)Ljava/util/List;" } : Jvm.MethodName) prog_1_method_23_code (5 : Nat) (Option.some (Jvm.ClassFile.FieldType.object "java/util/List"))) ∈ lw_all := lw_g (lw_at lw_m4 228 rfl) rfl
theorem q1053 : (Jvm.Cond.classLink "LearntReasons" (173 : Nat) "java/util/ArrayList") ∈ lw_all := lw_g (lw_at lw_m4 229 rfl) rfl
theorem q1054 : (Jvm.Cond.methodLink "LearntReasons" (175 : Nat) ({ cls := "java/util/ArrayList", name := "<init>", desc := "(I)V" } : Jvm.MethodName)) ∈ lw_all := lw_g (lw_at lw_m4 230 rfl) rfl
theorem q1055 : (Jvm.Cond.interfaceEntry "LearntReasons" (178 : Nat)) ∈ lw_tbl := lw_at lw_m4 231 rfl
theorem q1056 : (Jvm.Cond.methodLink "LearntReasons" (178 : Nat) ({ cls := "java/util/List", name := "add", desc := "(Ljava/lang/Object;)Z" } : Jvm.MethodName)) ∈ lw_all := lw_g (lw_at lw_m4 232 rfl) rfl
theorem q1057 : (Jvm.Cond.methodLink "LearntReasons" (195 : Nat) ({ cls := "LearntReasons", name := "isWrong", desc := "(LLearntReasons$Trail;Ljava/util/List;)Z" } : Jvm.MethodName)) ∈ lw_all := lw_g (lw_at lw_m4 233 rfl) rfl
theorem q1058 : (Jvm.Cond.static ({ cls := "LearntReasons", name := "isWrong", desc := "(LLearntReasons$Trail;Ljava/util/List;)Z" } : Jvm.MethodName)) ∈ lw_all := lw_g (lw_at lw_m4 234 rfl) rfl
theorem q1059 : (Jvm.Cond.code ({ cls := "LearntReasons", name := "isWrong", desc := "(LLearntReasons$Trail;Ljava/util/List;)Z" } : Jvm.MethodName) prog_1_method_24_code (4 : Nat) (Option.some Jvm.ClassFile.FieldType.boolean)) ∈ lw_all := lw_g (lw_at lw_m4 235 rfl) rfl
theorem q1060 : (Jvm.Cond.static ({ cls := "LearntReasons", name := "lambda$isWrong$0", desc := "(LLearntReasons$Trail;[I)Z" } : Jvm.MethodName)) ∈ lw_all := lw_g (lw_at lw_m4 236 rfl) rfl
theorem q1061 : (Jvm.Cond.code ({ cls := "LearntReasons", name := "lambda$isWrong$0", desc := "(LLearntReasons$Trail;[I)Z" } : Jvm.MethodName) prog_1_method_45_code (3 : Nat) (Option.some Jvm.ClassFile.FieldType.boolean)) ∈ lw_all := lw_g (lw_at lw_m4 237 rfl) rfl
theorem q1062 : (Jvm.Cond.methodLink "LearntReasons" (273 : Nat) ({ cls := "LearntReasons$Trail", name := "unit", desc := "([I)I" } : Jvm.MethodName)) ∈ lw_all := lw_g (lw_at lw_m4 238 rfl) rfl
theorem q1063 : (Jvm.Cond.methodLink "LearntReasons" (208 : Nat) ({ cls := "LearntReasons$Trail", name := "comes", desc := "(ILLearntReasons$Clause;)V" } : Jvm.MethodName)) ∈ lw_all := lw_g (lw_at lw_m4 239 rfl) rfl
theorem q1064 : (Jvm.Cond.methodLink "LearntReasons" (184 : Nat) ({ cls := "LearntReasons", name := "isAny", desc := "(Ljava/util/List;LLearntReasons$Looks;)Z" } : Jvm.MethodName)) ∈ lw_all := lw_g (lw_at lw_m5 0 rfl) rfl
theorem q1065 : (Jvm.Cond.static ({ cls := "LearntReasons", name := "isAny", desc := "(Ljava/util/List;LLearntReasons$Looks;)Z" } : Jvm.MethodName)) ∈ lw_all := lw_g (lw_at lw_m5 1 rfl) rfl
theorem q1066 : (Jvm.Cond.code ({ cls := "LearntReasons", name := "isAny", desc := "(Ljava/util/List;LLearntReasons$Looks;)Z" } : Jvm.MethodName) prog_1_method_22_code (3 : Nat) (Option.some Jvm.ClassFile.FieldType.boolean)) ∈ lw_all := lw_g (lw_at lw_m5 2 rfl) rfl
theorem q1067 : (Jvm.Cond.interfaceEntry "LearntReasons" (137 : Nat)) ∈ lw_tbl := lw_at lw_m5 3 rfl
theorem q1068 : (Jvm.Cond.methodLink "LearntReasons" (137 : Nat) ({ cls := "java/util/List", name := "get", desc := "(I)Ljava/lang/Object;" } : Jvm.MethodName)) ∈ lw_all := lw_g (lw_at lw_m5 4 rfl) rfl
theorem q1069 : (Jvm.Cond.classLink "LearntReasons" (166 : Nat) "[I") ∈ lw_all := lw_g (lw_at lw_m5 5 rfl) rfl
theorem q1070 : (Jvm.Cond.interfaceEntry "LearntReasons" (167 : Nat)) ∈ lw_tbl := lw_at lw_m5 6 rfl
theorem q1071 : (Jvm.Cond.methodLink "LearntReasons" (167 : Nat) ({ cls := "LearntReasons$Looks", name := "at", desc := "([I)Z" } : Jvm.MethodName)) ∈ lw_all := lw_g (lw_at lw_m5 7 rfl) rfl
theorem q1074 : (Jvm.Cond.static ({ cls := "LearntReasons", name := "lambda$isWrong$1", desc := "(LLearntReasons$Trail;[I)Z" } : Jvm.MethodName)) ∈ lw_all := lw_g (lw_at lw_m5 10 rfl) rfl
theorem q1075 : (Jvm.Cond.code ({ cls := "LearntReasons", name := "lambda$isWrong$1", desc := "(LLearntReasons$Trail;[I)Z" } : Jvm.MethodName) prog_1_method_44_code (2 : Nat) (Option.some Jvm.ClassFile.FieldType.boolean)) ∈ lw_all := lw_g (lw_at lw_m5 11 rfl) rfl
theorem q1076 : (Jvm.Cond.methodLink "LearntReasons" (270 : Nat) ({ cls := "LearntReasons$Trail", name := "areFalse", desc := "([I)Z" } : Jvm.MethodName)) ∈ lw_all := lw_g (lw_at lw_m5 12 rfl) rfl
theorem q1083 : (Jvm.Cond.instanceMethod ({ cls := "LearntReasons", name := "line", desc := "(II)I" } : Jvm.MethodName)) ∈ lw_all := lw_g (lw_at lw_m5 19 rfl) rfl
theorem q1084 : (Jvm.Cond.selects "LearntReasons" ({ cls := "LearntReasons", name := "line", desc := "(II)I" } : Jvm.MethodName) ({ cls := "LearntReasons", name := "line", desc := "(II)I" } : Jvm.MethodName)) ∈ lw_all := lw_g (lw_at lw_m5 20 rfl) rfl
theorem q1085 : (Jvm.Cond.code ({ cls := "LearntReasons", name := "line", desc := "(II)I" } : Jvm.MethodName) prog_1_method_26_code (4 : Nat) (Option.some Jvm.ClassFile.FieldType.int)) ∈ lw_all := lw_g (lw_at lw_m5 21 rfl) rfl
theorem q1087 : (Jvm.Cond.instanceMethod ({ cls := "LearntReasons", name := "proof", desc := "()I" } : Jvm.MethodName)) ∈ lw_all := lw_g (lw_at lw_m5 23 rfl) rfl
theorem q1088 : (Jvm.Cond.selects "LearntReasons" ({ cls := "LearntReasons", name := "proof", desc := "()I" } : Jvm.MethodName) ({ cls := "LearntReasons", name := "proof", desc := "()I" } : Jvm.MethodName)) ∈ lw_all := lw_g (lw_at lw_m5 24 rfl) rfl
theorem q1089 : (Jvm.Cond.code ({ cls := "LearntReasons", name := "proof", desc := "()I" } : Jvm.MethodName) prog_1_method_29_code (2 : Nat) (Option.some Jvm.ClassFile.FieldType.int)) ∈ lw_all := lw_g (lw_at lw_m5 25 rfl) rfl
theorem q1090 : (Jvm.Cond.methodLink "LearntReasons" (216 : Nat) ({ cls := "LearntReasons", name := "accepted", desc := "(Ljava/util/List;)I" } : Jvm.MethodName)) ∈ lw_all := lw_g (lw_at lw_m5 26 rfl) rfl
theorem q1091 : (Jvm.Cond.privateMethod ({ cls := "LearntReasons", name := "accepted", desc := "(Ljava/util/List;)I" } : Jvm.MethodName)) ∈ lw_tbl := lw_at lw_m5 27 rfl
theorem q1092 : (Jvm.Cond.instanceMethod ({ cls := "LearntReasons", name := "accepted", desc := "(Ljava/util/List;)I" } : Jvm.MethodName)) ∈ lw_all := lw_g (lw_at lw_m5 28 rfl) rfl
theorem q1093 : (Jvm.Cond.code ({ cls := "LearntReasons", name := "accepted", desc := "(Ljava/util/List;)I" } : Jvm.MethodName) prog_1_method_28_code (5 : Nat) (Option.some Jvm.ClassFile.FieldType.int)) ∈ lw_all := lw_g (lw_at lw_m5 29 rfl) rfl
theorem q1094 : (Jvm.Cond.methodLink "LearntReasons" (212 : Nat) ({ cls := "LearntReasons", name := "isAccepted", desc := "(LLearntReasons$Trail;Ljava/util/List;[I)Z" } : Jvm.MethodName)) ∈ lw_all := lw_g (lw_at lw_m5 30 rfl) rfl
theorem q1095 : (Jvm.Cond.static ({ cls := "LearntReasons", name := "isAccepted", desc := "(LLearntReasons$Trail;Ljava/util/List;[I)Z" } : Jvm.MethodName)) ∈ lw_all := lw_g (lw_at lw_m5 31 rfl) rfl
theorem q1096 : (Jvm.Cond.code ({ cls := "LearntReasons", name := "isAccepted", desc := "(LLearntReasons$Trail;Ljava/util/List;[I)Z" } : Jvm.MethodName) prog_1_method_27_code (7 : Nat) (Option.some Jvm.ClassFile.FieldType.boolean)) ∈ lw_all := lw_g (lw_at lw_m5 32 rfl) rfl
theorem q1097 : (Jvm.Cond.methodLink "LearntReasons" (205 : Nat) ({ cls := "LearntReasons$Trail", name := "leaves", desc := "()I" } : Jvm.MethodName)) ∈ lw_all := lw_g (lw_at lw_m5 33 rfl) rfl
theorem q1099 : (Jvm.Cond.instanceMethod ({ cls := "LearntReasons", name := "refute", desc := "()I" } : Jvm.MethodName)) ∈ lw_all := lw_g (lw_at lw_m5 35 rfl) rfl
theorem q1100 : (Jvm.Cond.selects "LearntReasons" ({ cls := "LearntReasons", name := "refute", desc := "()I" } : Jvm.MethodName) ({ cls := "LearntReasons", name := "refute", desc := "()I" } : Jvm.MethodName)) ∈ lw_all := lw_g (lw_at lw_m5 36 rfl) rfl
theorem q1101 : (Jvm.Cond.codeWith ({ cls := "LearntReasons", name := "refute", desc := "()I" } : Jvm.MethodName) prog_1_method_30_code (6 : Nat) (Option.some Jvm.ClassFile.FieldType.int) [((9 : Nat), (84 : Nat), (92 : Nat), (235 : Nat)), ((9 : Nat), (84 : Nat), (110 : Nat), (0 : Nat)), ((92 : Nat), (103 : Nat), (110 : Nat), (0 : Nat)), ((110 : Nat), (112 : Nat), (110 : Nat), (0 : Nat))]) ∈ lw_all := lw_g (lw_at lw_m5 37 rfl) rfl
theorem q1102 : (Jvm.Cond.classLink "LearntReasons" (235 : Nat) "LearntReasons$Fault") ∈ lw_all := lw_g (lw_at lw_m5 38 rfl) rfl
theorem q1103 : (Jvm.Cond.classLink "LearntReasons" (220 : Nat) "LearntReasons$Reader") ∈ lw_all := lw_g (lw_at lw_m5 39 rfl) rfl
theorem q1105 : (Jvm.Cond.methodLinkNest "LearntReasons" (222 : Nat) ({ cls := "LearntReasons$Reader", name := "<init>", desc := "(LLearntReasons;)V" } : Jvm.MethodName) "LearntReasons") ∈ lw_tbl := lw_at lw_m5 41 rfl
theorem q1151 : (Jvm.Cond.fieldLinkNest "LearntReasons" (237 : Nat) "LearntReasons$Fault" "told" "I" "LearntReasons") ∈ lw_tbl := lw_at lw_m5 87 rfl
theorem q1195 : (Jvm.Cond.fieldLinkNest "LearntReasons" (263 : Nat) "LearntReasons$Reader" "draft" "LLearntReasons$State;" "LearntReasons") ∈ lw_tbl := lw_at lw_m5 131 rfl
theorem q1214 : (Jvm.Cond.methodLink "LearntReasons" (225 : Nat) ({ cls := "LearntReasons$Reader", name := "lines", desc := "()Ljava/util/List;" } : Jvm.MethodName)) ∈ lw_all := lw_g (lw_at lw_m5 150 rfl) rfl
theorem q1224 : (Jvm.Cond.instanceMethod ({ cls := "LearntReasons", name := "closed", desc := "()I" } : Jvm.MethodName)) ∈ lw_all := lw_g (lw_at lw_m5 160 rfl) rfl
theorem q1225 : (Jvm.Cond.selects "LearntReasons" ({ cls := "LearntReasons", name := "closed", desc := "()I" } : Jvm.MethodName) ({ cls := "LearntReasons", name := "closed", desc := "()I" } : Jvm.MethodName)) ∈ lw_all := lw_g (lw_at lw_m5 161 rfl) rfl
theorem q1226 : (Jvm.Cond.code ({ cls := "LearntReasons", name := "closed", desc := "()I" } : Jvm.MethodName) prog_1_method_31_code (1 : Nat) (Option.some Jvm.ClassFile.FieldType.int)) ∈ lw_all := lw_g (lw_at lw_m5 162 rfl) rfl
theorem q1228 : (Jvm.Cond.instanceMethod ({ cls := "LearntReasons", name := "models", desc := "()I" } : Jvm.MethodName)) ∈ lw_all := lw_g (lw_at lw_m5 164 rfl) rfl
theorem q1229 : (Jvm.Cond.selects "LearntReasons" ({ cls := "LearntReasons", name := "models", desc := "()I" } : Jvm.MethodName) ({ cls := "LearntReasons", name := "models", desc := "()I" } : Jvm.MethodName)) ∈ lw_all := lw_g (lw_at lw_m5 165 rfl) rfl
theorem q1230 : (Jvm.Cond.code ({ cls := "LearntReasons", name := "models", desc := "()I" } : Jvm.MethodName) prog_1_method_34_code (2 : Nat) (Option.some Jvm.ClassFile.FieldType.int)) ∈ lw_all := lw_g (lw_at lw_m5 166 rfl) rfl
theorem q1231 : (Jvm.Cond.static ({ cls := "LearntReasons", name := "lambda$models$3", desc := "([II)V" } : Jvm.MethodName)) ∈ lw_all := lw_g (lw_at lw_m5 167 rfl) rfl
theorem q1232 : (Jvm.Cond.code ({ cls := "LearntReasons", name := "lambda$models$3", desc := "([II)V" } : Jvm.MethodName) prog_1_method_42_code (2 : Nat) (Option.none : Option Jvm.ClassFile.FieldType)) ∈ lw_all := lw_g (lw_at lw_m5 168 rfl) rfl
theorem q1233 : (Jvm.Cond.methodLink "LearntReasons" (249 : Nat) ({ cls := "LearntReasons", name := "models", desc := "(LLearntReasons$Model;)V" } : Jvm.MethodName)) ∈ lw_all := lw_g (lw_at lw_m5 169 rfl) rfl
theorem q1234 : (Jvm.Cond.privateMethod ({ cls := "LearntReasons", name := "models", desc := "(LLearntReasons$Model;)V" } : Jvm.MethodName)) ∈ lw_tbl := lw_at lw_m5 170 rfl
theorem q1235 : (Jvm.Cond.instanceMethod ({ cls := "LearntReasons", name := "models", desc := "(LLearntReasons$Model;)V" } : Jvm.MethodName)) ∈ lw_all := lw_g (lw_at lw_m5 171 rfl) rfl
theorem q1236 : (Jvm.Cond.code ({ cls := "LearntReasons", name := "models", desc := "(LLearntReasons$Model;)V" } : Jvm.MethodName) prog_1_method_33_code (5 : Nat) (Option.none : Option Jvm.ClassFile.FieldType)) ∈ lw_all := lw_g (lw_at lw_m5 172 rfl) rfl
theorem q1237 : (Jvm.Cond.static ({ cls := "LearntReasons", name := "lambda$models$2", desc := "([I[I)Z" } : Jvm.MethodName)) ∈ lw_all := lw_g (lw_at lw_m5 173 rfl) rfl
theorem q1238 : (Jvm.Cond.code ({ cls := "LearntReasons", name := "lambda$models$2", desc := "([I[I)Z" } : Jvm.MethodName) prog_1_method_43_code (2 : Nat) (Option.some Jvm.ClassFile.FieldType.boolean)) ∈ lw_all := lw_g (lw_at lw_m5 174 rfl) rfl
theorem q1239 : (Jvm.Cond.methodLink "LearntReasons" (266 : Nat) ({ cls := "LearntReasons", name := "isMissed", desc := "(I[I)Z" } : Jvm.MethodName)) ∈ lw_all := lw_g (lw_at lw_m5 175 rfl) rfl
theorem q1240 : (Jvm.Cond.static ({ cls := "LearntReasons", name := "isMissed", desc := "(I[I)Z" } : Jvm.MethodName)) ∈ lw_all := lw_g (lw_at lw_m5 176 rfl) rfl
theorem q1241 : (Jvm.Cond.code ({ cls := "LearntReasons", name := "isMissed", desc := "(I[I)Z" } : Jvm.MethodName) prog_1_method_32_code (6 : Nat) (Option.some Jvm.ClassFile.FieldType.boolean)) ∈ lw_all := lw_g (lw_at lw_m5 177 rfl) rfl
theorem q1242 : (Jvm.Cond.interfaceEntry "LearntReasons" (241 : Nat)) ∈ lw_tbl := lw_at lw_m5 178 rfl
theorem q1243 : (Jvm.Cond.methodLink "LearntReasons" (241 : Nat) ({ cls := "LearntReasons$Model", name := "is", desc := "(I)V" } : Jvm.MethodName)) ∈ lw_all := lw_g (lw_at lw_m5 179 rfl) rfl
theorem q1247 : (Jvm.Cond.instanceMethod ({ cls := "LearntReasons", name := "fixed", desc := "(Z)I" } : Jvm.MethodName)) ∈ lw_all := lw_g (lw_at lw_m5 183 rfl) rfl
theorem q1248 : (Jvm.Cond.selects "LearntReasons" ({ cls := "LearntReasons", name := "fixed", desc := "(Z)I" } : Jvm.MethodName) ({ cls := "LearntReasons", name := "fixed", desc := "(Z)I" } : Jvm.MethodName)) ∈ lw_all := lw_g (lw_at lw_m5 184 rfl) rfl
theorem q1249 : (Jvm.Cond.code ({ cls := "LearntReasons", name := "fixed", desc := "(Z)I" } : Jvm.MethodName) prog_1_method_35_code (4 : Nat) (Option.some Jvm.ClassFile.FieldType.int)) ∈ lw_all := lw_g (lw_at lw_m5 185 rfl) rfl
theorem q1250 : (Jvm.Cond.static ({ cls := "LearntReasons", name := "lambda$fixed$4", desc := "([IZII)V" } : Jvm.MethodName)) ∈ lw_all := lw_g (lw_at lw_m5 186 rfl) rfl
theorem q1251 : (Jvm.Cond.code ({ cls := "LearntReasons", name := "lambda$fixed$4", desc := "([IZII)V" } : Jvm.MethodName) prog_1_method_41_code (4 : Nat) (Option.none : Option Jvm.ClassFile.FieldType)) ∈ lw_all := lw_g (lw_at lw_m5 187 rfl) rfl
theorem q1253 : (Jvm.Cond.instanceMethod ({ cls := "LearntReasons", name := "feed", desc := "(IIIII)I" } : Jvm.MethodName)) ∈ lw_all := lw_g (lw_at lw_m5 189 rfl) rfl
theorem q1254 : (Jvm.Cond.selects "LearntReasons" ({ cls := "LearntReasons", name := "feed", desc := "(IIIII)I" } : Jvm.MethodName) ({ cls := "LearntReasons", name := "feed", desc := "(IIIII)I" } : Jvm.MethodName)) ∈ lw_all := lw_g (lw_at lw_m5 190 rfl) rfl
theorem q1255 : (Jvm.Cond.code ({ cls := "LearntReasons", name := "feed", desc := "(IIIII)I" } : Jvm.MethodName) prog_1_method_37_code (6 : Nat) (Option.some Jvm.ClassFile.FieldType.int)) ∈ lw_all := lw_g (lw_at lw_m5 191 rfl) rfl
theorem q1256 : (Jvm.Cond.methodLink "LearntReasons" (256 : Nat) ({ cls := "LearntReasons", name := "put", desc := "([I)V" } : Jvm.MethodName)) ∈ lw_all := lw_g (lw_at lw_m5 192 rfl) rfl
theorem q1257 : (Jvm.Cond.privateMethod ({ cls := "LearntReasons", name := "put", desc := "([I)V" } : Jvm.MethodName)) ∈ lw_tbl := lw_at lw_m5 193 rfl
theorem q1258 : (Jvm.Cond.instanceMethod ({ cls := "LearntReasons", name := "put", desc := "([I)V" } : Jvm.MethodName)) ∈ lw_all := lw_g (lw_at lw_m5 194 rfl) rfl
theorem q1259 : (Jvm.Cond.code ({ cls := "LearntReasons", name := "put", desc := "([I)V" } : Jvm.MethodName) prog_1_method_36_code (7 : Nat) (Option.none : Option Jvm.ClassFile.FieldType)) ∈ lw_all := lw_g (lw_at lw_m5 195 rfl) rfl
theorem q1261 : (Jvm.Cond.instanceMethod ({ cls := "LearntReasons", name := "end", desc := "(I)Z" } : Jvm.MethodName)) ∈ lw_all := lw_g (lw_at lw_m5 197 rfl) rfl
theorem q1262 : (Jvm.Cond.selects "LearntReasons" ({ cls := "LearntReasons", name := "end", desc := "(I)Z" } : Jvm.MethodName) ({ cls := "LearntReasons", name := "end", desc := "(I)Z" } : Jvm.MethodName)) ∈ lw_all := lw_g (lw_at lw_m5 198 rfl) rfl
theorem q1263 : (Jvm.Cond.code ({ cls := "LearntReasons", name := "end", desc := "(I)Z" } : Jvm.MethodName) prog_1_method_38_code (2 : Nat) (Option.some Jvm.ClassFile.FieldType.boolean)) ∈ lw_all := lw_g (lw_at lw_m5 199 rfl) rfl
theorem q1265 : (Jvm.Cond.instanceMethod ({ cls := "LearntReasons", name := "tell", desc := "()I" } : Jvm.MethodName)) ∈ lw_all := lw_g (lw_at lw_m5 201 rfl) rfl
theorem q1266 : (Jvm.Cond.selects "LearntReasons" ({ cls := "LearntReasons", name := "tell", desc := "()I" } : Jvm.MethodName) ({ cls := "LearntReasons", name := "tell", desc := "()I" } : Jvm.MethodName)) ∈ lw_all := lw_g (lw_at lw_m5 202 rfl) rfl
theorem q1267 : (Jvm.Cond.codeWith ({ cls := "LearntReasons", name := "tell", desc := "()I" } : Jvm.MethodName) prog_1_method_39_code (5 : Nat) (Option.some Jvm.ClassFile.FieldType.int) [((9 : Nat), (29 : Nat), (36 : Nat), (235 : Nat)), ((9 : Nat), (29 : Nat), (54 : Nat), (0 : Nat)), ((36 : Nat), (47 : Nat), (54 : Nat), (0 : Nat)), ((54 : Nat), (56 : Nat), (54 : Nat), (0 : Nat))]) ∈ lw_all := lw_g (lw_at lw_m5 203 rfl) rfl
theorem q1268 : (Jvm.Cond.methodLink "LearntReasons" (260 : Nat) ({ cls := "LearntReasons$Reader", name := "text", desc := "()I" } : Jvm.MethodName)) ∈ lw_all := lw_g (lw_at lw_m5 204 rfl) rfl
theorem q1466 : (Jvm.Cond.instanceMethod ({ cls := "LearntReasons", name := "fault", desc := "()I" } : Jvm.MethodName)) ∈ lw_all := lw_g (lw_at lw_m6 162 rfl) rfl
theorem q1467 : (Jvm.Cond.selects "LearntReasons" ({ cls := "LearntReasons", name := "fault", desc := "()I" } : Jvm.MethodName) ({ cls := "LearntReasons", name := "fault", desc := "()I" } : Jvm.MethodName)) ∈ lw_all := lw_g (lw_at lw_m6 163 rfl) rfl
theorem q1468 : (Jvm.Cond.code ({ cls := "LearntReasons", name := "fault", desc := "()I" } : Jvm.MethodName) prog_1_method_40_code (1 : Nat) (Option.some Jvm.ClassFile.FieldType.int)) ∈ lw_all := lw_g (lw_at lw_m6 164 rfl) rfl
theorem q1474 : (Jvm.Cond.instanceMethod ({ cls := "LearntReasons", name := "clause", desc := "(II)I" } : Jvm.MethodName)) ∈ lw_all := lw_g (lw_at lw_m6 170 rfl) rfl
theorem q1475 : (Jvm.Cond.selects "LearntReasons" ({ cls := "LearntReasons", name := "clause", desc := "(II)I" } : Jvm.MethodName) ({ cls := "LearntReasons", name := "clause", desc := "(II)I" } : Jvm.MethodName)) ∈ lw_all := lw_g (lw_at lw_m6 171 rfl) rfl
theorem q1476 : (Jvm.Cond.code ({ cls := "LearntReasons", name := "clause", desc := "(II)I" } : Jvm.MethodName) prog_1_method_17_code (4 : Nat) (Option.some Jvm.ClassFile.FieldType.int)) ∈ lw_all := lw_g (lw_at lw_m6 172 rfl) rfl
theorem q1477 : (Jvm.Cond.methodLink "LearntReasons" (141 : Nat) ({ cls := "LearntReasons$Clause", name := "size", desc := "()I" } : Jvm.MethodName)) ∈ lw_all := lw_g (lw_at lw_m6 173 rfl) rfl
theorem q1478 : (Jvm.Cond.classLink "LearntReasons" (142 : Nat) "java/util/NoSuchElementException") ∈ lw_all := lw_g (lw_at lw_m6 174 rfl) rfl
theorem q1479 : (Jvm.Cond.methodLink "LearntReasons" (144 : Nat) ({ cls := "java/util/NoSuchElementException", name := "<init>", desc := "()V" } : Jvm.MethodName)) ∈ lw_all := lw_g (lw_at lw_m6 175 rfl) rfl
theorem q1938 : (Jvm.Cond.castable "LearntReasons" "java/lang/Object") ∈ lw_tbl := lw_at lw_m8 154 rfl
theorem in_X1 : ∀ w ∈ wsX10, w ∈ lw_all := lw_in wsX10 [279, 281, 283, 285, 287] (by decide +kernel) (by decide +kernel)

/-! LearntReasons$State -/
set_option maxRecDepth 100000
def RX2 : String := "LearntReasons$State"
def TX2 : u_T := fun k => match k with
  | 0 => ("LearntReasons$State", "clauses", "Ljava/util/List;", true)
  | 1 => ("LearntReasons$State", "log", "Ljava/util/List;", true)
  | 2 => ("LearntReasons$State", "assumed", "[I", true)
  | 3 => ("LearntReasons$State", "scores", "[I", true)
  | 4 => ("LearntReasons$State", "counts", "[I", true)
  | 5 => ("LearntReasons$State", "open", "[I", true)
  | 6 => ("LearntReasons$State", "phases", "[Z", true)
  | 7 => ("LearntReasons$State", "variables", "I", false)
  | 8 => ("LearntReasons$State", "told", "I", false)
  | 9 => ("LearntReasons$State", "assumptions", "I", false)
  | 10 => ("LearntReasons$State", "opened", "I", false)
  | 11 => ("LearntReasons$State", "unit", "I", false)
  | 12 => ("LearntReasons$State", "ended", "I", false)
  | 13 => ("LearntReasons$State", "core", "I", false)
  | 14 => ("LearntReasons$State", "closed", "I", false)
  | 15 => ("LearntReasons$State", "model", "[I", false)
  | _ => ("LearntReasons$State", "isRefuted", "Z", false)
def tyX2 : Nat → FieldType := fun k => match k with
  | 0 => .object "java/util/List"
  | 1 => .object "java/util/List"
  | 2 => .array .int
  | 3 => .array .int
  | 4 => .array .int
  | 5 => .array .int
  | 6 => .array .boolean
  | 7 => .int
  | 8 => .int
  | 9 => .int
  | 10 => .int
  | 11 => .int
  | 12 => .int
  | 13 => .int
  | 14 => .int
  | 15 => .array .int
  | _ => .boolean
abbrev wsX20 : List Cond := u_ws RX2 TX2 17
set_option maxRecDepth 100000 in
theorem nmX2 : ∀ a, a < 17 → ∀ b, b < 17 → a ≠ b → (TX2 a).2.1 ≠ (TX2 b).2.1 := by decide +kernel
set_option maxRecDepth 100000 in
theorem tyX2_ok : ∀ k, k < 17 → parseFieldDescriptor (TX2 k).2.2.1 = some (tyX2 k) := by decide +kernel
abbrev cX2_init : ByteArray := prog_8_method_1_code
def yX2_init : MethodName := ⟨RX2, "<init>", "()V"⟩
def dkwX2_init_3 : List UInt8 := [181, 0, 40, 42, 2, 181, 0, 44, 42, 2, 181, 0, 47, 42, 3, 188, 10, 181, 0, 50, 177]
abbrev dktX2_init_3 : List UInt8 := dkwX2_init_3 ++ []
def dkwX2_init_2 : List UInt8 := [188, 10, 181, 0, 30, 42, 16, 8, 188, 10, 181, 0, 33, 42, 16, 31, 188, 4, 181, 0, 36, 42, 2]
abbrev dktX2_init_2 : List UInt8 := dkwX2_init_2 ++ dktX2_init_3
def dkwX2_init_1 : List UInt8 := [183, 0, 11, 181, 0, 20, 42, 16, 8, 188, 10, 181, 0, 23, 42, 16, 31, 188, 10, 181, 0, 27, 42, 7]
abbrev dktX2_init_1 : List UInt8 := dkwX2_init_1 ++ dktX2_init_2
def dkwX2_init_0 : List UInt8 := [42, 183, 0, 3, 42, 187, 0, 9, 89, 16, 8, 183, 0, 11, 181, 0, 14, 42, 187, 0, 9, 89, 7]
abbrev dktX2_init_0 : List UInt8 := dkwX2_init_0 ++ dktX2_init_1
theorem dksX2_init_0 : cX2_init.data.toList.drop 0 = dktX2_init_0 := by decide +kernel
theorem dksX2_init_1 : cX2_init.data.toList.drop 23 = dktX2_init_1 := dk_seg dksX2_init_0 23 rfl rfl
theorem dksX2_init_2 : cX2_init.data.toList.drop 47 = dktX2_init_2 := dk_seg dksX2_init_1 24 rfl rfl
theorem dksX2_init_3 : cX2_init.data.toList.drop 70 = dktX2_init_3 := dk_seg dksX2_init_2 23 rfl rfl
theorem dX2_init_0 : decode cX2_init 0 = .ok (.aload_n 0, 1) := dk_42 (dk_at dksX2_init_0 0 rfl rfl)
theorem dX2_init_1 : decode cX2_init 1 = .ok (.invokespecial 3, 3) := dk_183 0 3 (dk_at dksX2_init_0 1 rfl rfl)
theorem dX2_init_4 : decode cX2_init 4 = .ok (.aload_n 0, 1) := dk_42 (dk_at dksX2_init_0 4 rfl rfl)
theorem dX2_init_5 : decode cX2_init 5 = .ok (.new 9, 3) := dk_187 0 9 (dk_at dksX2_init_0 5 rfl rfl)
theorem dX2_init_8 : decode cX2_init 8 = .ok (.dup, 1) := dk_89 (dk_at dksX2_init_0 8 rfl rfl)
theorem dX2_init_9 : decode cX2_init 9 = .ok (.bipush 8, 2) := dk_16 8 (dk_at dksX2_init_0 9 rfl rfl)
theorem dX2_init_11 : decode cX2_init 11 = .ok (.invokespecial 11, 3) := dk_183 0 11 (dk_at dksX2_init_0 11 rfl rfl)
theorem dX2_init_14 : decode cX2_init 14 = .ok (.putfield 14, 3) := dk_181 0 14 (dk_at dksX2_init_0 14 rfl rfl)
theorem dX2_init_17 : decode cX2_init 17 = .ok (.aload_n 0, 1) := dk_42 (dk_at dksX2_init_0 17 rfl rfl)
theorem dX2_init_18 : decode cX2_init 18 = .ok (.new 9, 3) := dk_187 0 9 (dk_at dksX2_init_0 18 rfl rfl)
theorem dX2_init_21 : decode cX2_init 21 = .ok (.dup, 1) := dk_89 (dk_at dksX2_init_0 21 rfl rfl)
theorem dX2_init_22 : decode cX2_init 22 = .ok (.iconst 4, 1) := dk_7 (dk_at dksX2_init_0 22 rfl rfl)
theorem dX2_init_23 : decode cX2_init 23 = .ok (.invokespecial 11, 3) := dk_183 0 11 (dk_at dksX2_init_1 0 rfl rfl)
theorem dX2_init_26 : decode cX2_init 26 = .ok (.putfield 20, 3) := dk_181 0 20 (dk_at dksX2_init_1 3 rfl rfl)
theorem dX2_init_29 : decode cX2_init 29 = .ok (.aload_n 0, 1) := dk_42 (dk_at dksX2_init_1 6 rfl rfl)
theorem dX2_init_30 : decode cX2_init 30 = .ok (.bipush 8, 2) := dk_16 8 (dk_at dksX2_init_1 7 rfl rfl)
theorem dX2_init_32 : decode cX2_init 32 = .ok (.newarray .int, 2) := dk_188_10 (dk_at dksX2_init_1 9 rfl rfl)
theorem dX2_init_34 : decode cX2_init 34 = .ok (.putfield 23, 3) := dk_181 0 23 (dk_at dksX2_init_1 11 rfl rfl)
theorem dX2_init_37 : decode cX2_init 37 = .ok (.aload_n 0, 1) := dk_42 (dk_at dksX2_init_1 14 rfl rfl)
theorem dX2_init_38 : decode cX2_init 38 = .ok (.bipush 31, 2) := dk_16 31 (dk_at dksX2_init_1 15 rfl rfl)
theorem dX2_init_40 : decode cX2_init 40 = .ok (.newarray .int, 2) := dk_188_10 (dk_at dksX2_init_1 17 rfl rfl)
theorem dX2_init_42 : decode cX2_init 42 = .ok (.putfield 27, 3) := dk_181 0 27 (dk_at dksX2_init_1 19 rfl rfl)
theorem dX2_init_45 : decode cX2_init 45 = .ok (.aload_n 0, 1) := dk_42 (dk_at dksX2_init_1 22 rfl rfl)
theorem dX2_init_46 : decode cX2_init 46 = .ok (.iconst 4, 1) := dk_7 (dk_at dksX2_init_1 23 rfl rfl)
theorem dX2_init_47 : decode cX2_init 47 = .ok (.newarray .int, 2) := dk_188_10 (dk_at dksX2_init_2 0 rfl rfl)
theorem dX2_init_49 : decode cX2_init 49 = .ok (.putfield 30, 3) := dk_181 0 30 (dk_at dksX2_init_2 2 rfl rfl)
theorem dX2_init_52 : decode cX2_init 52 = .ok (.aload_n 0, 1) := dk_42 (dk_at dksX2_init_2 5 rfl rfl)
theorem dX2_init_53 : decode cX2_init 53 = .ok (.bipush 8, 2) := dk_16 8 (dk_at dksX2_init_2 6 rfl rfl)
theorem dX2_init_55 : decode cX2_init 55 = .ok (.newarray .int, 2) := dk_188_10 (dk_at dksX2_init_2 8 rfl rfl)
theorem dX2_init_57 : decode cX2_init 57 = .ok (.putfield 33, 3) := dk_181 0 33 (dk_at dksX2_init_2 10 rfl rfl)
theorem dX2_init_60 : decode cX2_init 60 = .ok (.aload_n 0, 1) := dk_42 (dk_at dksX2_init_2 13 rfl rfl)
theorem dX2_init_61 : decode cX2_init 61 = .ok (.bipush 31, 2) := dk_16 31 (dk_at dksX2_init_2 14 rfl rfl)
theorem dX2_init_63 : decode cX2_init 63 = .ok (.newarray .boolean, 2) := dk_188_4 (dk_at dksX2_init_2 16 rfl rfl)
theorem dX2_init_65 : decode cX2_init 65 = .ok (.putfield 36, 3) := dk_181 0 36 (dk_at dksX2_init_2 18 rfl rfl)
theorem dX2_init_68 : decode cX2_init 68 = .ok (.aload_n 0, 1) := dk_42 (dk_at dksX2_init_2 21 rfl rfl)
theorem dX2_init_69 : decode cX2_init 69 = .ok (.iconst (-1), 1) := dk_2 (dk_at dksX2_init_2 22 rfl rfl)
theorem dX2_init_70 : decode cX2_init 70 = .ok (.putfield 40, 3) := dk_181 0 40 (dk_at dksX2_init_3 0 rfl rfl)
theorem dX2_init_73 : decode cX2_init 73 = .ok (.aload_n 0, 1) := dk_42 (dk_at dksX2_init_3 3 rfl rfl)
theorem dX2_init_74 : decode cX2_init 74 = .ok (.iconst (-1), 1) := dk_2 (dk_at dksX2_init_3 4 rfl rfl)
theorem dX2_init_75 : decode cX2_init 75 = .ok (.putfield 44, 3) := dk_181 0 44 (dk_at dksX2_init_3 5 rfl rfl)
theorem dX2_init_78 : decode cX2_init 78 = .ok (.aload_n 0, 1) := dk_42 (dk_at dksX2_init_3 8 rfl rfl)
theorem dX2_init_79 : decode cX2_init 79 = .ok (.iconst (-1), 1) := dk_2 (dk_at dksX2_init_3 9 rfl rfl)
theorem dX2_init_80 : decode cX2_init 80 = .ok (.putfield 47, 3) := dk_181 0 47 (dk_at dksX2_init_3 10 rfl rfl)
theorem dX2_init_83 : decode cX2_init 83 = .ok (.aload_n 0, 1) := dk_42 (dk_at dksX2_init_3 13 rfl rfl)
theorem dX2_init_84 : decode cX2_init 84 = .ok (.iconst 0, 1) := dk_3 (dk_at dksX2_init_3 14 rfl rfl)
theorem dX2_init_85 : decode cX2_init 85 = .ok (.newarray .int, 2) := dk_188_10 (dk_at dksX2_init_3 15 rfl rfl)
theorem dX2_init_87 : decode cX2_init 87 = .ok (.putfield 50, 3) := dk_181 0 50 (dk_at dksX2_init_3 17 rfl rfl)
theorem dX2_init_90 : decode cX2_init 90 = .ok (.return_, 1) := dk_177 (dk_at dksX2_init_3 20 rfl rfl)
abbrev cX2_grow : ByteArray := prog_8_method_8_code
def yX2_grow : MethodName := ⟨RX2, "grow", "(I)I"⟩
def dkwX2_grow_1 : List UInt8 := [181, 0, 90, 42, 180, 0, 90, 172]
abbrev dktX2_grow_1 : List UInt8 := dkwX2_grow_1 ++ []
def dkwX2_grow_0 : List UInt8 := [27, 4, 16, 30, 42, 180, 0, 90, 100, 184, 0, 109, 154, 0, 5, 2, 172, 42, 89, 180, 0, 90, 27, 96]
abbrev dktX2_grow_0 : List UInt8 := dkwX2_grow_0 ++ dktX2_grow_1
theorem dksX2_grow_0 : cX2_grow.data.toList.drop 0 = dktX2_grow_0 := by decide +kernel
theorem dksX2_grow_1 : cX2_grow.data.toList.drop 24 = dktX2_grow_1 := dk_seg dksX2_grow_0 24 rfl rfl
theorem dX2_grow_0 : decode cX2_grow 0 = .ok (.iload_n 1, 1) := dk_27 (dk_at dksX2_grow_0 0 rfl rfl)
theorem dX2_grow_1 : decode cX2_grow 1 = .ok (.iconst 1, 1) := dk_4 (dk_at dksX2_grow_0 1 rfl rfl)
theorem dX2_grow_2 : decode cX2_grow 2 = .ok (.bipush 30, 2) := dk_16 30 (dk_at dksX2_grow_0 2 rfl rfl)
theorem dX2_grow_4 : decode cX2_grow 4 = .ok (.aload_n 0, 1) := dk_42 (dk_at dksX2_grow_0 4 rfl rfl)
theorem dX2_grow_5 : decode cX2_grow 5 = .ok (.getfield 90, 3) := dk_180 0 90 (dk_at dksX2_grow_0 5 rfl rfl)
theorem dX2_grow_8 : decode cX2_grow 8 = .ok (.isub, 1) := dk_100 (dk_at dksX2_grow_0 8 rfl rfl)
theorem dX2_grow_9 : decode cX2_grow 9 = .ok (.invokestatic 109, 3) := dk_184 0 109 (dk_at dksX2_grow_0 9 rfl rfl)
theorem dX2_grow_12 : decode cX2_grow 12 = .ok (.ifCond .ne 5, 3) := dk_154 0 5 (dk_at dksX2_grow_0 12 rfl rfl)
theorem dX2_grow_15 : decode cX2_grow 15 = .ok (.iconst (-1), 1) := dk_2 (dk_at dksX2_grow_0 15 rfl rfl)
theorem dX2_grow_16 : decode cX2_grow 16 = .ok (.ireturn, 1) := dk_172 (dk_at dksX2_grow_0 16 rfl rfl)
theorem dX2_grow_17 : decode cX2_grow 17 = .ok (.aload_n 0, 1) := dk_42 (dk_at dksX2_grow_0 17 rfl rfl)
theorem dX2_grow_18 : decode cX2_grow 18 = .ok (.dup, 1) := dk_89 (dk_at dksX2_grow_0 18 rfl rfl)
theorem dX2_grow_19 : decode cX2_grow 19 = .ok (.getfield 90, 3) := dk_180 0 90 (dk_at dksX2_grow_0 19 rfl rfl)
theorem dX2_grow_22 : decode cX2_grow 22 = .ok (.iload_n 1, 1) := dk_27 (dk_at dksX2_grow_0 22 rfl rfl)
theorem dX2_grow_23 : decode cX2_grow 23 = .ok (.iadd, 1) := dk_96 (dk_at dksX2_grow_0 23 rfl rfl)
theorem dX2_grow_24 : decode cX2_grow 24 = .ok (.putfield 90, 3) := dk_181 0 90 (dk_at dksX2_grow_1 0 rfl rfl)
theorem dX2_grow_27 : decode cX2_grow 27 = .ok (.aload_n 0, 1) := dk_42 (dk_at dksX2_grow_1 3 rfl rfl)
theorem dX2_grow_28 : decode cX2_grow 28 = .ok (.getfield 90, 3) := dk_180 0 90 (dk_at dksX2_grow_1 4 rfl rfl)
theorem dX2_grow_31 : decode cX2_grow 31 = .ok (.ireturn, 1) := dk_172 (dk_at dksX2_grow_1 7 rfl rfl)
abbrev cX2_add : ByteArray := prog_8_method_10_code
def yX2_add : MethodName := ⟨RX2, "add", "(I)I"⟩
def dkwX2_add_2 : List UInt8 := [180, 0, 99, 4, 96, 181, 0, 99, 42, 180, 0, 99, 172]
abbrev dktX2_add_2 : List UInt8 := dkwX2_add_2 ++ []
def dkwX2_add_1 : List UInt8 := [180, 0, 99, 27, 184, 0, 138, 153, 0, 5, 2, 172, 42, 180, 0, 33, 42, 180, 0, 99, 27, 79, 42, 89]
abbrev dktX2_add_1 : List UInt8 := dkwX2_add_1 ++ dktX2_add_2
def dkwX2_add_0 : List UInt8 := [42, 180, 0, 99, 16, 8, 159, 0, 26, 42, 27, 182, 0, 135, 153, 0, 18, 42, 180, 0, 33, 42]
abbrev dktX2_add_0 : List UInt8 := dkwX2_add_0 ++ dktX2_add_1
theorem dksX2_add_0 : cX2_add.data.toList.drop 0 = dktX2_add_0 := by decide +kernel
theorem dksX2_add_1 : cX2_add.data.toList.drop 22 = dktX2_add_1 := dk_seg dksX2_add_0 22 rfl rfl
theorem dksX2_add_2 : cX2_add.data.toList.drop 46 = dktX2_add_2 := dk_seg dksX2_add_1 24 rfl rfl
theorem dX2_add_0 : decode cX2_add 0 = .ok (.aload_n 0, 1) := dk_42 (dk_at dksX2_add_0 0 rfl rfl)
theorem dX2_add_1 : decode cX2_add 1 = .ok (.getfield 99, 3) := dk_180 0 99 (dk_at dksX2_add_0 1 rfl rfl)
theorem dX2_add_4 : decode cX2_add 4 = .ok (.bipush 8, 2) := dk_16 8 (dk_at dksX2_add_0 4 rfl rfl)
theorem dX2_add_6 : decode cX2_add 6 = .ok (.if_icmp .eq 26, 3) := dk_159 0 26 (dk_at dksX2_add_0 6 rfl rfl)
theorem dX2_add_9 : decode cX2_add 9 = .ok (.aload_n 0, 1) := dk_42 (dk_at dksX2_add_0 9 rfl rfl)
theorem dX2_add_10 : decode cX2_add 10 = .ok (.iload_n 1, 1) := dk_27 (dk_at dksX2_add_0 10 rfl rfl)
theorem dX2_add_11 : decode cX2_add 11 = .ok (.invokevirtual 135, 3) := dk_182 0 135 (dk_at dksX2_add_0 11 rfl rfl)
theorem dX2_add_14 : decode cX2_add 14 = .ok (.ifCond .eq 18, 3) := dk_153 0 18 (dk_at dksX2_add_0 14 rfl rfl)
theorem dX2_add_17 : decode cX2_add 17 = .ok (.aload_n 0, 1) := dk_42 (dk_at dksX2_add_0 17 rfl rfl)
theorem dX2_add_18 : decode cX2_add 18 = .ok (.getfield 33, 3) := dk_180 0 33 (dk_at dksX2_add_0 18 rfl rfl)
theorem dX2_add_21 : decode cX2_add 21 = .ok (.aload_n 0, 1) := dk_42 (dk_at dksX2_add_0 21 rfl rfl)
theorem dX2_add_22 : decode cX2_add 22 = .ok (.getfield 99, 3) := dk_180 0 99 (dk_at dksX2_add_1 0 rfl rfl)
theorem dX2_add_25 : decode cX2_add 25 = .ok (.iload_n 1, 1) := dk_27 (dk_at dksX2_add_1 3 rfl rfl)
theorem dX2_add_26 : decode cX2_add 26 = .ok (.invokestatic 138, 3) := dk_184 0 138 (dk_at dksX2_add_1 4 rfl rfl)
theorem dX2_add_29 : decode cX2_add 29 = .ok (.ifCond .eq 5, 3) := dk_153 0 5 (dk_at dksX2_add_1 7 rfl rfl)
theorem dX2_add_32 : decode cX2_add 32 = .ok (.iconst (-1), 1) := dk_2 (dk_at dksX2_add_1 10 rfl rfl)
theorem dX2_add_33 : decode cX2_add 33 = .ok (.ireturn, 1) := dk_172 (dk_at dksX2_add_1 11 rfl rfl)
theorem dX2_add_34 : decode cX2_add 34 = .ok (.aload_n 0, 1) := dk_42 (dk_at dksX2_add_1 12 rfl rfl)
theorem dX2_add_35 : decode cX2_add 35 = .ok (.getfield 33, 3) := dk_180 0 33 (dk_at dksX2_add_1 13 rfl rfl)
theorem dX2_add_38 : decode cX2_add 38 = .ok (.aload_n 0, 1) := dk_42 (dk_at dksX2_add_1 16 rfl rfl)
theorem dX2_add_39 : decode cX2_add 39 = .ok (.getfield 99, 3) := dk_180 0 99 (dk_at dksX2_add_1 17 rfl rfl)
theorem dX2_add_42 : decode cX2_add 42 = .ok (.iload_n 1, 1) := dk_27 (dk_at dksX2_add_1 20 rfl rfl)
theorem dX2_add_43 : decode cX2_add 43 = .ok (.iastore, 1) := dk_79 (dk_at dksX2_add_1 21 rfl rfl)
theorem dX2_add_44 : decode cX2_add 44 = .ok (.aload_n 0, 1) := dk_42 (dk_at dksX2_add_1 22 rfl rfl)
theorem dX2_add_45 : decode cX2_add 45 = .ok (.dup, 1) := dk_89 (dk_at dksX2_add_1 23 rfl rfl)
theorem dX2_add_46 : decode cX2_add 46 = .ok (.getfield 99, 3) := dk_180 0 99 (dk_at dksX2_add_2 0 rfl rfl)
theorem dX2_add_49 : decode cX2_add 49 = .ok (.iconst 1, 1) := dk_4 (dk_at dksX2_add_2 3 rfl rfl)
theorem dX2_add_50 : decode cX2_add 50 = .ok (.iadd, 1) := dk_96 (dk_at dksX2_add_2 4 rfl rfl)
theorem dX2_add_51 : decode cX2_add 51 = .ok (.putfield 99, 3) := dk_181 0 99 (dk_at dksX2_add_2 5 rfl rfl)
theorem dX2_add_54 : decode cX2_add 54 = .ok (.aload_n 0, 1) := dk_42 (dk_at dksX2_add_2 8 rfl rfl)
theorem dX2_add_55 : decode cX2_add 55 = .ok (.getfield 99, 3) := dk_180 0 99 (dk_at dksX2_add_2 9 rfl rfl)
theorem dX2_add_58 : decode cX2_add 58 = .ok (.ireturn, 1) := dk_172 (dk_at dksX2_add_2 12 rfl rfl)
abbrev cX2_isLiteral : ByteArray := prog_8_method_4_code
def yX2_isLiteral : MethodName := ⟨RX2, "isLiteral", "(I)Z"⟩
def dkwX2_isLiteral_0 : List UInt8 := [27, 17, 252, 24, 164, 0, 18, 42, 27, 184, 0, 113, 182, 0, 117, 153, 0, 7, 4, 167, 0, 4, 3, 172]
abbrev dktX2_isLiteral_0 : List UInt8 := dkwX2_isLiteral_0 ++ []
theorem dksX2_isLiteral_0 : cX2_isLiteral.data.toList.drop 0 = dktX2_isLiteral_0 := by decide +kernel
theorem dX2_isLiteral_0 : decode cX2_isLiteral 0 = .ok (.iload_n 1, 1) := dk_27 (dk_at dksX2_isLiteral_0 0 rfl rfl)
theorem dX2_isLiteral_1 : decode cX2_isLiteral 1 = .ok (.sipush (-1000), 3) := dk_17 252 24 (dk_at dksX2_isLiteral_0 1 rfl rfl)
theorem dX2_isLiteral_4 : decode cX2_isLiteral 4 = .ok (.if_icmp .le 18, 3) := dk_164 0 18 (dk_at dksX2_isLiteral_0 4 rfl rfl)
theorem dX2_isLiteral_7 : decode cX2_isLiteral 7 = .ok (.aload_n 0, 1) := dk_42 (dk_at dksX2_isLiteral_0 7 rfl rfl)
theorem dX2_isLiteral_8 : decode cX2_isLiteral 8 = .ok (.iload_n 1, 1) := dk_27 (dk_at dksX2_isLiteral_0 8 rfl rfl)
theorem dX2_isLiteral_9 : decode cX2_isLiteral 9 = .ok (.invokestatic 113, 3) := dk_184 0 113 (dk_at dksX2_isLiteral_0 9 rfl rfl)
theorem dX2_isLiteral_12 : decode cX2_isLiteral 12 = .ok (.invokevirtual 117, 3) := dk_182 0 117 (dk_at dksX2_isLiteral_0 12 rfl rfl)
theorem dX2_isLiteral_15 : decode cX2_isLiteral 15 = .ok (.ifCond .eq 7, 3) := dk_153 0 7 (dk_at dksX2_isLiteral_0 15 rfl rfl)
theorem dX2_isLiteral_18 : decode cX2_isLiteral 18 = .ok (.iconst 1, 1) := dk_4 (dk_at dksX2_isLiteral_0 18 rfl rfl)
theorem dX2_isLiteral_19 : decode cX2_isLiteral 19 = .ok (.goto 4, 3) := dk_167 0 4 (dk_at dksX2_isLiteral_0 19 rfl rfl)
theorem dX2_isLiteral_22 : decode cX2_isLiteral 22 = .ok (.iconst 0, 1) := dk_3 (dk_at dksX2_isLiteral_0 22 rfl rfl)
theorem dX2_isLiteral_23 : decode cX2_isLiteral 23 = .ok (.ireturn, 1) := dk_172 (dk_at dksX2_isLiteral_0 23 rfl rfl)
abbrev cX2_isVariable : ByteArray := prog_8_method_3_code
def yX2_isVariable : MethodName := ⟨RX2, "isVariable", "(I)Z"⟩
def dkwX2_isVariable_0 : List UInt8 := [27, 4, 42, 180, 0, 90, 184, 0, 109, 172]
abbrev dktX2_isVariable_0 : List UInt8 := dkwX2_isVariable_0 ++ []
theorem dksX2_isVariable_0 : cX2_isVariable.data.toList.drop 0 = dktX2_isVariable_0 := by decide +kernel
theorem dX2_isVariable_0 : decode cX2_isVariable 0 = .ok (.iload_n 1, 1) := dk_27 (dk_at dksX2_isVariable_0 0 rfl rfl)
theorem dX2_isVariable_1 : decode cX2_isVariable 1 = .ok (.iconst 1, 1) := dk_4 (dk_at dksX2_isVariable_0 1 rfl rfl)
theorem dX2_isVariable_2 : decode cX2_isVariable 2 = .ok (.aload_n 0, 1) := dk_42 (dk_at dksX2_isVariable_0 2 rfl rfl)
theorem dX2_isVariable_3 : decode cX2_isVariable 3 = .ok (.getfield 90, 3) := dk_180 0 90 (dk_at dksX2_isVariable_0 3 rfl rfl)
theorem dX2_isVariable_6 : decode cX2_isVariable 6 = .ok (.invokestatic 109, 3) := dk_184 0 109 (dk_at dksX2_isVariable_0 6 rfl rfl)
theorem dX2_isVariable_9 : decode cX2_isVariable 9 = .ok (.ireturn, 1) := dk_172 (dk_at dksX2_isVariable_0 9 rfl rfl)
abbrev cX2_isThere : ByteArray := prog_8_method_9_code
def yX2_isThere : MethodName := ⟨RX2, "isThere", "([III)Z"⟩
def dkwX2_isThere_1 : List UInt8 := [132, 3, 1, 167, 255, 233, 3, 172]
abbrev dktX2_isThere_1 : List UInt8 := dkwX2_isThere_1 ++ []
def dkwX2_isThere_0 : List UInt8 := [3, 62, 29, 27, 162, 0, 24, 42, 29, 46, 184, 0, 113, 28, 184, 0, 113, 160, 0, 5, 4, 172]
abbrev dktX2_isThere_0 : List UInt8 := dkwX2_isThere_0 ++ dktX2_isThere_1
theorem dksX2_isThere_0 : cX2_isThere.data.toList.drop 0 = dktX2_isThere_0 := by decide +kernel
theorem dksX2_isThere_1 : cX2_isThere.data.toList.drop 22 = dktX2_isThere_1 := dk_seg dksX2_isThere_0 22 rfl rfl
theorem dX2_isThere_0 : decode cX2_isThere 0 = .ok (.iconst 0, 1) := dk_3 (dk_at dksX2_isThere_0 0 rfl rfl)
theorem dX2_isThere_1 : decode cX2_isThere 1 = .ok (.istore_n 3, 1) := dk_62 (dk_at dksX2_isThere_0 1 rfl rfl)
theorem dX2_isThere_2 : decode cX2_isThere 2 = .ok (.iload_n 3, 1) := dk_29 (dk_at dksX2_isThere_0 2 rfl rfl)
theorem dX2_isThere_3 : decode cX2_isThere 3 = .ok (.iload_n 1, 1) := dk_27 (dk_at dksX2_isThere_0 3 rfl rfl)
theorem dX2_isThere_4 : decode cX2_isThere 4 = .ok (.if_icmp .ge 24, 3) := dk_162 0 24 (dk_at dksX2_isThere_0 4 rfl rfl)
theorem dX2_isThere_7 : decode cX2_isThere 7 = .ok (.aload_n 0, 1) := dk_42 (dk_at dksX2_isThere_0 7 rfl rfl)
theorem dX2_isThere_8 : decode cX2_isThere 8 = .ok (.iload_n 3, 1) := dk_29 (dk_at dksX2_isThere_0 8 rfl rfl)
theorem dX2_isThere_9 : decode cX2_isThere 9 = .ok (.iaload, 1) := dk_46 (dk_at dksX2_isThere_0 9 rfl rfl)
theorem dX2_isThere_10 : decode cX2_isThere 10 = .ok (.invokestatic 113, 3) := dk_184 0 113 (dk_at dksX2_isThere_0 10 rfl rfl)
theorem dX2_isThere_13 : decode cX2_isThere 13 = .ok (.iload_n 2, 1) := dk_28 (dk_at dksX2_isThere_0 13 rfl rfl)
theorem dX2_isThere_14 : decode cX2_isThere 14 = .ok (.invokestatic 113, 3) := dk_184 0 113 (dk_at dksX2_isThere_0 14 rfl rfl)
theorem dX2_isThere_17 : decode cX2_isThere 17 = .ok (.if_icmp .ne 5, 3) := dk_160 0 5 (dk_at dksX2_isThere_0 17 rfl rfl)
theorem dX2_isThere_20 : decode cX2_isThere 20 = .ok (.iconst 1, 1) := dk_4 (dk_at dksX2_isThere_0 20 rfl rfl)
theorem dX2_isThere_21 : decode cX2_isThere 21 = .ok (.ireturn, 1) := dk_172 (dk_at dksX2_isThere_0 21 rfl rfl)
theorem dX2_isThere_22 : decode cX2_isThere 22 = .ok (.iinc 3 1, 3) := dk_132 3 1 (dk_at dksX2_isThere_1 0 rfl rfl)
theorem dX2_isThere_25 : decode cX2_isThere 25 = .ok (.goto (-23), 3) := dk_167 255 233 (dk_at dksX2_isThere_1 3 rfl rfl)
theorem dX2_isThere_28 : decode cX2_isThere 28 = .ok (.iconst 0, 1) := dk_3 (dk_at dksX2_isThere_1 6 rfl rfl)
theorem dX2_isThere_29 : decode cX2_isThere 29 = .ok (.ireturn, 1) := dk_172 (dk_at dksX2_isThere_1 7 rfl rfl)
abbrev cX2_close : ByteArray := prog_8_method_11_code
def yX2_close : MethodName := ⟨RX2, "close", "()I"⟩
def dkwX2_close_1 : List UInt8 := [180, 0, 99, 184, 0, 145, 182, 0, 151, 60, 42, 3, 181, 0, 99, 27, 172]
abbrev dktX2_close_1 : List UInt8 := dkwX2_close_1 ++ []
def dkwX2_close_0 : List UInt8 := [42, 180, 0, 99, 153, 0, 10, 42, 182, 0, 142, 154, 0, 5, 2, 172, 42, 42, 180, 0, 33, 42]
abbrev dktX2_close_0 : List UInt8 := dkwX2_close_0 ++ dktX2_close_1
theorem dksX2_close_0 : cX2_close.data.toList.drop 0 = dktX2_close_0 := by decide +kernel
theorem dksX2_close_1 : cX2_close.data.toList.drop 22 = dktX2_close_1 := dk_seg dksX2_close_0 22 rfl rfl
theorem dX2_close_0 : decode cX2_close 0 = .ok (.aload_n 0, 1) := dk_42 (dk_at dksX2_close_0 0 rfl rfl)
theorem dX2_close_1 : decode cX2_close 1 = .ok (.getfield 99, 3) := dk_180 0 99 (dk_at dksX2_close_0 1 rfl rfl)
theorem dX2_close_4 : decode cX2_close 4 = .ok (.ifCond .eq 10, 3) := dk_153 0 10 (dk_at dksX2_close_0 4 rfl rfl)
theorem dX2_close_7 : decode cX2_close 7 = .ok (.aload_n 0, 1) := dk_42 (dk_at dksX2_close_0 7 rfl rfl)
theorem dX2_close_8 : decode cX2_close 8 = .ok (.invokevirtual 142, 3) := dk_182 0 142 (dk_at dksX2_close_0 8 rfl rfl)
theorem dX2_close_11 : decode cX2_close 11 = .ok (.ifCond .ne 5, 3) := dk_154 0 5 (dk_at dksX2_close_0 11 rfl rfl)
theorem dX2_close_14 : decode cX2_close 14 = .ok (.iconst (-1), 1) := dk_2 (dk_at dksX2_close_0 14 rfl rfl)
theorem dX2_close_15 : decode cX2_close 15 = .ok (.ireturn, 1) := dk_172 (dk_at dksX2_close_0 15 rfl rfl)
theorem dX2_close_16 : decode cX2_close 16 = .ok (.aload_n 0, 1) := dk_42 (dk_at dksX2_close_0 16 rfl rfl)
theorem dX2_close_17 : decode cX2_close 17 = .ok (.aload_n 0, 1) := dk_42 (dk_at dksX2_close_0 17 rfl rfl)
theorem dX2_close_18 : decode cX2_close 18 = .ok (.getfield 33, 3) := dk_180 0 33 (dk_at dksX2_close_0 18 rfl rfl)
theorem dX2_close_21 : decode cX2_close 21 = .ok (.aload_n 0, 1) := dk_42 (dk_at dksX2_close_0 21 rfl rfl)
theorem dX2_close_22 : decode cX2_close 22 = .ok (.getfield 99, 3) := dk_180 0 99 (dk_at dksX2_close_1 0 rfl rfl)
theorem dX2_close_25 : decode cX2_close 25 = .ok (.invokestatic 145, 3) := dk_184 0 145 (dk_at dksX2_close_1 3 rfl rfl)
theorem dX2_close_28 : decode cX2_close 28 = .ok (.invokevirtual 151, 3) := dk_182 0 151 (dk_at dksX2_close_1 6 rfl rfl)
theorem dX2_close_31 : decode cX2_close 31 = .ok (.istore_n 1, 1) := dk_60 (dk_at dksX2_close_1 9 rfl rfl)
theorem dX2_close_32 : decode cX2_close 32 = .ok (.aload_n 0, 1) := dk_42 (dk_at dksX2_close_1 10 rfl rfl)
theorem dX2_close_33 : decode cX2_close 33 = .ok (.iconst 0, 1) := dk_3 (dk_at dksX2_close_1 11 rfl rfl)
theorem dX2_close_34 : decode cX2_close 34 = .ok (.putfield 99, 3) := dk_181 0 99 (dk_at dksX2_close_1 12 rfl rfl)
theorem dX2_close_37 : decode cX2_close 37 = .ok (.iload_n 1, 1) := dk_27 (dk_at dksX2_close_1 15 rfl rfl)
theorem dX2_close_38 : decode cX2_close 38 = .ok (.ireturn, 1) := dk_172 (dk_at dksX2_close_1 16 rfl rfl)
abbrev cX2_hasRoom : ByteArray := prog_8_method_6_code
def yX2_hasRoom : MethodName := ⟨RX2, "hasRoom", "()Z"⟩
def dkwX2_hasRoom_1 : List UInt8 := [4, 167, 0, 4, 3, 172]
abbrev dktX2_hasRoom_1 : List UInt8 := dkwX2_hasRoom_1 ++ []
def dkwX2_hasRoom_0 : List UInt8 := [42, 180, 0, 93, 16, 80, 162, 0, 22, 42, 180, 0, 14, 185, 0, 121, 1, 0, 17, 1, 144, 162, 0, 7]
abbrev dktX2_hasRoom_0 : List UInt8 := dkwX2_hasRoom_0 ++ dktX2_hasRoom_1
theorem dksX2_hasRoom_0 : cX2_hasRoom.data.toList.drop 0 = dktX2_hasRoom_0 := by decide +kernel
theorem dksX2_hasRoom_1 : cX2_hasRoom.data.toList.drop 24 = dktX2_hasRoom_1 := dk_seg dksX2_hasRoom_0 24 rfl rfl
theorem dX2_hasRoom_0 : decode cX2_hasRoom 0 = .ok (.aload_n 0, 1) := dk_42 (dk_at dksX2_hasRoom_0 0 rfl rfl)
theorem dX2_hasRoom_1 : decode cX2_hasRoom 1 = .ok (.getfield 93, 3) := dk_180 0 93 (dk_at dksX2_hasRoom_0 1 rfl rfl)
theorem dX2_hasRoom_4 : decode cX2_hasRoom 4 = .ok (.bipush 80, 2) := dk_16 80 (dk_at dksX2_hasRoom_0 4 rfl rfl)
theorem dX2_hasRoom_6 : decode cX2_hasRoom 6 = .ok (.if_icmp .ge 22, 3) := dk_162 0 22 (dk_at dksX2_hasRoom_0 6 rfl rfl)
theorem dX2_hasRoom_9 : decode cX2_hasRoom 9 = .ok (.aload_n 0, 1) := dk_42 (dk_at dksX2_hasRoom_0 9 rfl rfl)
theorem dX2_hasRoom_10 : decode cX2_hasRoom 10 = .ok (.getfield 14, 3) := dk_180 0 14 (dk_at dksX2_hasRoom_0 10 rfl rfl)
theorem dX2_hasRoom_13 : decode cX2_hasRoom 13 = .ok (.invokeinterface 121 1, 5) := by decide +kernel
theorem dX2_hasRoom_18 : decode cX2_hasRoom 18 = .ok (.sipush 400, 3) := dk_17 1 144 (dk_at dksX2_hasRoom_0 18 rfl rfl)
theorem dX2_hasRoom_21 : decode cX2_hasRoom 21 = .ok (.if_icmp .ge 7, 3) := dk_162 0 7 (dk_at dksX2_hasRoom_0 21 rfl rfl)
theorem dX2_hasRoom_24 : decode cX2_hasRoom 24 = .ok (.iconst 1, 1) := dk_4 (dk_at dksX2_hasRoom_1 0 rfl rfl)
theorem dX2_hasRoom_25 : decode cX2_hasRoom 25 = .ok (.goto 4, 3) := dk_167 0 4 (dk_at dksX2_hasRoom_1 1 rfl rfl)
theorem dX2_hasRoom_28 : decode cX2_hasRoom 28 = .ok (.iconst 0, 1) := dk_3 (dk_at dksX2_hasRoom_1 4 rfl rfl)
theorem dX2_hasRoom_29 : decode cX2_hasRoom 29 = .ok (.ireturn, 1) := dk_172 (dk_at dksX2_hasRoom_1 5 rfl rfl)
abbrev cX2_tells : ByteArray := prog_8_method_7_code
def yX2_tells : MethodName := ⟨RX2, "tells", "([I)I"⟩
def dkwX2_tells_1 : List UInt8 := [180, 0, 125, 172]
abbrev dktX2_tells_1 : List UInt8 := dkwX2_tells_1 ++ []
def dkwX2_tells_0 : List UInt8 := [42, 89, 180, 0, 93, 4, 96, 181, 0, 93, 42, 187, 0, 70, 89, 43, 183, 0, 128, 182, 0, 131]
abbrev dktX2_tells_0 : List UInt8 := dkwX2_tells_0 ++ dktX2_tells_1
theorem dksX2_tells_0 : cX2_tells.data.toList.drop 0 = dktX2_tells_0 := by decide +kernel
theorem dksX2_tells_1 : cX2_tells.data.toList.drop 22 = dktX2_tells_1 := dk_seg dksX2_tells_0 22 rfl rfl
theorem dX2_tells_0 : decode cX2_tells 0 = .ok (.aload_n 0, 1) := dk_42 (dk_at dksX2_tells_0 0 rfl rfl)
theorem dX2_tells_1 : decode cX2_tells 1 = .ok (.dup, 1) := dk_89 (dk_at dksX2_tells_0 1 rfl rfl)
theorem dX2_tells_2 : decode cX2_tells 2 = .ok (.getfield 93, 3) := dk_180 0 93 (dk_at dksX2_tells_0 2 rfl rfl)
theorem dX2_tells_5 : decode cX2_tells 5 = .ok (.iconst 1, 1) := dk_4 (dk_at dksX2_tells_0 5 rfl rfl)
theorem dX2_tells_6 : decode cX2_tells 6 = .ok (.iadd, 1) := dk_96 (dk_at dksX2_tells_0 6 rfl rfl)
theorem dX2_tells_7 : decode cX2_tells 7 = .ok (.putfield 93, 3) := dk_181 0 93 (dk_at dksX2_tells_0 7 rfl rfl)
theorem dX2_tells_10 : decode cX2_tells 10 = .ok (.aload_n 0, 1) := dk_42 (dk_at dksX2_tells_0 10 rfl rfl)
theorem dX2_tells_11 : decode cX2_tells 11 = .ok (.new 70, 3) := dk_187 0 70 (dk_at dksX2_tells_0 11 rfl rfl)
theorem dX2_tells_14 : decode cX2_tells 14 = .ok (.dup, 1) := dk_89 (dk_at dksX2_tells_0 14 rfl rfl)
theorem dX2_tells_15 : decode cX2_tells 15 = .ok (.aload_n 1, 1) := dk_43 (dk_at dksX2_tells_0 15 rfl rfl)
theorem dX2_tells_16 : decode cX2_tells 16 = .ok (.invokespecial 128, 3) := dk_183 0 128 (dk_at dksX2_tells_0 16 rfl rfl)
theorem dX2_tells_19 : decode cX2_tells 19 = .ok (.invokevirtual 131, 3) := dk_182 0 131 (dk_at dksX2_tells_0 19 rfl rfl)
theorem dX2_tells_22 : decode cX2_tells 22 = .ok (.getfield 125, 3) := dk_180 0 125 (dk_at dksX2_tells_1 0 rfl rfl)
theorem dX2_tells_25 : decode cX2_tells 25 = .ok (.ireturn, 1) := dk_172 (dk_at dksX2_tells_1 3 rfl rfl)
abbrev cX2_comes : ByteArray := prog_8_method_5_code
def yX2_comes : MethodName := ⟨RX2, "comes", "(LLearntReasons$Clause;)LLearntReasons$Clause;"⟩
def dkwX2_comes_1 : List UInt8 := [43, 176]
abbrev dktX2_comes_1 : List UInt8 := dkwX2_comes_1 ++ []
def dkwX2_comes_0 : List UInt8 := [43, 42, 180, 0, 14, 185, 0, 121, 1, 0, 181, 0, 125, 42, 180, 0, 14, 43, 185, 0, 76, 2, 0, 87]
abbrev dktX2_comes_0 : List UInt8 := dkwX2_comes_0 ++ dktX2_comes_1
theorem dksX2_comes_0 : cX2_comes.data.toList.drop 0 = dktX2_comes_0 := by decide +kernel
theorem dksX2_comes_1 : cX2_comes.data.toList.drop 24 = dktX2_comes_1 := dk_seg dksX2_comes_0 24 rfl rfl
theorem dX2_comes_0 : decode cX2_comes 0 = .ok (.aload_n 1, 1) := dk_43 (dk_at dksX2_comes_0 0 rfl rfl)
theorem dX2_comes_1 : decode cX2_comes 1 = .ok (.aload_n 0, 1) := dk_42 (dk_at dksX2_comes_0 1 rfl rfl)
theorem dX2_comes_2 : decode cX2_comes 2 = .ok (.getfield 14, 3) := dk_180 0 14 (dk_at dksX2_comes_0 2 rfl rfl)
theorem dX2_comes_5 : decode cX2_comes 5 = .ok (.invokeinterface 121 1, 5) := by decide +kernel
theorem dX2_comes_10 : decode cX2_comes 10 = .ok (.putfield 125, 3) := dk_181 0 125 (dk_at dksX2_comes_0 10 rfl rfl)
theorem dX2_comes_13 : decode cX2_comes 13 = .ok (.aload_n 0, 1) := dk_42 (dk_at dksX2_comes_0 13 rfl rfl)
theorem dX2_comes_14 : decode cX2_comes 14 = .ok (.getfield 14, 3) := dk_180 0 14 (dk_at dksX2_comes_0 14 rfl rfl)
theorem dX2_comes_17 : decode cX2_comes 17 = .ok (.aload_n 1, 1) := dk_43 (dk_at dksX2_comes_0 17 rfl rfl)
theorem dX2_comes_18 : decode cX2_comes 18 = .ok (.invokeinterface 76 2, 5) := by decide +kernel
theorem dX2_comes_23 : decode cX2_comes 23 = .ok (.pop, 1) := dk_87 (dk_at dksX2_comes_0 23 rfl rfl)
theorem dX2_comes_24 : decode cX2_comes 24 = .ok (.aload_n 1, 1) := dk_43 (dk_at dksX2_comes_1 0 rfl rfl)
theorem dX2_comes_25 : decode cX2_comes 25 = .ok (.areturn, 1) := dk_176 (dk_at dksX2_comes_1 1 rfl rfl)
abbrev cX2_assume : ByteArray := prog_8_method_12_code
def yX2_assume : MethodName := ⟨RX2, "assume", "(I)I"⟩
def dkwX2_assume_2 : List UInt8 := [180, 0, 96, 4, 96, 181, 0, 96, 42, 180, 0, 96, 172]
abbrev dktX2_assume_2 : List UInt8 := dkwX2_assume_2 ++ []
def dkwX2_assume_1 : List UInt8 := [180, 0, 96, 27, 184, 0, 138, 153, 0, 5, 2, 172, 42, 180, 0, 23, 42, 180, 0, 96, 27, 79, 42, 89]
abbrev dktX2_assume_1 : List UInt8 := dkwX2_assume_1 ++ dktX2_assume_2
def dkwX2_assume_0 : List UInt8 := [42, 180, 0, 96, 16, 8, 159, 0, 26, 42, 27, 182, 0, 135, 153, 0, 18, 42, 180, 0, 23, 42]
abbrev dktX2_assume_0 : List UInt8 := dkwX2_assume_0 ++ dktX2_assume_1
theorem dksX2_assume_0 : cX2_assume.data.toList.drop 0 = dktX2_assume_0 := by decide +kernel
theorem dksX2_assume_1 : cX2_assume.data.toList.drop 22 = dktX2_assume_1 := dk_seg dksX2_assume_0 22 rfl rfl
theorem dksX2_assume_2 : cX2_assume.data.toList.drop 46 = dktX2_assume_2 := dk_seg dksX2_assume_1 24 rfl rfl
theorem dX2_assume_0 : decode cX2_assume 0 = .ok (.aload_n 0, 1) := dk_42 (dk_at dksX2_assume_0 0 rfl rfl)
theorem dX2_assume_1 : decode cX2_assume 1 = .ok (.getfield 96, 3) := dk_180 0 96 (dk_at dksX2_assume_0 1 rfl rfl)
theorem dX2_assume_4 : decode cX2_assume 4 = .ok (.bipush 8, 2) := dk_16 8 (dk_at dksX2_assume_0 4 rfl rfl)
theorem dX2_assume_6 : decode cX2_assume 6 = .ok (.if_icmp .eq 26, 3) := dk_159 0 26 (dk_at dksX2_assume_0 6 rfl rfl)
theorem dX2_assume_9 : decode cX2_assume 9 = .ok (.aload_n 0, 1) := dk_42 (dk_at dksX2_assume_0 9 rfl rfl)
theorem dX2_assume_10 : decode cX2_assume 10 = .ok (.iload_n 1, 1) := dk_27 (dk_at dksX2_assume_0 10 rfl rfl)
theorem dX2_assume_11 : decode cX2_assume 11 = .ok (.invokevirtual 135, 3) := dk_182 0 135 (dk_at dksX2_assume_0 11 rfl rfl)
theorem dX2_assume_14 : decode cX2_assume 14 = .ok (.ifCond .eq 18, 3) := dk_153 0 18 (dk_at dksX2_assume_0 14 rfl rfl)
theorem dX2_assume_17 : decode cX2_assume 17 = .ok (.aload_n 0, 1) := dk_42 (dk_at dksX2_assume_0 17 rfl rfl)
theorem dX2_assume_18 : decode cX2_assume 18 = .ok (.getfield 23, 3) := dk_180 0 23 (dk_at dksX2_assume_0 18 rfl rfl)
theorem dX2_assume_21 : decode cX2_assume 21 = .ok (.aload_n 0, 1) := dk_42 (dk_at dksX2_assume_0 21 rfl rfl)
theorem dX2_assume_22 : decode cX2_assume 22 = .ok (.getfield 96, 3) := dk_180 0 96 (dk_at dksX2_assume_1 0 rfl rfl)
theorem dX2_assume_25 : decode cX2_assume 25 = .ok (.iload_n 1, 1) := dk_27 (dk_at dksX2_assume_1 3 rfl rfl)
theorem dX2_assume_26 : decode cX2_assume 26 = .ok (.invokestatic 138, 3) := dk_184 0 138 (dk_at dksX2_assume_1 4 rfl rfl)
theorem dX2_assume_29 : decode cX2_assume 29 = .ok (.ifCond .eq 5, 3) := dk_153 0 5 (dk_at dksX2_assume_1 7 rfl rfl)
theorem dX2_assume_32 : decode cX2_assume 32 = .ok (.iconst (-1), 1) := dk_2 (dk_at dksX2_assume_1 10 rfl rfl)
theorem dX2_assume_33 : decode cX2_assume 33 = .ok (.ireturn, 1) := dk_172 (dk_at dksX2_assume_1 11 rfl rfl)
theorem dX2_assume_34 : decode cX2_assume 34 = .ok (.aload_n 0, 1) := dk_42 (dk_at dksX2_assume_1 12 rfl rfl)
theorem dX2_assume_35 : decode cX2_assume 35 = .ok (.getfield 23, 3) := dk_180 0 23 (dk_at dksX2_assume_1 13 rfl rfl)
theorem dX2_assume_38 : decode cX2_assume 38 = .ok (.aload_n 0, 1) := dk_42 (dk_at dksX2_assume_1 16 rfl rfl)
theorem dX2_assume_39 : decode cX2_assume 39 = .ok (.getfield 96, 3) := dk_180 0 96 (dk_at dksX2_assume_1 17 rfl rfl)
theorem dX2_assume_42 : decode cX2_assume 42 = .ok (.iload_n 1, 1) := dk_27 (dk_at dksX2_assume_1 20 rfl rfl)
theorem dX2_assume_43 : decode cX2_assume 43 = .ok (.iastore, 1) := dk_79 (dk_at dksX2_assume_1 21 rfl rfl)
theorem dX2_assume_44 : decode cX2_assume 44 = .ok (.aload_n 0, 1) := dk_42 (dk_at dksX2_assume_1 22 rfl rfl)
theorem dX2_assume_45 : decode cX2_assume 45 = .ok (.dup, 1) := dk_89 (dk_at dksX2_assume_1 23 rfl rfl)
theorem dX2_assume_46 : decode cX2_assume 46 = .ok (.getfield 96, 3) := dk_180 0 96 (dk_at dksX2_assume_2 0 rfl rfl)
theorem dX2_assume_49 : decode cX2_assume 49 = .ok (.iconst 1, 1) := dk_4 (dk_at dksX2_assume_2 3 rfl rfl)
theorem dX2_assume_50 : decode cX2_assume 50 = .ok (.iadd, 1) := dk_96 (dk_at dksX2_assume_2 4 rfl rfl)
theorem dX2_assume_51 : decode cX2_assume 51 = .ok (.putfield 96, 3) := dk_181 0 96 (dk_at dksX2_assume_2 5 rfl rfl)
theorem dX2_assume_54 : decode cX2_assume 54 = .ok (.aload_n 0, 1) := dk_42 (dk_at dksX2_assume_2 8 rfl rfl)
theorem dX2_assume_55 : decode cX2_assume 55 = .ok (.getfield 96, 3) := dk_180 0 96 (dk_at dksX2_assume_2 9 rfl rfl)
theorem dX2_assume_58 : decode cX2_assume 58 = .ok (.ireturn, 1) := dk_172 (dk_at dksX2_assume_2 12 rfl rfl)
abbrev cX2_forget : ByteArray := prog_8_method_13_code
def yX2_forget : MethodName := ⟨RX2, "forget", "(I)I"⟩
def dkwX2_forget_3 : List UInt8 := [28, 172]
abbrev dktX2_forget_3 : List UInt8 := dkwX2_forget_3 ++ []
def dkwX2_forget_2 : List UInt8 := [154, 0, 21, 25, 4, 182, 0, 161, 27, 164, 0, 12, 25, 4, 4, 181, 0, 158, 132, 2, 1, 167, 255, 202]
abbrev dktX2_forget_2 : List UInt8 := dkwX2_forget_2 ++ dktX2_forget_3
def dkwX2_forget_1 : List UInt8 := [185, 0, 66, 1, 0, 192, 0, 70, 58, 4, 25, 4, 180, 0, 155, 153, 0, 29, 25, 4, 180, 0, 158]
abbrev dktX2_forget_1 : List UInt8 := dkwX2_forget_1 ++ dktX2_forget_2
def dkwX2_forget_0 : List UInt8 := [3, 61, 42, 180, 0, 14, 185, 0, 54, 1, 0, 78, 45, 185, 0, 60, 1, 0, 153, 0, 51, 45]
abbrev dktX2_forget_0 : List UInt8 := dkwX2_forget_0 ++ dktX2_forget_1
theorem dksX2_forget_0 : cX2_forget.data.toList.drop 0 = dktX2_forget_0 := by decide +kernel
theorem dksX2_forget_1 : cX2_forget.data.toList.drop 22 = dktX2_forget_1 := dk_seg dksX2_forget_0 22 rfl rfl
theorem dksX2_forget_2 : cX2_forget.data.toList.drop 45 = dktX2_forget_2 := dk_seg dksX2_forget_1 23 rfl rfl
theorem dksX2_forget_3 : cX2_forget.data.toList.drop 69 = dktX2_forget_3 := dk_seg dksX2_forget_2 24 rfl rfl
theorem dX2_forget_0 : decode cX2_forget 0 = .ok (.iconst 0, 1) := dk_3 (dk_at dksX2_forget_0 0 rfl rfl)
theorem dX2_forget_1 : decode cX2_forget 1 = .ok (.istore_n 2, 1) := dk_61 (dk_at dksX2_forget_0 1 rfl rfl)
theorem dX2_forget_2 : decode cX2_forget 2 = .ok (.aload_n 0, 1) := dk_42 (dk_at dksX2_forget_0 2 rfl rfl)
theorem dX2_forget_3 : decode cX2_forget 3 = .ok (.getfield 14, 3) := dk_180 0 14 (dk_at dksX2_forget_0 3 rfl rfl)
theorem dX2_forget_6 : decode cX2_forget 6 = .ok (.invokeinterface 54 1, 5) := by decide +kernel
theorem dX2_forget_11 : decode cX2_forget 11 = .ok (.astore_n 3, 1) := dk_78 (dk_at dksX2_forget_0 11 rfl rfl)
theorem dX2_forget_12 : decode cX2_forget 12 = .ok (.aload_n 3, 1) := dk_45 (dk_at dksX2_forget_0 12 rfl rfl)
theorem dX2_forget_13 : decode cX2_forget 13 = .ok (.invokeinterface 60 1, 5) := by decide +kernel
theorem dX2_forget_18 : decode cX2_forget 18 = .ok (.ifCond .eq 51, 3) := dk_153 0 51 (dk_at dksX2_forget_0 18 rfl rfl)
theorem dX2_forget_21 : decode cX2_forget 21 = .ok (.aload_n 3, 1) := dk_45 (dk_at dksX2_forget_0 21 rfl rfl)
theorem dX2_forget_22 : decode cX2_forget 22 = .ok (.invokeinterface 66 1, 5) := by decide +kernel
theorem dX2_forget_27 : decode cX2_forget 27 = .ok (.checkcast 70, 3) := dk_192 0 70 (dk_at dksX2_forget_1 5 rfl rfl)
theorem dX2_forget_30 : decode cX2_forget 30 = .ok (.astore 4, 2) := dk_58 4 (dk_at dksX2_forget_1 8 rfl rfl)
theorem dX2_forget_32 : decode cX2_forget 32 = .ok (.aload 4, 2) := dk_25 4 (dk_at dksX2_forget_1 10 rfl rfl)
theorem dX2_forget_34 : decode cX2_forget 34 = .ok (.getfield 155, 3) := dk_180 0 155 (dk_at dksX2_forget_1 12 rfl rfl)
theorem dX2_forget_37 : decode cX2_forget 37 = .ok (.ifCond .eq 29, 3) := dk_153 0 29 (dk_at dksX2_forget_1 15 rfl rfl)
theorem dX2_forget_40 : decode cX2_forget 40 = .ok (.aload 4, 2) := dk_25 4 (dk_at dksX2_forget_1 18 rfl rfl)
theorem dX2_forget_42 : decode cX2_forget 42 = .ok (.getfield 158, 3) := dk_180 0 158 (dk_at dksX2_forget_1 20 rfl rfl)
theorem dX2_forget_45 : decode cX2_forget 45 = .ok (.ifCond .ne 21, 3) := dk_154 0 21 (dk_at dksX2_forget_2 0 rfl rfl)
theorem dX2_forget_48 : decode cX2_forget 48 = .ok (.aload 4, 2) := dk_25 4 (dk_at dksX2_forget_2 3 rfl rfl)
theorem dX2_forget_50 : decode cX2_forget 50 = .ok (.invokevirtual 161, 3) := dk_182 0 161 (dk_at dksX2_forget_2 5 rfl rfl)
theorem dX2_forget_53 : decode cX2_forget 53 = .ok (.iload_n 1, 1) := dk_27 (dk_at dksX2_forget_2 8 rfl rfl)
theorem dX2_forget_54 : decode cX2_forget 54 = .ok (.if_icmp .le 12, 3) := dk_164 0 12 (dk_at dksX2_forget_2 9 rfl rfl)
theorem dX2_forget_57 : decode cX2_forget 57 = .ok (.aload 4, 2) := dk_25 4 (dk_at dksX2_forget_2 12 rfl rfl)
theorem dX2_forget_59 : decode cX2_forget 59 = .ok (.iconst 1, 1) := dk_4 (dk_at dksX2_forget_2 14 rfl rfl)
theorem dX2_forget_60 : decode cX2_forget 60 = .ok (.putfield 158, 3) := dk_181 0 158 (dk_at dksX2_forget_2 15 rfl rfl)
theorem dX2_forget_63 : decode cX2_forget 63 = .ok (.iinc 2 1, 3) := dk_132 2 1 (dk_at dksX2_forget_2 18 rfl rfl)
theorem dX2_forget_66 : decode cX2_forget 66 = .ok (.goto (-54), 3) := dk_167 255 202 (dk_at dksX2_forget_2 21 rfl rfl)
theorem dX2_forget_69 : decode cX2_forget 69 = .ok (.iload_n 2, 1) := dk_28 (dk_at dksX2_forget_3 0 rfl rfl)
theorem dX2_forget_70 : decode cX2_forget 70 = .ok (.ireturn, 1) := dk_172 (dk_at dksX2_forget_3 1 rfl rfl)
abbrev cX2_like : ByteArray := prog_8_method_2_code
def yX2_like : MethodName := ⟨RX2, "like", "()LLearntReasons$State;"⟩
def dkwX2_like_9 : List UInt8 := [180, 0, 50, 181, 0, 50, 43, 42, 180, 0, 105, 181, 0, 105, 43, 176]
abbrev dktX2_like_9 : List UInt8 := dkwX2_like_9 ++ []
def dkwX2_like_8 : List UInt8 := [180, 0, 40, 181, 0, 40, 43, 42, 180, 0, 44, 181, 0, 44, 43, 42, 180, 0, 47, 181, 0, 47, 43, 42]
abbrev dktX2_like_8 : List UInt8 := dkwX2_like_8 ++ dktX2_like_9
def dkwX2_like_7 : List UInt8 := [180, 0, 96, 181, 0, 96, 43, 42, 180, 0, 99, 181, 0, 99, 43, 42, 180, 0, 102, 181, 0, 102, 43, 42]
abbrev dktX2_like_7 : List UInt8 := dkwX2_like_7 ++ dktX2_like_8
def dkwX2_like_6 : List UInt8 := [16, 31, 184, 0, 84, 43, 42, 180, 0, 90, 181, 0, 90, 43, 42, 180, 0, 93, 181, 0, 93, 43, 42]
abbrev dktX2_like_6 : List UInt8 := dkwX2_like_6 ++ dktX2_like_7
def dkwX2_like_5 : List UInt8 := [180, 0, 33, 3, 43, 180, 0, 33, 3, 16, 8, 184, 0, 84, 42, 180, 0, 36, 3, 43, 180, 0, 36, 3]
abbrev dktX2_like_5 : List UInt8 := dkwX2_like_5 ++ dktX2_like_6
def dkwX2_like_4 : List UInt8 := [16, 31, 184, 0, 84, 42, 180, 0, 30, 3, 43, 180, 0, 30, 3, 42, 180, 0, 30, 190, 184, 0, 84, 42]
abbrev dktX2_like_4 : List UInt8 := dkwX2_like_4 ++ dktX2_like_5
def dkwX2_like_3 : List UInt8 := [180, 0, 23, 3, 43, 180, 0, 23, 3, 16, 8, 184, 0, 84, 42, 180, 0, 27, 3, 43, 180, 0, 27, 3]
abbrev dktX2_like_3 : List UInt8 := dkwX2_like_3 ++ dktX2_like_4
def dkwX2_like_2 : List UInt8 := [185, 0, 76, 2, 0, 87, 167, 255, 223, 43, 180, 0, 20, 42, 180, 0, 20, 185, 0, 80, 2, 0, 87, 42]
abbrev dktX2_like_2 : List UInt8 := dkwX2_like_2 ++ dktX2_like_3
def dkwX2_like_1 : List UInt8 := [153, 0, 30, 44, 185, 0, 66, 1, 0, 192, 0, 70, 78, 43, 180, 0, 14, 45, 182, 0, 72]
abbrev dktX2_like_1 : List UInt8 := dkwX2_like_1 ++ dktX2_like_2
def dkwX2_like_0 : List UInt8 := [187, 0, 15, 89, 183, 0, 53, 76, 42, 180, 0, 14, 185, 0, 54, 1, 0, 77, 44, 185, 0, 60, 1, 0]
abbrev dktX2_like_0 : List UInt8 := dkwX2_like_0 ++ dktX2_like_1
theorem dksX2_like_0 : cX2_like.data.toList.drop 0 = dktX2_like_0 := by decide +kernel
theorem dksX2_like_1 : cX2_like.data.toList.drop 24 = dktX2_like_1 := dk_seg dksX2_like_0 24 rfl rfl
theorem dksX2_like_2 : cX2_like.data.toList.drop 45 = dktX2_like_2 := dk_seg dksX2_like_1 21 rfl rfl
theorem dksX2_like_3 : cX2_like.data.toList.drop 69 = dktX2_like_3 := dk_seg dksX2_like_2 24 rfl rfl
theorem dksX2_like_4 : cX2_like.data.toList.drop 93 = dktX2_like_4 := dk_seg dksX2_like_3 24 rfl rfl
theorem dksX2_like_5 : cX2_like.data.toList.drop 117 = dktX2_like_5 := dk_seg dksX2_like_4 24 rfl rfl
theorem dksX2_like_6 : cX2_like.data.toList.drop 141 = dktX2_like_6 := dk_seg dksX2_like_5 24 rfl rfl
theorem dksX2_like_7 : cX2_like.data.toList.drop 164 = dktX2_like_7 := dk_seg dksX2_like_6 23 rfl rfl
theorem dksX2_like_8 : cX2_like.data.toList.drop 188 = dktX2_like_8 := dk_seg dksX2_like_7 24 rfl rfl
theorem dksX2_like_9 : cX2_like.data.toList.drop 212 = dktX2_like_9 := dk_seg dksX2_like_8 24 rfl rfl
theorem dX2_like_0 : decode cX2_like 0 = .ok (.new 15, 3) := dk_187 0 15 (dk_at dksX2_like_0 0 rfl rfl)
theorem dX2_like_3 : decode cX2_like 3 = .ok (.dup, 1) := dk_89 (dk_at dksX2_like_0 3 rfl rfl)
theorem dX2_like_4 : decode cX2_like 4 = .ok (.invokespecial 53, 3) := dk_183 0 53 (dk_at dksX2_like_0 4 rfl rfl)
theorem dX2_like_7 : decode cX2_like 7 = .ok (.astore_n 1, 1) := dk_76 (dk_at dksX2_like_0 7 rfl rfl)
theorem dX2_like_8 : decode cX2_like 8 = .ok (.aload_n 0, 1) := dk_42 (dk_at dksX2_like_0 8 rfl rfl)
theorem dX2_like_9 : decode cX2_like 9 = .ok (.getfield 14, 3) := dk_180 0 14 (dk_at dksX2_like_0 9 rfl rfl)
theorem dX2_like_12 : decode cX2_like 12 = .ok (.invokeinterface 54 1, 5) := by decide +kernel
theorem dX2_like_17 : decode cX2_like 17 = .ok (.astore_n 2, 1) := dk_77 (dk_at dksX2_like_0 17 rfl rfl)
theorem dX2_like_18 : decode cX2_like 18 = .ok (.aload_n 2, 1) := dk_44 (dk_at dksX2_like_0 18 rfl rfl)
theorem dX2_like_19 : decode cX2_like 19 = .ok (.invokeinterface 60 1, 5) := by decide +kernel
theorem dX2_like_24 : decode cX2_like 24 = .ok (.ifCond .eq 30, 3) := dk_153 0 30 (dk_at dksX2_like_1 0 rfl rfl)
theorem dX2_like_27 : decode cX2_like 27 = .ok (.aload_n 2, 1) := dk_44 (dk_at dksX2_like_1 3 rfl rfl)
theorem dX2_like_28 : decode cX2_like 28 = .ok (.invokeinterface 66 1, 5) := by decide +kernel
theorem dX2_like_33 : decode cX2_like 33 = .ok (.checkcast 70, 3) := dk_192 0 70 (dk_at dksX2_like_1 9 rfl rfl)
theorem dX2_like_36 : decode cX2_like 36 = .ok (.astore_n 3, 1) := dk_78 (dk_at dksX2_like_1 12 rfl rfl)
theorem dX2_like_37 : decode cX2_like 37 = .ok (.aload_n 1, 1) := dk_43 (dk_at dksX2_like_1 13 rfl rfl)
theorem dX2_like_38 : decode cX2_like 38 = .ok (.getfield 14, 3) := dk_180 0 14 (dk_at dksX2_like_1 14 rfl rfl)
theorem dX2_like_41 : decode cX2_like 41 = .ok (.aload_n 3, 1) := dk_45 (dk_at dksX2_like_1 17 rfl rfl)
theorem dX2_like_42 : decode cX2_like 42 = .ok (.invokevirtual 72, 3) := dk_182 0 72 (dk_at dksX2_like_1 18 rfl rfl)
theorem dX2_like_45 : decode cX2_like 45 = .ok (.invokeinterface 76 2, 5) := by decide +kernel
theorem dX2_like_50 : decode cX2_like 50 = .ok (.pop, 1) := dk_87 (dk_at dksX2_like_2 5 rfl rfl)
theorem dX2_like_51 : decode cX2_like 51 = .ok (.goto (-33), 3) := dk_167 255 223 (dk_at dksX2_like_2 6 rfl rfl)
theorem dX2_like_54 : decode cX2_like 54 = .ok (.aload_n 1, 1) := dk_43 (dk_at dksX2_like_2 9 rfl rfl)
theorem dX2_like_55 : decode cX2_like 55 = .ok (.getfield 20, 3) := dk_180 0 20 (dk_at dksX2_like_2 10 rfl rfl)
theorem dX2_like_58 : decode cX2_like 58 = .ok (.aload_n 0, 1) := dk_42 (dk_at dksX2_like_2 13 rfl rfl)
theorem dX2_like_59 : decode cX2_like 59 = .ok (.getfield 20, 3) := dk_180 0 20 (dk_at dksX2_like_2 14 rfl rfl)
theorem dX2_like_62 : decode cX2_like 62 = .ok (.invokeinterface 80 2, 5) := by decide +kernel
theorem dX2_like_67 : decode cX2_like 67 = .ok (.pop, 1) := dk_87 (dk_at dksX2_like_2 22 rfl rfl)
theorem dX2_like_68 : decode cX2_like 68 = .ok (.aload_n 0, 1) := dk_42 (dk_at dksX2_like_2 23 rfl rfl)
theorem dX2_like_69 : decode cX2_like 69 = .ok (.getfield 23, 3) := dk_180 0 23 (dk_at dksX2_like_3 0 rfl rfl)
theorem dX2_like_72 : decode cX2_like 72 = .ok (.iconst 0, 1) := dk_3 (dk_at dksX2_like_3 3 rfl rfl)
theorem dX2_like_73 : decode cX2_like 73 = .ok (.aload_n 1, 1) := dk_43 (dk_at dksX2_like_3 4 rfl rfl)
theorem dX2_like_74 : decode cX2_like 74 = .ok (.getfield 23, 3) := dk_180 0 23 (dk_at dksX2_like_3 5 rfl rfl)
theorem dX2_like_77 : decode cX2_like 77 = .ok (.iconst 0, 1) := dk_3 (dk_at dksX2_like_3 8 rfl rfl)
theorem dX2_like_78 : decode cX2_like 78 = .ok (.bipush 8, 2) := dk_16 8 (dk_at dksX2_like_3 9 rfl rfl)
theorem dX2_like_80 : decode cX2_like 80 = .ok (.invokestatic 84, 3) := dk_184 0 84 (dk_at dksX2_like_3 11 rfl rfl)
theorem dX2_like_83 : decode cX2_like 83 = .ok (.aload_n 0, 1) := dk_42 (dk_at dksX2_like_3 14 rfl rfl)
theorem dX2_like_84 : decode cX2_like 84 = .ok (.getfield 27, 3) := dk_180 0 27 (dk_at dksX2_like_3 15 rfl rfl)
theorem dX2_like_87 : decode cX2_like 87 = .ok (.iconst 0, 1) := dk_3 (dk_at dksX2_like_3 18 rfl rfl)
theorem dX2_like_88 : decode cX2_like 88 = .ok (.aload_n 1, 1) := dk_43 (dk_at dksX2_like_3 19 rfl rfl)
theorem dX2_like_89 : decode cX2_like 89 = .ok (.getfield 27, 3) := dk_180 0 27 (dk_at dksX2_like_3 20 rfl rfl)
theorem dX2_like_92 : decode cX2_like 92 = .ok (.iconst 0, 1) := dk_3 (dk_at dksX2_like_3 23 rfl rfl)
theorem dX2_like_93 : decode cX2_like 93 = .ok (.bipush 31, 2) := dk_16 31 (dk_at dksX2_like_4 0 rfl rfl)
theorem dX2_like_95 : decode cX2_like 95 = .ok (.invokestatic 84, 3) := dk_184 0 84 (dk_at dksX2_like_4 2 rfl rfl)
theorem dX2_like_98 : decode cX2_like 98 = .ok (.aload_n 0, 1) := dk_42 (dk_at dksX2_like_4 5 rfl rfl)
theorem dX2_like_99 : decode cX2_like 99 = .ok (.getfield 30, 3) := dk_180 0 30 (dk_at dksX2_like_4 6 rfl rfl)
theorem dX2_like_102 : decode cX2_like 102 = .ok (.iconst 0, 1) := dk_3 (dk_at dksX2_like_4 9 rfl rfl)
theorem dX2_like_103 : decode cX2_like 103 = .ok (.aload_n 1, 1) := dk_43 (dk_at dksX2_like_4 10 rfl rfl)
theorem dX2_like_104 : decode cX2_like 104 = .ok (.getfield 30, 3) := dk_180 0 30 (dk_at dksX2_like_4 11 rfl rfl)
theorem dX2_like_107 : decode cX2_like 107 = .ok (.iconst 0, 1) := dk_3 (dk_at dksX2_like_4 14 rfl rfl)
theorem dX2_like_108 : decode cX2_like 108 = .ok (.aload_n 0, 1) := dk_42 (dk_at dksX2_like_4 15 rfl rfl)
theorem dX2_like_109 : decode cX2_like 109 = .ok (.getfield 30, 3) := dk_180 0 30 (dk_at dksX2_like_4 16 rfl rfl)
theorem dX2_like_112 : decode cX2_like 112 = .ok (.arraylength, 1) := dk_190 (dk_at dksX2_like_4 19 rfl rfl)
theorem dX2_like_113 : decode cX2_like 113 = .ok (.invokestatic 84, 3) := dk_184 0 84 (dk_at dksX2_like_4 20 rfl rfl)
theorem dX2_like_116 : decode cX2_like 116 = .ok (.aload_n 0, 1) := dk_42 (dk_at dksX2_like_4 23 rfl rfl)
theorem dX2_like_117 : decode cX2_like 117 = .ok (.getfield 33, 3) := dk_180 0 33 (dk_at dksX2_like_5 0 rfl rfl)
theorem dX2_like_120 : decode cX2_like 120 = .ok (.iconst 0, 1) := dk_3 (dk_at dksX2_like_5 3 rfl rfl)
theorem dX2_like_121 : decode cX2_like 121 = .ok (.aload_n 1, 1) := dk_43 (dk_at dksX2_like_5 4 rfl rfl)
theorem dX2_like_122 : decode cX2_like 122 = .ok (.getfield 33, 3) := dk_180 0 33 (dk_at dksX2_like_5 5 rfl rfl)
theorem dX2_like_125 : decode cX2_like 125 = .ok (.iconst 0, 1) := dk_3 (dk_at dksX2_like_5 8 rfl rfl)
theorem dX2_like_126 : decode cX2_like 126 = .ok (.bipush 8, 2) := dk_16 8 (dk_at dksX2_like_5 9 rfl rfl)
theorem dX2_like_128 : decode cX2_like 128 = .ok (.invokestatic 84, 3) := dk_184 0 84 (dk_at dksX2_like_5 11 rfl rfl)
theorem dX2_like_131 : decode cX2_like 131 = .ok (.aload_n 0, 1) := dk_42 (dk_at dksX2_like_5 14 rfl rfl)
theorem dX2_like_132 : decode cX2_like 132 = .ok (.getfield 36, 3) := dk_180 0 36 (dk_at dksX2_like_5 15 rfl rfl)
theorem dX2_like_135 : decode cX2_like 135 = .ok (.iconst 0, 1) := dk_3 (dk_at dksX2_like_5 18 rfl rfl)
theorem dX2_like_136 : decode cX2_like 136 = .ok (.aload_n 1, 1) := dk_43 (dk_at dksX2_like_5 19 rfl rfl)
theorem dX2_like_137 : decode cX2_like 137 = .ok (.getfield 36, 3) := dk_180 0 36 (dk_at dksX2_like_5 20 rfl rfl)
theorem dX2_like_140 : decode cX2_like 140 = .ok (.iconst 0, 1) := dk_3 (dk_at dksX2_like_5 23 rfl rfl)
theorem dX2_like_141 : decode cX2_like 141 = .ok (.bipush 31, 2) := dk_16 31 (dk_at dksX2_like_6 0 rfl rfl)
theorem dX2_like_143 : decode cX2_like 143 = .ok (.invokestatic 84, 3) := dk_184 0 84 (dk_at dksX2_like_6 2 rfl rfl)
theorem dX2_like_146 : decode cX2_like 146 = .ok (.aload_n 1, 1) := dk_43 (dk_at dksX2_like_6 5 rfl rfl)
theorem dX2_like_147 : decode cX2_like 147 = .ok (.aload_n 0, 1) := dk_42 (dk_at dksX2_like_6 6 rfl rfl)
theorem dX2_like_148 : decode cX2_like 148 = .ok (.getfield 90, 3) := dk_180 0 90 (dk_at dksX2_like_6 7 rfl rfl)
theorem dX2_like_151 : decode cX2_like 151 = .ok (.putfield 90, 3) := dk_181 0 90 (dk_at dksX2_like_6 10 rfl rfl)
theorem dX2_like_154 : decode cX2_like 154 = .ok (.aload_n 1, 1) := dk_43 (dk_at dksX2_like_6 13 rfl rfl)
theorem dX2_like_155 : decode cX2_like 155 = .ok (.aload_n 0, 1) := dk_42 (dk_at dksX2_like_6 14 rfl rfl)
theorem dX2_like_156 : decode cX2_like 156 = .ok (.getfield 93, 3) := dk_180 0 93 (dk_at dksX2_like_6 15 rfl rfl)
theorem dX2_like_159 : decode cX2_like 159 = .ok (.putfield 93, 3) := dk_181 0 93 (dk_at dksX2_like_6 18 rfl rfl)
theorem dX2_like_162 : decode cX2_like 162 = .ok (.aload_n 1, 1) := dk_43 (dk_at dksX2_like_6 21 rfl rfl)
theorem dX2_like_163 : decode cX2_like 163 = .ok (.aload_n 0, 1) := dk_42 (dk_at dksX2_like_6 22 rfl rfl)
theorem dX2_like_164 : decode cX2_like 164 = .ok (.getfield 96, 3) := dk_180 0 96 (dk_at dksX2_like_7 0 rfl rfl)
theorem dX2_like_167 : decode cX2_like 167 = .ok (.putfield 96, 3) := dk_181 0 96 (dk_at dksX2_like_7 3 rfl rfl)
theorem dX2_like_170 : decode cX2_like 170 = .ok (.aload_n 1, 1) := dk_43 (dk_at dksX2_like_7 6 rfl rfl)
theorem dX2_like_171 : decode cX2_like 171 = .ok (.aload_n 0, 1) := dk_42 (dk_at dksX2_like_7 7 rfl rfl)
theorem dX2_like_172 : decode cX2_like 172 = .ok (.getfield 99, 3) := dk_180 0 99 (dk_at dksX2_like_7 8 rfl rfl)
theorem dX2_like_175 : decode cX2_like 175 = .ok (.putfield 99, 3) := dk_181 0 99 (dk_at dksX2_like_7 11 rfl rfl)
theorem dX2_like_178 : decode cX2_like 178 = .ok (.aload_n 1, 1) := dk_43 (dk_at dksX2_like_7 14 rfl rfl)
theorem dX2_like_179 : decode cX2_like 179 = .ok (.aload_n 0, 1) := dk_42 (dk_at dksX2_like_7 15 rfl rfl)
theorem dX2_like_180 : decode cX2_like 180 = .ok (.getfield 102, 3) := dk_180 0 102 (dk_at dksX2_like_7 16 rfl rfl)
theorem dX2_like_183 : decode cX2_like 183 = .ok (.putfield 102, 3) := dk_181 0 102 (dk_at dksX2_like_7 19 rfl rfl)
theorem dX2_like_186 : decode cX2_like 186 = .ok (.aload_n 1, 1) := dk_43 (dk_at dksX2_like_7 22 rfl rfl)
theorem dX2_like_187 : decode cX2_like 187 = .ok (.aload_n 0, 1) := dk_42 (dk_at dksX2_like_7 23 rfl rfl)
theorem dX2_like_188 : decode cX2_like 188 = .ok (.getfield 40, 3) := dk_180 0 40 (dk_at dksX2_like_8 0 rfl rfl)
theorem dX2_like_191 : decode cX2_like 191 = .ok (.putfield 40, 3) := dk_181 0 40 (dk_at dksX2_like_8 3 rfl rfl)
theorem dX2_like_194 : decode cX2_like 194 = .ok (.aload_n 1, 1) := dk_43 (dk_at dksX2_like_8 6 rfl rfl)
theorem dX2_like_195 : decode cX2_like 195 = .ok (.aload_n 0, 1) := dk_42 (dk_at dksX2_like_8 7 rfl rfl)
theorem dX2_like_196 : decode cX2_like 196 = .ok (.getfield 44, 3) := dk_180 0 44 (dk_at dksX2_like_8 8 rfl rfl)
theorem dX2_like_199 : decode cX2_like 199 = .ok (.putfield 44, 3) := dk_181 0 44 (dk_at dksX2_like_8 11 rfl rfl)
theorem dX2_like_202 : decode cX2_like 202 = .ok (.aload_n 1, 1) := dk_43 (dk_at dksX2_like_8 14 rfl rfl)
theorem dX2_like_203 : decode cX2_like 203 = .ok (.aload_n 0, 1) := dk_42 (dk_at dksX2_like_8 15 rfl rfl)
theorem dX2_like_204 : decode cX2_like 204 = .ok (.getfield 47, 3) := dk_180 0 47 (dk_at dksX2_like_8 16 rfl rfl)
theorem dX2_like_207 : decode cX2_like 207 = .ok (.putfield 47, 3) := dk_181 0 47 (dk_at dksX2_like_8 19 rfl rfl)
theorem dX2_like_210 : decode cX2_like 210 = .ok (.aload_n 1, 1) := dk_43 (dk_at dksX2_like_8 22 rfl rfl)
theorem dX2_like_211 : decode cX2_like 211 = .ok (.aload_n 0, 1) := dk_42 (dk_at dksX2_like_8 23 rfl rfl)
theorem dX2_like_212 : decode cX2_like 212 = .ok (.getfield 50, 3) := dk_180 0 50 (dk_at dksX2_like_9 0 rfl rfl)
theorem dX2_like_215 : decode cX2_like 215 = .ok (.putfield 50, 3) := dk_181 0 50 (dk_at dksX2_like_9 3 rfl rfl)
theorem dX2_like_218 : decode cX2_like 218 = .ok (.aload_n 1, 1) := dk_43 (dk_at dksX2_like_9 6 rfl rfl)
theorem dX2_like_219 : decode cX2_like 219 = .ok (.aload_n 0, 1) := dk_42 (dk_at dksX2_like_9 7 rfl rfl)
theorem dX2_like_220 : decode cX2_like 220 = .ok (.getfield 105, 3) := dk_180 0 105 (dk_at dksX2_like_9 8 rfl rfl)
theorem dX2_like_223 : decode cX2_like 223 = .ok (.putfield 105, 3) := dk_181 0 105 (dk_at dksX2_like_9 11 rfl rfl)
theorem dX2_like_226 : decode cX2_like 226 = .ok (.aload_n 1, 1) := dk_43 (dk_at dksX2_like_9 14 rfl rfl)
theorem dX2_like_227 : decode cX2_like 227 = .ok (.areturn, 1) := dk_176 (dk_at dksX2_like_9 15 rfl rfl)
theorem q106 : (Jvm.Cond.initialized "LearntReasons$State") ∈ lw_all := lw_g (lw_at lw_m1 2 rfl) rfl
theorem q146 : (Jvm.Cond.instantiable "LearntReasons$State" (17 : Nat)) ∈ lw_all := lw_g (lw_at lw_m1 42 rfl) rfl
theorem q148 : (Jvm.Cond.instanceMethod ({ cls := "LearntReasons$State", name := "<init>", desc := "()V" } : Jvm.MethodName)) ∈ lw_all := lw_g (lw_at lw_m1 44 rfl) rfl
theorem q149 : (Jvm.Cond.code ({ cls := "LearntReasons$State", name := "<init>", desc := "()V" } : Jvm.MethodName) prog_8_method_1_code (1 : Nat) (Option.none : Option Jvm.ClassFile.FieldType)) ∈ lw_all := lw_g (lw_at lw_m1 45 rfl) rfl
theorem q150 : (Jvm.Cond.methodLink "LearntReasons$State" (3 : Nat) ({ cls := "java/lang/Object", name := "<init>", desc := "()V" } : Jvm.MethodName)) ∈ lw_all := lw_g (lw_at lw_m1 46 rfl) rfl
theorem q151 : (Jvm.Cond.classLink "LearntReasons$State" (9 : Nat) "java/util/ArrayList") ∈ lw_all := lw_g (lw_at lw_m1 47 rfl) rfl
theorem q153 : (Jvm.Cond.methodLink "LearntReasons$State" (11 : Nat) ({ cls := "java/util/ArrayList", name := "<init>", desc := "(I)V" } : Jvm.MethodName)) ∈ lw_all := lw_g (lw_at lw_m1 49 rfl) rfl
theorem q182 : (Jvm.Cond.fieldLink "LearntReasons$State" (14 : Nat) "LearntReasons$State" "clauses" "Ljava/util/List;") ∈ lw_all := lw_g (lw_at lw_m1 78 rfl) rfl
theorem q185 : (Jvm.Cond.fieldLink "LearntReasons$State" (20 : Nat) "LearntReasons$State" "log" "Ljava/util/List;") ∈ lw_all := lw_g (lw_at lw_m1 81 rfl) rfl
theorem q188 : (Jvm.Cond.fieldLink "LearntReasons$State" (23 : Nat) "LearntReasons$State" "assumed" "[I") ∈ lw_all := lw_g (lw_at lw_m1 84 rfl) rfl
theorem q192 : (Jvm.Cond.fieldLink "LearntReasons$State" (27 : Nat) "LearntReasons$State" "scores" "[I") ∈ lw_all := lw_g (lw_at lw_m1 88 rfl) rfl
theorem q195 : (Jvm.Cond.fieldLink "LearntReasons$State" (30 : Nat) "LearntReasons$State" "counts" "[I") ∈ lw_all := lw_g (lw_at lw_m1 91 rfl) rfl
theorem q198 : (Jvm.Cond.fieldLink "LearntReasons$State" (33 : Nat) "LearntReasons$State" "open" "[I") ∈ lw_all := lw_g (lw_at lw_m1 94 rfl) rfl
theorem q199 : (Jvm.Cond.fieldLink "LearntReasons$State" (36 : Nat) "LearntReasons$State" "phases" "[Z") ∈ lw_all := lw_g (lw_at lw_m1 95 rfl) rfl
theorem q203 : (Jvm.Cond.fieldLink "LearntReasons$State" (90 : Nat) "LearntReasons$State" "variables" "I") ∈ lw_all := lw_g (lw_at lw_m1 99 rfl) rfl
theorem q207 : (Jvm.Cond.fieldLink "LearntReasons$State" (93 : Nat) "LearntReasons$State" "told" "I") ∈ lw_all := lw_g (lw_at lw_m1 103 rfl) rfl
theorem q209 : (Jvm.Cond.fieldLink "LearntReasons$State" (96 : Nat) "LearntReasons$State" "assumptions" "I") ∈ lw_all := lw_g (lw_at lw_m1 105 rfl) rfl
theorem q213 : (Jvm.Cond.fieldLink "LearntReasons$State" (99 : Nat) "LearntReasons$State" "opened" "I") ∈ lw_all := lw_g (lw_at lw_m1 109 rfl) rfl
theorem q215 : (Jvm.Cond.fieldLink "LearntReasons$State" (102 : Nat) "LearntReasons$State" "unit" "I") ∈ lw_all := lw_g (lw_at lw_m1 111 rfl) rfl
theorem q218 : (Jvm.Cond.fieldLink "LearntReasons$State" (40 : Nat) "LearntReasons$State" "ended" "I") ∈ lw_all := lw_g (lw_at lw_m1 114 rfl) rfl
theorem q221 : (Jvm.Cond.fieldLink "LearntReasons$State" (44 : Nat) "LearntReasons$State" "core" "I") ∈ lw_all := lw_g (lw_at lw_m1 117 rfl) rfl
theorem q224 : (Jvm.Cond.fieldLink "LearntReasons$State" (47 : Nat) "LearntReasons$State" "closed" "I") ∈ lw_all := lw_g (lw_at lw_m1 120 rfl) rfl
theorem q226 : (Jvm.Cond.fieldLink "LearntReasons$State" (50 : Nat) "LearntReasons$State" "model" "[I") ∈ lw_all := lw_g (lw_at lw_m1 122 rfl) rfl
theorem q229 : (Jvm.Cond.fieldLink "LearntReasons$State" (105 : Nat) "LearntReasons$State" "isRefuted" "Z") ∈ lw_all := lw_g (lw_at lw_m1 125 rfl) rfl
theorem q232 : (Jvm.Cond.laysFinal "LearntReasons$State" "LearntReasons$State" "clauses" "Ljava/util/List;") ∈ lw_all := lw_g (lw_at lw_m1 128 rfl) rfl
theorem q233 : (Jvm.Cond.soleField "LearntReasons$State" "clauses") ∈ lw_all := lw_g (lw_at lw_m1 129 rfl) rfl
theorem q234 : (Jvm.Cond.laysFinal "LearntReasons$State" "LearntReasons$State" "log" "Ljava/util/List;") ∈ lw_all := lw_g (lw_at lw_m1 130 rfl) rfl
theorem q235 : (Jvm.Cond.soleField "LearntReasons$State" "log") ∈ lw_all := lw_g (lw_at lw_m1 131 rfl) rfl
theorem q236 : (Jvm.Cond.laysFinal "LearntReasons$State" "LearntReasons$State" "assumed" "[I") ∈ lw_all := lw_g (lw_at lw_m1 132 rfl) rfl
theorem q237 : (Jvm.Cond.soleField "LearntReasons$State" "assumed") ∈ lw_all := lw_g (lw_at lw_m1 133 rfl) rfl
theorem q238 : (Jvm.Cond.laysFinal "LearntReasons$State" "LearntReasons$State" "scores" "[I") ∈ lw_all := lw_g (lw_at lw_m1 134 rfl) rfl
theorem q239 : (Jvm.Cond.soleField "LearntReasons$State" "scores") ∈ lw_all := lw_g (lw_at lw_m1 135 rfl) rfl
theorem q240 : (Jvm.Cond.laysFinal "LearntReasons$State" "LearntReasons$State" "counts" "[I") ∈ lw_all := lw_g (lw_at lw_m1 136 rfl) rfl
theorem q241 : (Jvm.Cond.soleField "LearntReasons$State" "counts") ∈ lw_all := lw_g (lw_at lw_m1 137 rfl) rfl
theorem q242 : (Jvm.Cond.laysFinal "LearntReasons$State" "LearntReasons$State" "open" "[I") ∈ lw_all := lw_g (lw_at lw_m1 138 rfl) rfl
theorem q243 : (Jvm.Cond.soleField "LearntReasons$State" "open") ∈ lw_all := lw_g (lw_at lw_m1 139 rfl) rfl
theorem q244 : (Jvm.Cond.laysFinal "LearntReasons$State" "LearntReasons$State" "phases" "[Z") ∈ lw_all := lw_g (lw_at lw_m1 140 rfl) rfl
theorem q245 : (Jvm.Cond.soleField "LearntReasons$State" "phases") ∈ lw_all := lw_g (lw_at lw_m1 141 rfl) rfl
theorem q246 : (Jvm.Cond.lays "LearntReasons$State" "LearntReasons$State" "variables" "I") ∈ lw_all := lw_g (lw_at lw_m1 142 rfl) rfl
theorem q247 : (Jvm.Cond.soleField "LearntReasons$State" "variables") ∈ lw_all := lw_g (lw_at lw_m1 143 rfl) rfl
theorem q248 : (Jvm.Cond.lays "LearntReasons$State" "LearntReasons$State" "told" "I") ∈ lw_all := lw_g (lw_at lw_m1 144 rfl) rfl
theorem q249 : (Jvm.Cond.soleField "LearntReasons$State" "told") ∈ lw_all := lw_g (lw_at lw_m1 145 rfl) rfl
theorem q250 : (Jvm.Cond.lays "LearntReasons$State" "LearntReasons$State" "assumptions" "I") ∈ lw_all := lw_g (lw_at lw_m1 146 rfl) rfl
theorem q251 : (Jvm.Cond.soleField "LearntReasons$State" "assumptions") ∈ lw_all := lw_g (lw_at lw_m1 147 rfl) rfl
theorem q252 : (Jvm.Cond.lays "LearntReasons$State" "LearntReasons$State" "opened" "I") ∈ lw_all := lw_g (lw_at lw_m1 148 rfl) rfl
theorem q253 : (Jvm.Cond.soleField "LearntReasons$State" "opened") ∈ lw_all := lw_g (lw_at lw_m1 149 rfl) rfl
theorem q254 : (Jvm.Cond.lays "LearntReasons$State" "LearntReasons$State" "unit" "I") ∈ lw_all := lw_g (lw_at lw_m1 150 rfl) rfl
theorem q255 : (Jvm.Cond.soleField "LearntReasons$State" "unit") ∈ lw_all := lw_g (lw_at lw_m1 151 rfl) rfl
theorem q256 : (Jvm.Cond.lays "LearntReasons$State" "LearntReasons$State" "ended" "I") ∈ lw_all := lw_g (lw_at lw_m1 152 rfl) rfl
theorem q257 : (Jvm.Cond.soleField "LearntReasons$State" "ended") ∈ lw_all := lw_g (lw_at lw_m1 153 rfl) rfl
theorem q258 : (Jvm.Cond.lays "LearntReasons$State" "LearntReasons$State" "core" "I") ∈ lw_all := lw_g (lw_at lw_m1 154 rfl) rfl
theorem q259 : (Jvm.Cond.soleField "LearntReasons$State" "core") ∈ lw_all := lw_g (lw_at lw_m1 155 rfl) rfl
theorem q260 : (Jvm.Cond.lays "LearntReasons$State" "LearntReasons$State" "closed" "I") ∈ lw_all := lw_g (lw_at lw_m1 156 rfl) rfl
theorem q261 : (Jvm.Cond.soleField "LearntReasons$State" "closed") ∈ lw_all := lw_g (lw_at lw_m1 157 rfl) rfl
theorem q262 : (Jvm.Cond.lays "LearntReasons$State" "LearntReasons$State" "model" "[I") ∈ lw_all := lw_g (lw_at lw_m1 158 rfl) rfl
theorem q263 : (Jvm.Cond.soleField "LearntReasons$State" "model") ∈ lw_all := lw_g (lw_at lw_m1 159 rfl) rfl
theorem q264 : (Jvm.Cond.lays "LearntReasons$State" "LearntReasons$State" "isRefuted" "Z") ∈ lw_all := lw_g (lw_at lw_m1 160 rfl) rfl
theorem q265 : (Jvm.Cond.soleField "LearntReasons$State" "isRefuted") ∈ lw_all := lw_g (lw_at lw_m1 161 rfl) rfl
theorem q266 : (Jvm.Cond.superclass "LearntReasons$State" "java/lang/Object") ∈ lw_all := lw_g (lw_at lw_m1 162 rfl) rfl
theorem q296 : (Jvm.Cond.instanceMethod ({ cls := "LearntReasons$State", name := "grow", desc := "(I)I" } : Jvm.MethodName)) ∈ lw_all := lw_g (lw_at lw_m1 192 rfl) rfl
theorem q297 : (Jvm.Cond.selects "LearntReasons$State" ({ cls := "LearntReasons$State", name := "grow", desc := "(I)I" } : Jvm.MethodName) ({ cls := "LearntReasons$State", name := "grow", desc := "(I)I" } : Jvm.MethodName)) ∈ lw_all := lw_g (lw_at lw_m1 193 rfl) rfl
theorem q298 : (Jvm.Cond.code ({ cls := "LearntReasons$State", name := "grow", desc := "(I)I" } : Jvm.MethodName) prog_8_method_8_code (2 : Nat) (Option.some Jvm.ClassFile.FieldType.int)) ∈ lw_all := lw_g (lw_at lw_m1 194 rfl) rfl
theorem q299 : (Jvm.Cond.methodLinkNest "LearntReasons$State" (109 : Nat) ({ cls := "LearntReasons", name := "in", desc := "(III)Z" } : Jvm.MethodName) "LearntReasons") ∈ lw_tbl := lw_at lw_m1 195 rfl
theorem q307 : (Jvm.Cond.instanceMethod ({ cls := "LearntReasons$State", name := "add", desc := "(I)I" } : Jvm.MethodName)) ∈ lw_all := lw_g (lw_at lw_m1 203 rfl) rfl
theorem q308 : (Jvm.Cond.selects "LearntReasons$State" ({ cls := "LearntReasons$State", name := "add", desc := "(I)I" } : Jvm.MethodName) ({ cls := "LearntReasons$State", name := "add", desc := "(I)I" } : Jvm.MethodName)) ∈ lw_all := lw_g (lw_at lw_m1 204 rfl) rfl
theorem q309 : (Jvm.Cond.code ({ cls := "LearntReasons$State", name := "add", desc := "(I)I" } : Jvm.MethodName) prog_8_method_10_code (2 : Nat) (Option.some Jvm.ClassFile.FieldType.int)) ∈ lw_all := lw_g (lw_at lw_m1 205 rfl) rfl
theorem q310 : (Jvm.Cond.methodLink "LearntReasons$State" (135 : Nat) ({ cls := "LearntReasons$State", name := "isLiteral", desc := "(I)Z" } : Jvm.MethodName)) ∈ lw_all := lw_g (lw_at lw_m1 206 rfl) rfl
theorem q311 : (Jvm.Cond.instanceMethod ({ cls := "LearntReasons$State", name := "isLiteral", desc := "(I)Z" } : Jvm.MethodName)) ∈ lw_all := lw_g (lw_at lw_m1 207 rfl) rfl
theorem q312 : (Jvm.Cond.selects "LearntReasons$State" ({ cls := "LearntReasons$State", name := "isLiteral", desc := "(I)Z" } : Jvm.MethodName) ({ cls := "LearntReasons$State", name := "isLiteral", desc := "(I)Z" } : Jvm.MethodName)) ∈ lw_all := lw_g (lw_at lw_m1 208 rfl) rfl
theorem q313 : (Jvm.Cond.code ({ cls := "LearntReasons$State", name := "isLiteral", desc := "(I)Z" } : Jvm.MethodName) prog_8_method_4_code (2 : Nat) (Option.some Jvm.ClassFile.FieldType.boolean)) ∈ lw_all := lw_g (lw_at lw_m1 209 rfl) rfl
theorem q314 : (Jvm.Cond.methodLinkNest "LearntReasons$State" (113 : Nat) ({ cls := "LearntReasons", name := "variableOf", desc := "(I)I" } : Jvm.MethodName) "LearntReasons") ∈ lw_tbl := lw_at lw_m1 210 rfl
theorem q320 : (Jvm.Cond.methodLink "LearntReasons$State" (117 : Nat) ({ cls := "LearntReasons$State", name := "isVariable", desc := "(I)Z" } : Jvm.MethodName)) ∈ lw_all := lw_g (lw_at lw_m1 216 rfl) rfl
theorem q321 : (Jvm.Cond.instanceMethod ({ cls := "LearntReasons$State", name := "isVariable", desc := "(I)Z" } : Jvm.MethodName)) ∈ lw_all := lw_g (lw_at lw_m1 217 rfl) rfl
theorem q322 : (Jvm.Cond.selects "LearntReasons$State" ({ cls := "LearntReasons$State", name := "isVariable", desc := "(I)Z" } : Jvm.MethodName) ({ cls := "LearntReasons$State", name := "isVariable", desc := "(I)Z" } : Jvm.MethodName)) ∈ lw_all := lw_g (lw_at lw_m1 218 rfl) rfl
theorem q323 : (Jvm.Cond.code ({ cls := "LearntReasons$State", name := "isVariable", desc := "(I)Z" } : Jvm.MethodName) prog_8_method_3_code (2 : Nat) (Option.some Jvm.ClassFile.FieldType.boolean)) ∈ lw_all := lw_g (lw_at lw_m1 219 rfl) rfl
theorem q324 : (Jvm.Cond.methodLink "LearntReasons$State" (138 : Nat) ({ cls := "LearntReasons$State", name := "isThere", desc := "([III)Z" } : Jvm.MethodName)) ∈ lw_all := lw_g (lw_at lw_m1 220 rfl) rfl
theorem q325 : (Jvm.Cond.static ({ cls := "LearntReasons$State", name := "isThere", desc := "([III)Z" } : Jvm.MethodName)) ∈ lw_all := lw_g (lw_at lw_m1 221 rfl) rfl
theorem q326 : (Jvm.Cond.code ({ cls := "LearntReasons$State", name := "isThere", desc := "([III)Z" } : Jvm.MethodName) prog_8_method_9_code (4 : Nat) (Option.some Jvm.ClassFile.FieldType.boolean)) ∈ lw_all := lw_g (lw_at lw_m1 222 rfl) rfl
theorem q332 : (Jvm.Cond.instanceMethod ({ cls := "LearntReasons$State", name := "close", desc := "()I" } : Jvm.MethodName)) ∈ lw_all := lw_g (lw_at lw_m1 228 rfl) rfl
theorem q333 : (Jvm.Cond.selects "LearntReasons$State" ({ cls := "LearntReasons$State", name := "close", desc := "()I" } : Jvm.MethodName) ({ cls := "LearntReasons$State", name := "close", desc := "()I" } : Jvm.MethodName)) ∈ lw_all := lw_g (lw_at lw_m1 229 rfl) rfl
theorem q334 : (Jvm.Cond.code ({ cls := "LearntReasons$State", name := "close", desc := "()I" } : Jvm.MethodName) prog_8_method_11_code (2 : Nat) (Option.some Jvm.ClassFile.FieldType.int)) ∈ lw_all := lw_g (lw_at lw_m1 230 rfl) rfl
theorem q335 : (Jvm.Cond.methodLink "LearntReasons$State" (142 : Nat) ({ cls := "LearntReasons$State", name := "hasRoom", desc := "()Z" } : Jvm.MethodName)) ∈ lw_all := lw_g (lw_at lw_m1 231 rfl) rfl
theorem q336 : (Jvm.Cond.instanceMethod ({ cls := "LearntReasons$State", name := "hasRoom", desc := "()Z" } : Jvm.MethodName)) ∈ lw_all := lw_g (lw_at lw_m1 232 rfl) rfl
theorem q337 : (Jvm.Cond.selects "LearntReasons$State" ({ cls := "LearntReasons$State", name := "hasRoom", desc := "()Z" } : Jvm.MethodName) ({ cls := "LearntReasons$State", name := "hasRoom", desc := "()Z" } : Jvm.MethodName)) ∈ lw_all := lw_g (lw_at lw_m1 233 rfl) rfl
theorem q338 : (Jvm.Cond.code ({ cls := "LearntReasons$State", name := "hasRoom", desc := "()Z" } : Jvm.MethodName) prog_8_method_6_code (1 : Nat) (Option.some Jvm.ClassFile.FieldType.boolean)) ∈ lw_all := lw_g (lw_at lw_m1 234 rfl) rfl
theorem q339 : (Jvm.Cond.interfaceEntry "LearntReasons$State" (121 : Nat)) ∈ lw_tbl := lw_at lw_m1 235 rfl
theorem q340 : (Jvm.Cond.methodLink "LearntReasons$State" (121 : Nat) ({ cls := "java/util/List", name := "size", desc := "()I" } : Jvm.MethodName)) ∈ lw_all := lw_g (lw_at lw_m1 236 rfl) rfl
theorem q349 : (Jvm.Cond.methodLink "LearntReasons$State" (145 : Nat) ({ cls := "java/util/Arrays", name := "copyOf", desc := "([II)[I" } : Jvm.MethodName)) ∈ lw_all := lw_g (lw_at lw_m2 5 rfl) rfl
theorem q365 : (Jvm.Cond.methodLink "LearntReasons$State" (151 : Nat) ({ cls := "LearntReasons$State", name := "tells", desc := "([I)I" } : Jvm.MethodName)) ∈ lw_all := lw_g (lw_at lw_m2 21 rfl) rfl
theorem q366 : (Jvm.Cond.instanceMethod ({ cls := "LearntReasons$State", name := "tells", desc := "([I)I" } : Jvm.MethodName)) ∈ lw_all := lw_g (lw_at lw_m2 22 rfl) rfl
theorem q367 : (Jvm.Cond.selects "LearntReasons$State" ({ cls := "LearntReasons$State", name := "tells", desc := "([I)I" } : Jvm.MethodName) ({ cls := "LearntReasons$State", name := "tells", desc := "([I)I" } : Jvm.MethodName)) ∈ lw_all := lw_g (lw_at lw_m2 23 rfl) rfl
theorem q368 : (Jvm.Cond.code ({ cls := "LearntReasons$State", name := "tells", desc := "([I)I" } : Jvm.MethodName) prog_8_method_7_code (2 : Nat) (Option.some Jvm.ClassFile.FieldType.int)) ∈ lw_all := lw_g (lw_at lw_m2 24 rfl) rfl
theorem q369 : (Jvm.Cond.classLink "LearntReasons$State" (70 : Nat) "LearntReasons$Clause") ∈ lw_all := lw_g (lw_at lw_m2 25 rfl) rfl
theorem q371 : (Jvm.Cond.methodLink "LearntReasons$State" (128 : Nat) ({ cls := "LearntReasons$Clause", name := "<init>", desc := "([I)V" } : Jvm.MethodName)) ∈ lw_all := lw_g (lw_at lw_m2 27 rfl) rfl
theorem q384 : (Jvm.Cond.fieldLinkNest "LearntReasons$State" (155 : Nat) "LearntReasons$Clause" "isLearnt" "Z" "LearntReasons") ∈ lw_tbl := lw_at lw_m2 40 rfl
theorem q388 : (Jvm.Cond.fieldLinkNest "LearntReasons$State" (125 : Nat) "LearntReasons$Clause" "number" "I" "LearntReasons") ∈ lw_tbl := lw_at lw_m2 44 rfl
theorem q391 : (Jvm.Cond.fieldLinkNest "LearntReasons$State" (158 : Nat) "LearntReasons$Clause" "isGone" "Z" "LearntReasons") ∈ lw_tbl := lw_at lw_m2 47 rfl
theorem q408 : (Jvm.Cond.methodLink "LearntReasons$State" (131 : Nat) ({ cls := "LearntReasons$State", name := "comes", desc := "(LLearntReasons$Clause;)LLearntReasons$Clause;" } : Jvm.MethodName)) ∈ lw_all := lw_g (lw_at lw_m2 64 rfl) rfl
theorem q409 : (Jvm.Cond.instanceMethod ({ cls := "LearntReasons$State", name := "comes", desc := "(LLearntReasons$Clause;)LLearntReasons$Clause;" } : Jvm.MethodName)) ∈ lw_all := lw_g (lw_at lw_m2 65 rfl) rfl
theorem q410 : (Jvm.Cond.selects "LearntReasons$State" ({ cls := "LearntReasons$State", name := "comes", desc := "(LLearntReasons$Clause;)LLearntReasons$Clause;" } : Jvm.MethodName) ({ cls := "LearntReasons$State", name := "comes", desc := "(LLearntReasons$Clause;)LLearntReasons$Clause;" } : Jvm.MethodName)) ∈ lw_all := lw_g (lw_at lw_m2 66 rfl) rfl
theorem q411 : (Jvm.Cond.code ({ cls := "LearntReasons$State", name := "comes", desc := "(LLearntReasons$Clause;)LLearntReasons$Clause;" } : Jvm.MethodName) prog_8_method_5_code (2 : Nat) (Option.some (Jvm.ClassFile.FieldType.object "LearntReasons$Clause"))) ∈ lw_all := lw_g (lw_at lw_m2 67 rfl) rfl
theorem q412 : (Jvm.Cond.interfaceEntry "LearntReasons$State" (76 : Nat)) ∈ lw_tbl := lw_at lw_m2 68 rfl
theorem q413 : (Jvm.Cond.methodLink "LearntReasons$State" (76 : Nat) ({ cls := "java/util/List", name := "add", desc := "(Ljava/lang/Object;)Z" } : Jvm.MethodName)) ∈ lw_all := lw_g (lw_at lw_m2 69 rfl) rfl
theorem q456 : (Jvm.Cond.selects "LearntReasons$State" ({ cls := "java/lang/Object", name := "getClass", desc := "()Ljava/lang/Class;" } : Jvm.MethodName) ({ cls := "java/lang/Object", name := "getClass", desc := "()Ljava/lang/Class;" } : Jvm.MethodName)) ∈ lw_all := lw_g (lw_at lw_m2 112 rfl) rfl
theorem q478 : (Jvm.Cond.instanceMethod ({ cls := "LearntReasons$State", name := "assume", desc := "(I)I" } : Jvm.MethodName)) ∈ lw_all := lw_g (lw_at lw_m2 134 rfl) rfl
theorem q479 : (Jvm.Cond.selects "LearntReasons$State" ({ cls := "LearntReasons$State", name := "assume", desc := "(I)I" } : Jvm.MethodName) ({ cls := "LearntReasons$State", name := "assume", desc := "(I)I" } : Jvm.MethodName)) ∈ lw_all := lw_g (lw_at lw_m2 135 rfl) rfl
theorem q480 : (Jvm.Cond.code ({ cls := "LearntReasons$State", name := "assume", desc := "(I)I" } : Jvm.MethodName) prog_8_method_12_code (2 : Nat) (Option.some Jvm.ClassFile.FieldType.int)) ∈ lw_all := lw_g (lw_at lw_m2 136 rfl) rfl
theorem q501 : (Jvm.Cond.instanceMethod ({ cls := "LearntReasons$State", name := "forget", desc := "(I)I" } : Jvm.MethodName)) ∈ lw_all := lw_g (lw_at lw_m2 157 rfl) rfl
theorem q502 : (Jvm.Cond.selects "LearntReasons$State" ({ cls := "LearntReasons$State", name := "forget", desc := "(I)I" } : Jvm.MethodName) ({ cls := "LearntReasons$State", name := "forget", desc := "(I)I" } : Jvm.MethodName)) ∈ lw_all := lw_g (lw_at lw_m2 158 rfl) rfl
theorem q503 : (Jvm.Cond.code ({ cls := "LearntReasons$State", name := "forget", desc := "(I)I" } : Jvm.MethodName) prog_8_method_13_code (5 : Nat) (Option.some Jvm.ClassFile.FieldType.int)) ∈ lw_all := lw_g (lw_at lw_m2 159 rfl) rfl
theorem q504 : (Jvm.Cond.interfaceEntry "LearntReasons$State" (54 : Nat)) ∈ lw_tbl := lw_at lw_m2 160 rfl
theorem q505 : (Jvm.Cond.methodLink "LearntReasons$State" (54 : Nat) ({ cls := "java/util/List", name := "iterator", desc := "()Ljava/util/Iterator;" } : Jvm.MethodName)) ∈ lw_all := lw_g (lw_at lw_m2 161 rfl) rfl
theorem q532 : (Jvm.Cond.interfaceEntry "LearntReasons$State" (60 : Nat)) ∈ lw_tbl := lw_at lw_m2 188 rfl
theorem q533 : (Jvm.Cond.methodLink "LearntReasons$State" (60 : Nat) ({ cls := "java/util/Iterator", name := "hasNext", desc := "()Z" } : Jvm.MethodName)) ∈ lw_all := lw_g (lw_at lw_m2 189 rfl) rfl
theorem q542 : (Jvm.Cond.interfaceEntry "LearntReasons$State" (66 : Nat)) ∈ lw_tbl := lw_at lw_m2 198 rfl
theorem q543 : (Jvm.Cond.methodLink "LearntReasons$State" (66 : Nat) ({ cls := "java/util/Iterator", name := "next", desc := "()Ljava/lang/Object;" } : Jvm.MethodName)) ∈ lw_all := lw_g (lw_at lw_m2 199 rfl) rfl
theorem q618 : (Jvm.Cond.methodLink "LearntReasons$State" (161 : Nat) ({ cls := "LearntReasons$Clause", name := "size", desc := "()I" } : Jvm.MethodName)) ∈ lw_all := lw_g (lw_at lw_m3 34 rfl) rfl
theorem q627 : (Jvm.Cond.instanceMethod ({ cls := "LearntReasons$State", name := "like", desc := "()LLearntReasons$State;" } : Jvm.MethodName)) ∈ lw_all := lw_g (lw_at lw_m3 43 rfl) rfl
theorem q628 : (Jvm.Cond.selects "LearntReasons$State" ({ cls := "LearntReasons$State", name := "like", desc := "()LLearntReasons$State;" } : Jvm.MethodName) ({ cls := "LearntReasons$State", name := "like", desc := "()LLearntReasons$State;" } : Jvm.MethodName)) ∈ lw_all := lw_g (lw_at lw_m3 44 rfl) rfl
theorem q629 : (Jvm.Cond.code ({ cls := "LearntReasons$State", name := "like", desc := "()LLearntReasons$State;" } : Jvm.MethodName) prog_8_method_2_code (4 : Nat) (Option.some (Jvm.ClassFile.FieldType.object "LearntReasons$State"))) ∈ lw_all := lw_g (lw_at lw_m3 45 rfl) rfl
theorem q630 : (Jvm.Cond.classLink "LearntReasons$State" (15 : Nat) "LearntReasons$State") ∈ lw_all := lw_g (lw_at lw_m3 46 rfl) rfl
theorem q631 : (Jvm.Cond.methodLink "LearntReasons$State" (53 : Nat) ({ cls := "LearntReasons$State", name := "<init>", desc := "()V" } : Jvm.MethodName)) ∈ lw_all := lw_g (lw_at lw_m3 47 rfl) rfl
theorem q632 : (Jvm.Cond.methodLink "LearntReasons$State" (72 : Nat) ({ cls := "LearntReasons$Clause", name := "like", desc := "()LLearntReasons$Clause;" } : Jvm.MethodName)) ∈ lw_all := lw_g (lw_at lw_m3 48 rfl) rfl
theorem q637 : (Jvm.Cond.interfaceEntry "LearntReasons$State" (80 : Nat)) ∈ lw_tbl := lw_at lw_m3 53 rfl
theorem q638 : (Jvm.Cond.methodLink "LearntReasons$State" (80 : Nat) ({ cls := "java/util/List", name := "addAll", desc := "(Ljava/util/Collection;)Z" } : Jvm.MethodName)) ∈ lw_all := lw_g (lw_at lw_m3 54 rfl) rfl
theorem q657 : (Jvm.Cond.methodLink "LearntReasons$State" (84 : Nat) ({ cls := "java/lang/System", name := "arraycopy", desc := "(Ljava/lang/Object;ILjava/lang/Object;II)V" } : Jvm.MethodName)) ∈ lw_all := lw_g (lw_at lw_m3 73 rfl) rfl
theorem q1934 : (Jvm.Cond.castable "LearntReasons$State" "java/lang/Object") ∈ lw_tbl := lw_at lw_m8 150 rfl
theorem in_X2 : ∀ w ∈ wsX20, w ∈ lw_all := lw_in wsX20 [232, 234, 236, 238, 240, 242, 244, 246, 248, 250, 252, 254, 256, 258, 260, 262, 264] (by decide +kernel) (by decide +kernel)

/-! LearntReasons$Reader -/
set_option maxRecDepth 100000
def RX4 : String := "LearntReasons$Reader"
def TX4 : u_T := fun k => match k with
  | 0 => ("LearntReasons$Reader", "draft", "LLearntReasons$State;", true)
  | 1 => ("LearntReasons$Reader", "at", "I", false)
  | 2 => ("LearntReasons$Reader", "begin", "I", false)
  | 3 => ("LearntReasons$Reader", "row", "[I", true)
  | 4 => ("LearntReasons$Reader", "statements", "[LLearntReasons$Statement;", true)
  | _ => ("LearntReasons$Reader", "this$0", "LLearntReasons;", true)
def tyX4 : Nat → FieldType := fun k => match k with
  | 0 => .object "LearntReasons$State"
  | 1 => .int
  | 2 => .int
  | 3 => .array .int
  | 4 => .array (.object "LearntReasons$Statement")
  | _ => .object "LearntReasons"
abbrev wsX40 : List Cond := u_ws RX4 TX4 6
theorem nmX4 : ∀ a, a < 6 → ∀ b, b < 6 → a ≠ b → (TX4 a).2.1 ≠ (TX4 b).2.1 := by decide +kernel
theorem tyX4_ok : ∀ k, k < 6 → parseFieldDescriptor (TX4 k).2.2.1 = some (tyX4 k) := by decide +kernel
abbrev cX4_init : ByteArray := prog_6_method_1_code
def yX4_init : MethodName := ⟨RX4, "<init>", "(LLearntReasons;)V"⟩
def dkwX4_init_3 : List UInt8 := [186, 0, 43, 0, 0, 83, 177]
abbrev dktX4_init_3 : List UInt8 := dkwX4_init_3 ++ []
def dkwX4_init_2 : List UInt8 := [186, 0, 38, 0, 0, 83, 42, 180, 0, 34, 4, 42, 186, 0, 42, 0, 0, 83, 42, 180, 0, 34, 5, 42]
abbrev dktX4_init_2 : List UInt8 := dkwX4_init_2 ++ dktX4_init_3
def dkwX4_init_1 : List UInt8 := [16, 31, 188, 10, 181, 0, 28, 42, 6, 189, 0, 32, 181, 0, 34, 42, 180, 0, 34, 3, 42]
abbrev dktX4_init_1 : List UInt8 := dkwX4_init_1 ++ dktX4_init_2
def dkwX4_init_0 : List UInt8 := [42, 43, 181, 0, 3, 42, 183, 0, 9, 42, 42, 180, 0, 3, 180, 0, 15, 182, 0, 19, 181, 0, 25, 42]
abbrev dktX4_init_0 : List UInt8 := dkwX4_init_0 ++ dktX4_init_1
theorem dksX4_init_0 : cX4_init.data.toList.drop 0 = dktX4_init_0 := by decide +kernel
theorem dksX4_init_1 : cX4_init.data.toList.drop 24 = dktX4_init_1 := dk_seg dksX4_init_0 24 rfl rfl
theorem dksX4_init_2 : cX4_init.data.toList.drop 45 = dktX4_init_2 := dk_seg dksX4_init_1 21 rfl rfl
theorem dksX4_init_3 : cX4_init.data.toList.drop 69 = dktX4_init_3 := dk_seg dksX4_init_2 24 rfl rfl
theorem dX4_init_0 : decode cX4_init 0 = .ok (.aload_n 0, 1) := dk_42 (dk_at dksX4_init_0 0 rfl rfl)
theorem dX4_init_1 : decode cX4_init 1 = .ok (.aload_n 1, 1) := dk_43 (dk_at dksX4_init_0 1 rfl rfl)
theorem dX4_init_2 : decode cX4_init 2 = .ok (.putfield 3, 3) := dk_181 0 3 (dk_at dksX4_init_0 2 rfl rfl)
theorem dX4_init_5 : decode cX4_init 5 = .ok (.aload_n 0, 1) := dk_42 (dk_at dksX4_init_0 5 rfl rfl)
theorem dX4_init_6 : decode cX4_init 6 = .ok (.invokespecial 9, 3) := dk_183 0 9 (dk_at dksX4_init_0 6 rfl rfl)
theorem dX4_init_9 : decode cX4_init 9 = .ok (.aload_n 0, 1) := dk_42 (dk_at dksX4_init_0 9 rfl rfl)
theorem dX4_init_10 : decode cX4_init 10 = .ok (.aload_n 0, 1) := dk_42 (dk_at dksX4_init_0 10 rfl rfl)
theorem dX4_init_11 : decode cX4_init 11 = .ok (.getfield 3, 3) := dk_180 0 3 (dk_at dksX4_init_0 11 rfl rfl)
theorem dX4_init_14 : decode cX4_init 14 = .ok (.getfield 15, 3) := dk_180 0 15 (dk_at dksX4_init_0 14 rfl rfl)
theorem dX4_init_17 : decode cX4_init 17 = .ok (.invokevirtual 19, 3) := dk_182 0 19 (dk_at dksX4_init_0 17 rfl rfl)
theorem dX4_init_20 : decode cX4_init 20 = .ok (.putfield 25, 3) := dk_181 0 25 (dk_at dksX4_init_0 20 rfl rfl)
theorem dX4_init_23 : decode cX4_init 23 = .ok (.aload_n 0, 1) := dk_42 (dk_at dksX4_init_0 23 rfl rfl)
theorem dX4_init_24 : decode cX4_init 24 = .ok (.bipush 31, 2) := dk_16 31 (dk_at dksX4_init_1 0 rfl rfl)
theorem dX4_init_26 : decode cX4_init 26 = .ok (.newarray .int, 2) := dk_188_10 (dk_at dksX4_init_1 2 rfl rfl)
theorem dX4_init_28 : decode cX4_init 28 = .ok (.putfield 28, 3) := dk_181 0 28 (dk_at dksX4_init_1 4 rfl rfl)
theorem dX4_init_31 : decode cX4_init 31 = .ok (.aload_n 0, 1) := dk_42 (dk_at dksX4_init_1 7 rfl rfl)
theorem dX4_init_32 : decode cX4_init 32 = .ok (.iconst 3, 1) := dk_6 (dk_at dksX4_init_1 8 rfl rfl)
theorem dX4_init_33 : decode cX4_init 33 = .ok (.anewarray 32, 3) := dk_189 0 32 (dk_at dksX4_init_1 9 rfl rfl)
theorem dX4_init_36 : decode cX4_init 36 = .ok (.putfield 34, 3) := dk_181 0 34 (dk_at dksX4_init_1 12 rfl rfl)
theorem dX4_init_39 : decode cX4_init 39 = .ok (.aload_n 0, 1) := dk_42 (dk_at dksX4_init_1 15 rfl rfl)
theorem dX4_init_40 : decode cX4_init 40 = .ok (.getfield 34, 3) := dk_180 0 34 (dk_at dksX4_init_1 16 rfl rfl)
theorem dX4_init_43 : decode cX4_init 43 = .ok (.iconst 0, 1) := dk_3 (dk_at dksX4_init_1 19 rfl rfl)
theorem dX4_init_44 : decode cX4_init 44 = .ok (.aload_n 0, 1) := dk_42 (dk_at dksX4_init_1 20 rfl rfl)
theorem dX4_init_45 : decode cX4_init 45 = .ok (.invokedynamic 38, 5) := by decide +kernel
theorem dX4_init_50 : decode cX4_init 50 = .ok (.aastore, 1) := dk_83 (dk_at dksX4_init_2 5 rfl rfl)
theorem dX4_init_51 : decode cX4_init 51 = .ok (.aload_n 0, 1) := dk_42 (dk_at dksX4_init_2 6 rfl rfl)
theorem dX4_init_52 : decode cX4_init 52 = .ok (.getfield 34, 3) := dk_180 0 34 (dk_at dksX4_init_2 7 rfl rfl)
theorem dX4_init_55 : decode cX4_init 55 = .ok (.iconst 1, 1) := dk_4 (dk_at dksX4_init_2 10 rfl rfl)
theorem dX4_init_56 : decode cX4_init 56 = .ok (.aload_n 0, 1) := dk_42 (dk_at dksX4_init_2 11 rfl rfl)
theorem dX4_init_57 : decode cX4_init 57 = .ok (.invokedynamic 42, 5) := by decide +kernel
theorem dX4_init_62 : decode cX4_init 62 = .ok (.aastore, 1) := dk_83 (dk_at dksX4_init_2 17 rfl rfl)
theorem dX4_init_63 : decode cX4_init 63 = .ok (.aload_n 0, 1) := dk_42 (dk_at dksX4_init_2 18 rfl rfl)
theorem dX4_init_64 : decode cX4_init 64 = .ok (.getfield 34, 3) := dk_180 0 34 (dk_at dksX4_init_2 19 rfl rfl)
theorem dX4_init_67 : decode cX4_init 67 = .ok (.iconst 2, 1) := dk_5 (dk_at dksX4_init_2 22 rfl rfl)
theorem dX4_init_68 : decode cX4_init 68 = .ok (.aload_n 0, 1) := dk_42 (dk_at dksX4_init_2 23 rfl rfl)
theorem dX4_init_69 : decode cX4_init 69 = .ok (.invokedynamic 43, 5) := by decide +kernel
theorem dX4_init_74 : decode cX4_init 74 = .ok (.aastore, 1) := dk_83 (dk_at dksX4_init_3 5 rfl rfl)
theorem dX4_init_75 : decode cX4_init 75 = .ok (.return_, 1) := dk_177 (dk_at dksX4_init_3 6 rfl rfl)
abbrev cX4_lambda_new_0 : ByteArray := prog_6_method_19_code
def yX4_lambda_new_0 : MethodName := ⟨RX4, "lambda$new$0", "()V"⟩
theorem dX4_lambda_new_0_0 : decode cX4_lambda_new_0 0 = .ok (.aload_n 0, 1) := by decide +kernel
theorem dX4_lambda_new_0_1 : decode cX4_lambda_new_0 1 = .ok (.invokevirtual 185, 3) := by decide +kernel
theorem dX4_lambda_new_0_4 : decode cX4_lambda_new_0 4 = .ok (.return_, 1) := by decide +kernel
abbrev cX4_grows : ByteArray := prog_6_method_10_code
def yX4_grows : MethodName := ⟨RX4, "grows", "()V"⟩
def dkwX4_grows_1 : List UInt8 := [180, 0, 72, 182, 0, 68, 42, 182, 0, 100, 42, 180, 0, 25, 89, 180, 0, 97, 27, 96, 181, 0, 97, 177]
abbrev dktX4_grows_1 : List UInt8 := dkwX4_grows_1 ++ []
def dkwX4_grows_0 : List UInt8 := [42, 182, 0, 75, 60, 42, 27, 4, 16, 30, 42, 180, 0, 25, 180, 0, 97, 100, 184, 0, 64, 5, 42]
abbrev dktX4_grows_0 : List UInt8 := dkwX4_grows_0 ++ dktX4_grows_1
theorem dksX4_grows_0 : cX4_grows.data.toList.drop 0 = dktX4_grows_0 := by decide +kernel
theorem dksX4_grows_1 : cX4_grows.data.toList.drop 23 = dktX4_grows_1 := dk_seg dksX4_grows_0 23 rfl rfl
theorem dX4_grows_0 : decode cX4_grows 0 = .ok (.aload_n 0, 1) := dk_42 (dk_at dksX4_grows_0 0 rfl rfl)
theorem dX4_grows_1 : decode cX4_grows 1 = .ok (.invokevirtual 75, 3) := dk_182 0 75 (dk_at dksX4_grows_0 1 rfl rfl)
theorem dX4_grows_4 : decode cX4_grows 4 = .ok (.istore_n 1, 1) := dk_60 (dk_at dksX4_grows_0 4 rfl rfl)
theorem dX4_grows_5 : decode cX4_grows 5 = .ok (.aload_n 0, 1) := dk_42 (dk_at dksX4_grows_0 5 rfl rfl)
theorem dX4_grows_6 : decode cX4_grows 6 = .ok (.iload_n 1, 1) := dk_27 (dk_at dksX4_grows_0 6 rfl rfl)
theorem dX4_grows_7 : decode cX4_grows 7 = .ok (.iconst 1, 1) := dk_4 (dk_at dksX4_grows_0 7 rfl rfl)
theorem dX4_grows_8 : decode cX4_grows 8 = .ok (.bipush 30, 2) := dk_16 30 (dk_at dksX4_grows_0 8 rfl rfl)
theorem dX4_grows_10 : decode cX4_grows 10 = .ok (.aload_n 0, 1) := dk_42 (dk_at dksX4_grows_0 10 rfl rfl)
theorem dX4_grows_11 : decode cX4_grows 11 = .ok (.getfield 25, 3) := dk_180 0 25 (dk_at dksX4_grows_0 11 rfl rfl)
theorem dX4_grows_14 : decode cX4_grows 14 = .ok (.getfield 97, 3) := dk_180 0 97 (dk_at dksX4_grows_0 14 rfl rfl)
theorem dX4_grows_17 : decode cX4_grows 17 = .ok (.isub, 1) := dk_100 (dk_at dksX4_grows_0 17 rfl rfl)
theorem dX4_grows_18 : decode cX4_grows 18 = .ok (.invokestatic 64, 3) := dk_184 0 64 (dk_at dksX4_grows_0 18 rfl rfl)
theorem dX4_grows_21 : decode cX4_grows 21 = .ok (.iconst 2, 1) := dk_5 (dk_at dksX4_grows_0 21 rfl rfl)
theorem dX4_grows_22 : decode cX4_grows 22 = .ok (.aload_n 0, 1) := dk_42 (dk_at dksX4_grows_0 22 rfl rfl)
theorem dX4_grows_23 : decode cX4_grows 23 = .ok (.getfield 72, 3) := dk_180 0 72 (dk_at dksX4_grows_1 0 rfl rfl)
theorem dX4_grows_26 : decode cX4_grows 26 = .ok (.invokevirtual 68, 3) := dk_182 0 68 (dk_at dksX4_grows_1 3 rfl rfl)
theorem dX4_grows_29 : decode cX4_grows 29 = .ok (.aload_n 0, 1) := dk_42 (dk_at dksX4_grows_1 6 rfl rfl)
theorem dX4_grows_30 : decode cX4_grows 30 = .ok (.invokevirtual 100, 3) := dk_182 0 100 (dk_at dksX4_grows_1 7 rfl rfl)
theorem dX4_grows_33 : decode cX4_grows 33 = .ok (.aload_n 0, 1) := dk_42 (dk_at dksX4_grows_1 10 rfl rfl)
theorem dX4_grows_34 : decode cX4_grows 34 = .ok (.getfield 25, 3) := dk_180 0 25 (dk_at dksX4_grows_1 11 rfl rfl)
theorem dX4_grows_37 : decode cX4_grows 37 = .ok (.dup, 1) := dk_89 (dk_at dksX4_grows_1 14 rfl rfl)
theorem dX4_grows_38 : decode cX4_grows 38 = .ok (.getfield 97, 3) := dk_180 0 97 (dk_at dksX4_grows_1 15 rfl rfl)
theorem dX4_grows_41 : decode cX4_grows 41 = .ok (.iload_n 1, 1) := dk_27 (dk_at dksX4_grows_1 18 rfl rfl)
theorem dX4_grows_42 : decode cX4_grows 42 = .ok (.iadd, 1) := dk_96 (dk_at dksX4_grows_1 19 rfl rfl)
theorem dX4_grows_43 : decode cX4_grows 43 = .ok (.putfield 97, 3) := dk_181 0 97 (dk_at dksX4_grows_1 20 rfl rfl)
theorem dX4_grows_46 : decode cX4_grows 46 = .ok (.return_, 1) := dk_177 (dk_at dksX4_grows_1 23 rfl rfl)
abbrev cX4_number : ByteArray := prog_6_method_5_code
def yX4_number : MethodName := ⟨RX4, "number", "()I"⟩
def dkwX4_number_6 : List UInt8 := [180, 0, 72, 182, 0, 68, 27, 172]
abbrev dktX4_number_6 : List UInt8 := dkwX4_number_6 ++ []
def dkwX4_number_5 : List UInt8 := [167, 255, 172, 42, 42, 180, 0, 44, 42, 180, 0, 72, 100, 5, 163, 0, 7, 4, 167, 0, 4, 3, 4, 42]
abbrev dktX4_number_5 : List UInt8 := dkwX4_number_5 ++ dktX4_number_6
def dkwX4_number_4 : List UInt8 := [180, 0, 44, 51, 96, 16, 48, 100, 167, 0, 4, 27, 60, 42, 89, 180, 0, 44, 4, 96, 181, 0, 44]
abbrev dktX4_number_4 : List UInt8 := dkwX4_number_4 ++ dktX4_number_5
def dkwX4_number_3 : List UInt8 := [180, 0, 44, 42, 180, 0, 72, 100, 5, 162, 0, 26, 16, 10, 27, 104, 42, 180, 0, 3, 180, 0, 51, 42]
abbrev dktX4_number_3 : List UInt8 := dkwX4_number_3 ++ dktX4_number_4
def dkwX4_number_2 : List UInt8 := [180, 0, 3, 180, 0, 51, 42, 180, 0, 44, 51, 16, 48, 16, 57, 184, 0, 64, 153, 0, 54, 42]
abbrev dktX4_number_2 : List UInt8 := dkwX4_number_2 ++ dktX4_number_3
def dkwX4_number_1 : List UInt8 := [180, 0, 44, 181, 0, 72, 3, 60, 42, 180, 0, 44, 42, 180, 0, 3, 180, 0, 48, 162, 0, 76, 42]
abbrev dktX4_number_1 : List UInt8 := dkwX4_number_1 ++ dktX4_number_2
def dkwX4_number_0 : List UInt8 := [42, 42, 182, 0, 60, 16, 48, 16, 57, 184, 0, 64, 4, 42, 180, 0, 44, 182, 0, 68, 42, 42]
abbrev dktX4_number_0 : List UInt8 := dkwX4_number_0 ++ dktX4_number_1
theorem dksX4_number_0 : cX4_number.data.toList.drop 0 = dktX4_number_0 := by decide +kernel
theorem dksX4_number_1 : cX4_number.data.toList.drop 22 = dktX4_number_1 := dk_seg dksX4_number_0 22 rfl rfl
theorem dksX4_number_2 : cX4_number.data.toList.drop 45 = dktX4_number_2 := dk_seg dksX4_number_1 23 rfl rfl
theorem dksX4_number_3 : cX4_number.data.toList.drop 67 = dktX4_number_3 := dk_seg dksX4_number_2 22 rfl rfl
theorem dksX4_number_4 : cX4_number.data.toList.drop 91 = dktX4_number_4 := dk_seg dksX4_number_3 24 rfl rfl
theorem dksX4_number_5 : cX4_number.data.toList.drop 114 = dktX4_number_5 := dk_seg dksX4_number_4 23 rfl rfl
theorem dksX4_number_6 : cX4_number.data.toList.drop 138 = dktX4_number_6 := dk_seg dksX4_number_5 24 rfl rfl
theorem dX4_number_0 : decode cX4_number 0 = .ok (.aload_n 0, 1) := dk_42 (dk_at dksX4_number_0 0 rfl rfl)
theorem dX4_number_1 : decode cX4_number 1 = .ok (.aload_n 0, 1) := dk_42 (dk_at dksX4_number_0 1 rfl rfl)
theorem dX4_number_2 : decode cX4_number 2 = .ok (.invokevirtual 60, 3) := dk_182 0 60 (dk_at dksX4_number_0 2 rfl rfl)
theorem dX4_number_5 : decode cX4_number 5 = .ok (.bipush 48, 2) := dk_16 48 (dk_at dksX4_number_0 5 rfl rfl)
theorem dX4_number_7 : decode cX4_number 7 = .ok (.bipush 57, 2) := dk_16 57 (dk_at dksX4_number_0 7 rfl rfl)
theorem dX4_number_9 : decode cX4_number 9 = .ok (.invokestatic 64, 3) := dk_184 0 64 (dk_at dksX4_number_0 9 rfl rfl)
theorem dX4_number_12 : decode cX4_number 12 = .ok (.iconst 1, 1) := dk_4 (dk_at dksX4_number_0 12 rfl rfl)
theorem dX4_number_13 : decode cX4_number 13 = .ok (.aload_n 0, 1) := dk_42 (dk_at dksX4_number_0 13 rfl rfl)
theorem dX4_number_14 : decode cX4_number 14 = .ok (.getfield 44, 3) := dk_180 0 44 (dk_at dksX4_number_0 14 rfl rfl)
theorem dX4_number_17 : decode cX4_number 17 = .ok (.invokevirtual 68, 3) := dk_182 0 68 (dk_at dksX4_number_0 17 rfl rfl)
theorem dX4_number_20 : decode cX4_number 20 = .ok (.aload_n 0, 1) := dk_42 (dk_at dksX4_number_0 20 rfl rfl)
theorem dX4_number_21 : decode cX4_number 21 = .ok (.aload_n 0, 1) := dk_42 (dk_at dksX4_number_0 21 rfl rfl)
theorem dX4_number_22 : decode cX4_number 22 = .ok (.getfield 44, 3) := dk_180 0 44 (dk_at dksX4_number_1 0 rfl rfl)
theorem dX4_number_25 : decode cX4_number 25 = .ok (.putfield 72, 3) := dk_181 0 72 (dk_at dksX4_number_1 3 rfl rfl)
theorem dX4_number_28 : decode cX4_number 28 = .ok (.iconst 0, 1) := dk_3 (dk_at dksX4_number_1 6 rfl rfl)
theorem dX4_number_29 : decode cX4_number 29 = .ok (.istore_n 1, 1) := dk_60 (dk_at dksX4_number_1 7 rfl rfl)
theorem dX4_number_30 : decode cX4_number 30 = .ok (.aload_n 0, 1) := dk_42 (dk_at dksX4_number_1 8 rfl rfl)
theorem dX4_number_31 : decode cX4_number 31 = .ok (.getfield 44, 3) := dk_180 0 44 (dk_at dksX4_number_1 9 rfl rfl)
theorem dX4_number_34 : decode cX4_number 34 = .ok (.aload_n 0, 1) := dk_42 (dk_at dksX4_number_1 12 rfl rfl)
theorem dX4_number_35 : decode cX4_number 35 = .ok (.getfield 3, 3) := dk_180 0 3 (dk_at dksX4_number_1 13 rfl rfl)
theorem dX4_number_38 : decode cX4_number 38 = .ok (.getfield 48, 3) := dk_180 0 48 (dk_at dksX4_number_1 16 rfl rfl)
theorem dX4_number_41 : decode cX4_number 41 = .ok (.if_icmp .ge 76, 3) := dk_162 0 76 (dk_at dksX4_number_1 19 rfl rfl)
theorem dX4_number_44 : decode cX4_number 44 = .ok (.aload_n 0, 1) := dk_42 (dk_at dksX4_number_1 22 rfl rfl)
theorem dX4_number_45 : decode cX4_number 45 = .ok (.getfield 3, 3) := dk_180 0 3 (dk_at dksX4_number_2 0 rfl rfl)
theorem dX4_number_48 : decode cX4_number 48 = .ok (.getfield 51, 3) := dk_180 0 51 (dk_at dksX4_number_2 3 rfl rfl)
theorem dX4_number_51 : decode cX4_number 51 = .ok (.aload_n 0, 1) := dk_42 (dk_at dksX4_number_2 6 rfl rfl)
theorem dX4_number_52 : decode cX4_number 52 = .ok (.getfield 44, 3) := dk_180 0 44 (dk_at dksX4_number_2 7 rfl rfl)
theorem dX4_number_55 : decode cX4_number 55 = .ok (.baload, 1) := dk_51 (dk_at dksX4_number_2 10 rfl rfl)
theorem dX4_number_56 : decode cX4_number 56 = .ok (.bipush 48, 2) := dk_16 48 (dk_at dksX4_number_2 11 rfl rfl)
theorem dX4_number_58 : decode cX4_number 58 = .ok (.bipush 57, 2) := dk_16 57 (dk_at dksX4_number_2 13 rfl rfl)
theorem dX4_number_60 : decode cX4_number 60 = .ok (.invokestatic 64, 3) := dk_184 0 64 (dk_at dksX4_number_2 15 rfl rfl)
theorem dX4_number_63 : decode cX4_number 63 = .ok (.ifCond .eq 54, 3) := dk_153 0 54 (dk_at dksX4_number_2 18 rfl rfl)
theorem dX4_number_66 : decode cX4_number 66 = .ok (.aload_n 0, 1) := dk_42 (dk_at dksX4_number_2 21 rfl rfl)
theorem dX4_number_67 : decode cX4_number 67 = .ok (.getfield 44, 3) := dk_180 0 44 (dk_at dksX4_number_3 0 rfl rfl)
theorem dX4_number_70 : decode cX4_number 70 = .ok (.aload_n 0, 1) := dk_42 (dk_at dksX4_number_3 3 rfl rfl)
theorem dX4_number_71 : decode cX4_number 71 = .ok (.getfield 72, 3) := dk_180 0 72 (dk_at dksX4_number_3 4 rfl rfl)
theorem dX4_number_74 : decode cX4_number 74 = .ok (.isub, 1) := dk_100 (dk_at dksX4_number_3 7 rfl rfl)
theorem dX4_number_75 : decode cX4_number 75 = .ok (.iconst 2, 1) := dk_5 (dk_at dksX4_number_3 8 rfl rfl)
theorem dX4_number_76 : decode cX4_number 76 = .ok (.if_icmp .ge 26, 3) := dk_162 0 26 (dk_at dksX4_number_3 9 rfl rfl)
theorem dX4_number_79 : decode cX4_number 79 = .ok (.bipush 10, 2) := dk_16 10 (dk_at dksX4_number_3 12 rfl rfl)
theorem dX4_number_81 : decode cX4_number 81 = .ok (.iload_n 1, 1) := dk_27 (dk_at dksX4_number_3 14 rfl rfl)
theorem dX4_number_82 : decode cX4_number 82 = .ok (.imul, 1) := dk_104 (dk_at dksX4_number_3 15 rfl rfl)
theorem dX4_number_83 : decode cX4_number 83 = .ok (.aload_n 0, 1) := dk_42 (dk_at dksX4_number_3 16 rfl rfl)
theorem dX4_number_84 : decode cX4_number 84 = .ok (.getfield 3, 3) := dk_180 0 3 (dk_at dksX4_number_3 17 rfl rfl)
theorem dX4_number_87 : decode cX4_number 87 = .ok (.getfield 51, 3) := dk_180 0 51 (dk_at dksX4_number_3 20 rfl rfl)
theorem dX4_number_90 : decode cX4_number 90 = .ok (.aload_n 0, 1) := dk_42 (dk_at dksX4_number_3 23 rfl rfl)
theorem dX4_number_91 : decode cX4_number 91 = .ok (.getfield 44, 3) := dk_180 0 44 (dk_at dksX4_number_4 0 rfl rfl)
theorem dX4_number_94 : decode cX4_number 94 = .ok (.baload, 1) := dk_51 (dk_at dksX4_number_4 3 rfl rfl)
theorem dX4_number_95 : decode cX4_number 95 = .ok (.iadd, 1) := dk_96 (dk_at dksX4_number_4 4 rfl rfl)
theorem dX4_number_96 : decode cX4_number 96 = .ok (.bipush 48, 2) := dk_16 48 (dk_at dksX4_number_4 5 rfl rfl)
theorem dX4_number_98 : decode cX4_number 98 = .ok (.isub, 1) := dk_100 (dk_at dksX4_number_4 7 rfl rfl)
theorem dX4_number_99 : decode cX4_number 99 = .ok (.goto 4, 3) := dk_167 0 4 (dk_at dksX4_number_4 8 rfl rfl)
theorem dX4_number_102 : decode cX4_number 102 = .ok (.iload_n 1, 1) := dk_27 (dk_at dksX4_number_4 11 rfl rfl)
theorem dX4_number_103 : decode cX4_number 103 = .ok (.istore_n 1, 1) := dk_60 (dk_at dksX4_number_4 12 rfl rfl)
theorem dX4_number_104 : decode cX4_number 104 = .ok (.aload_n 0, 1) := dk_42 (dk_at dksX4_number_4 13 rfl rfl)
theorem dX4_number_105 : decode cX4_number 105 = .ok (.dup, 1) := dk_89 (dk_at dksX4_number_4 14 rfl rfl)
theorem dX4_number_106 : decode cX4_number 106 = .ok (.getfield 44, 3) := dk_180 0 44 (dk_at dksX4_number_4 15 rfl rfl)
theorem dX4_number_109 : decode cX4_number 109 = .ok (.iconst 1, 1) := dk_4 (dk_at dksX4_number_4 18 rfl rfl)
theorem dX4_number_110 : decode cX4_number 110 = .ok (.iadd, 1) := dk_96 (dk_at dksX4_number_4 19 rfl rfl)
theorem dX4_number_111 : decode cX4_number 111 = .ok (.putfield 44, 3) := dk_181 0 44 (dk_at dksX4_number_4 20 rfl rfl)
theorem dX4_number_114 : decode cX4_number 114 = .ok (.goto (-84), 3) := dk_167 255 172 (dk_at dksX4_number_5 0 rfl rfl)
theorem dX4_number_117 : decode cX4_number 117 = .ok (.aload_n 0, 1) := dk_42 (dk_at dksX4_number_5 3 rfl rfl)
theorem dX4_number_118 : decode cX4_number 118 = .ok (.aload_n 0, 1) := dk_42 (dk_at dksX4_number_5 4 rfl rfl)
theorem dX4_number_119 : decode cX4_number 119 = .ok (.getfield 44, 3) := dk_180 0 44 (dk_at dksX4_number_5 5 rfl rfl)
theorem dX4_number_122 : decode cX4_number 122 = .ok (.aload_n 0, 1) := dk_42 (dk_at dksX4_number_5 8 rfl rfl)
theorem dX4_number_123 : decode cX4_number 123 = .ok (.getfield 72, 3) := dk_180 0 72 (dk_at dksX4_number_5 9 rfl rfl)
theorem dX4_number_126 : decode cX4_number 126 = .ok (.isub, 1) := dk_100 (dk_at dksX4_number_5 12 rfl rfl)
theorem dX4_number_127 : decode cX4_number 127 = .ok (.iconst 2, 1) := dk_5 (dk_at dksX4_number_5 13 rfl rfl)
theorem dX4_number_128 : decode cX4_number 128 = .ok (.if_icmp .gt 7, 3) := dk_163 0 7 (dk_at dksX4_number_5 14 rfl rfl)
theorem dX4_number_131 : decode cX4_number 131 = .ok (.iconst 1, 1) := dk_4 (dk_at dksX4_number_5 17 rfl rfl)
theorem dX4_number_132 : decode cX4_number 132 = .ok (.goto 4, 3) := dk_167 0 4 (dk_at dksX4_number_5 18 rfl rfl)
theorem dX4_number_135 : decode cX4_number 135 = .ok (.iconst 0, 1) := dk_3 (dk_at dksX4_number_5 21 rfl rfl)
theorem dX4_number_136 : decode cX4_number 136 = .ok (.iconst 1, 1) := dk_4 (dk_at dksX4_number_5 22 rfl rfl)
theorem dX4_number_137 : decode cX4_number 137 = .ok (.aload_n 0, 1) := dk_42 (dk_at dksX4_number_5 23 rfl rfl)
theorem dX4_number_138 : decode cX4_number 138 = .ok (.getfield 72, 3) := dk_180 0 72 (dk_at dksX4_number_6 0 rfl rfl)
theorem dX4_number_141 : decode cX4_number 141 = .ok (.invokevirtual 68, 3) := dk_182 0 68 (dk_at dksX4_number_6 3 rfl rfl)
theorem dX4_number_144 : decode cX4_number 144 = .ok (.iload_n 1, 1) := dk_27 (dk_at dksX4_number_6 6 rfl rfl)
theorem dX4_number_145 : decode cX4_number 145 = .ok (.ireturn, 1) := dk_172 (dk_at dksX4_number_6 7 rfl rfl)
abbrev cX4_here : ByteArray := prog_6_method_2_code
def yX4_here : MethodName := ⟨RX4, "here", "()I"⟩
def dkwX4_here_4 : List UInt8 := [167, 0, 4, 2, 172]
abbrev dktX4_here_4 : List UInt8 := dkwX4_here_4 ++ []
def dkwX4_here_3 : List UInt8 := [180, 0, 48, 162, 0, 22, 42, 180, 0, 3, 180, 0, 51, 42, 180, 0, 44, 51, 17, 0, 255, 126]
abbrev dktX4_here_3 : List UInt8 := dkwX4_here_3 ++ dktX4_here_4
def dkwX4_here_2 : List UInt8 := [160, 0, 16, 42, 89, 180, 0, 44, 4, 96, 181, 0, 44, 167, 255, 198, 42, 180, 0, 44, 42, 180, 0, 3]
abbrev dktX4_here_2 : List UInt8 := dkwX4_here_2 ++ dktX4_here_3
def dkwX4_here_1 : List UInt8 := [180, 0, 44, 51, 16, 32, 159, 0, 20, 42, 180, 0, 3, 180, 0, 51, 42, 180, 0, 44, 51, 16, 10]
abbrev dktX4_here_1 : List UInt8 := dkwX4_here_1 ++ dktX4_here_2
def dkwX4_here_0 : List UInt8 := [42, 180, 0, 44, 42, 180, 0, 3, 180, 0, 48, 162, 0, 50, 42, 180, 0, 3, 180, 0, 51, 42]
abbrev dktX4_here_0 : List UInt8 := dkwX4_here_0 ++ dktX4_here_1
theorem dksX4_here_0 : cX4_here.data.toList.drop 0 = dktX4_here_0 := by decide +kernel
theorem dksX4_here_1 : cX4_here.data.toList.drop 22 = dktX4_here_1 := dk_seg dksX4_here_0 22 rfl rfl
theorem dksX4_here_2 : cX4_here.data.toList.drop 45 = dktX4_here_2 := dk_seg dksX4_here_1 23 rfl rfl
theorem dksX4_here_3 : cX4_here.data.toList.drop 69 = dktX4_here_3 := dk_seg dksX4_here_2 24 rfl rfl
theorem dksX4_here_4 : cX4_here.data.toList.drop 91 = dktX4_here_4 := dk_seg dksX4_here_3 22 rfl rfl
theorem dX4_here_0 : decode cX4_here 0 = .ok (.aload_n 0, 1) := dk_42 (dk_at dksX4_here_0 0 rfl rfl)
theorem dX4_here_1 : decode cX4_here 1 = .ok (.getfield 44, 3) := dk_180 0 44 (dk_at dksX4_here_0 1 rfl rfl)
theorem dX4_here_4 : decode cX4_here 4 = .ok (.aload_n 0, 1) := dk_42 (dk_at dksX4_here_0 4 rfl rfl)
theorem dX4_here_5 : decode cX4_here 5 = .ok (.getfield 3, 3) := dk_180 0 3 (dk_at dksX4_here_0 5 rfl rfl)
theorem dX4_here_8 : decode cX4_here 8 = .ok (.getfield 48, 3) := dk_180 0 48 (dk_at dksX4_here_0 8 rfl rfl)
theorem dX4_here_11 : decode cX4_here 11 = .ok (.if_icmp .ge 50, 3) := dk_162 0 50 (dk_at dksX4_here_0 11 rfl rfl)
theorem dX4_here_14 : decode cX4_here 14 = .ok (.aload_n 0, 1) := dk_42 (dk_at dksX4_here_0 14 rfl rfl)
theorem dX4_here_15 : decode cX4_here 15 = .ok (.getfield 3, 3) := dk_180 0 3 (dk_at dksX4_here_0 15 rfl rfl)
theorem dX4_here_18 : decode cX4_here 18 = .ok (.getfield 51, 3) := dk_180 0 51 (dk_at dksX4_here_0 18 rfl rfl)
theorem dX4_here_21 : decode cX4_here 21 = .ok (.aload_n 0, 1) := dk_42 (dk_at dksX4_here_0 21 rfl rfl)
theorem dX4_here_22 : decode cX4_here 22 = .ok (.getfield 44, 3) := dk_180 0 44 (dk_at dksX4_here_1 0 rfl rfl)
theorem dX4_here_25 : decode cX4_here 25 = .ok (.baload, 1) := dk_51 (dk_at dksX4_here_1 3 rfl rfl)
theorem dX4_here_26 : decode cX4_here 26 = .ok (.bipush 32, 2) := dk_16 32 (dk_at dksX4_here_1 4 rfl rfl)
theorem dX4_here_28 : decode cX4_here 28 = .ok (.if_icmp .eq 20, 3) := dk_159 0 20 (dk_at dksX4_here_1 6 rfl rfl)
theorem dX4_here_31 : decode cX4_here 31 = .ok (.aload_n 0, 1) := dk_42 (dk_at dksX4_here_1 9 rfl rfl)
theorem dX4_here_32 : decode cX4_here 32 = .ok (.getfield 3, 3) := dk_180 0 3 (dk_at dksX4_here_1 10 rfl rfl)
theorem dX4_here_35 : decode cX4_here 35 = .ok (.getfield 51, 3) := dk_180 0 51 (dk_at dksX4_here_1 13 rfl rfl)
theorem dX4_here_38 : decode cX4_here 38 = .ok (.aload_n 0, 1) := dk_42 (dk_at dksX4_here_1 16 rfl rfl)
theorem dX4_here_39 : decode cX4_here 39 = .ok (.getfield 44, 3) := dk_180 0 44 (dk_at dksX4_here_1 17 rfl rfl)
theorem dX4_here_42 : decode cX4_here 42 = .ok (.baload, 1) := dk_51 (dk_at dksX4_here_1 20 rfl rfl)
theorem dX4_here_43 : decode cX4_here 43 = .ok (.bipush 10, 2) := dk_16 10 (dk_at dksX4_here_1 21 rfl rfl)
theorem dX4_here_45 : decode cX4_here 45 = .ok (.if_icmp .ne 16, 3) := dk_160 0 16 (dk_at dksX4_here_2 0 rfl rfl)
theorem dX4_here_48 : decode cX4_here 48 = .ok (.aload_n 0, 1) := dk_42 (dk_at dksX4_here_2 3 rfl rfl)
theorem dX4_here_49 : decode cX4_here 49 = .ok (.dup, 1) := dk_89 (dk_at dksX4_here_2 4 rfl rfl)
theorem dX4_here_50 : decode cX4_here 50 = .ok (.getfield 44, 3) := dk_180 0 44 (dk_at dksX4_here_2 5 rfl rfl)
theorem dX4_here_53 : decode cX4_here 53 = .ok (.iconst 1, 1) := dk_4 (dk_at dksX4_here_2 8 rfl rfl)
theorem dX4_here_54 : decode cX4_here 54 = .ok (.iadd, 1) := dk_96 (dk_at dksX4_here_2 9 rfl rfl)
theorem dX4_here_55 : decode cX4_here 55 = .ok (.putfield 44, 3) := dk_181 0 44 (dk_at dksX4_here_2 10 rfl rfl)
theorem dX4_here_58 : decode cX4_here 58 = .ok (.goto (-58), 3) := dk_167 255 198 (dk_at dksX4_here_2 13 rfl rfl)
theorem dX4_here_61 : decode cX4_here 61 = .ok (.aload_n 0, 1) := dk_42 (dk_at dksX4_here_2 16 rfl rfl)
theorem dX4_here_62 : decode cX4_here 62 = .ok (.getfield 44, 3) := dk_180 0 44 (dk_at dksX4_here_2 17 rfl rfl)
theorem dX4_here_65 : decode cX4_here 65 = .ok (.aload_n 0, 1) := dk_42 (dk_at dksX4_here_2 20 rfl rfl)
theorem dX4_here_66 : decode cX4_here 66 = .ok (.getfield 3, 3) := dk_180 0 3 (dk_at dksX4_here_2 21 rfl rfl)
theorem dX4_here_69 : decode cX4_here 69 = .ok (.getfield 48, 3) := dk_180 0 48 (dk_at dksX4_here_3 0 rfl rfl)
theorem dX4_here_72 : decode cX4_here 72 = .ok (.if_icmp .ge 22, 3) := dk_162 0 22 (dk_at dksX4_here_3 3 rfl rfl)
theorem dX4_here_75 : decode cX4_here 75 = .ok (.aload_n 0, 1) := dk_42 (dk_at dksX4_here_3 6 rfl rfl)
theorem dX4_here_76 : decode cX4_here 76 = .ok (.getfield 3, 3) := dk_180 0 3 (dk_at dksX4_here_3 7 rfl rfl)
theorem dX4_here_79 : decode cX4_here 79 = .ok (.getfield 51, 3) := dk_180 0 51 (dk_at dksX4_here_3 10 rfl rfl)
theorem dX4_here_82 : decode cX4_here 82 = .ok (.aload_n 0, 1) := dk_42 (dk_at dksX4_here_3 13 rfl rfl)
theorem dX4_here_83 : decode cX4_here 83 = .ok (.getfield 44, 3) := dk_180 0 44 (dk_at dksX4_here_3 14 rfl rfl)
theorem dX4_here_86 : decode cX4_here 86 = .ok (.baload, 1) := dk_51 (dk_at dksX4_here_3 17 rfl rfl)
theorem dX4_here_87 : decode cX4_here 87 = .ok (.sipush 255, 3) := dk_17 0 255 (dk_at dksX4_here_3 18 rfl rfl)
theorem dX4_here_90 : decode cX4_here 90 = .ok (.iand, 1) := dk_126 (dk_at dksX4_here_3 21 rfl rfl)
theorem dX4_here_91 : decode cX4_here 91 = .ok (.goto 4, 3) := dk_167 0 4 (dk_at dksX4_here_4 0 rfl rfl)
theorem dX4_here_94 : decode cX4_here 94 = .ok (.iconst (-1), 1) := dk_2 (dk_at dksX4_here_4 3 rfl rfl)
theorem dX4_here_95 : decode cX4_here 95 = .ok (.ireturn, 1) := dk_172 (dk_at dksX4_here_4 4 rfl rfl)
abbrev cX4_demand : ByteArray := prog_6_method_3_code
def yX4_demand : MethodName := ⟨RX4, "demand", "(ZII)V"⟩
def dkwX4_demand_0 : List UInt8 := [27, 154, 0, 13, 187, 0, 55, 89, 28, 29, 183, 0, 57, 191, 177]
abbrev dktX4_demand_0 : List UInt8 := dkwX4_demand_0 ++ []
theorem dksX4_demand_0 : cX4_demand.data.toList.drop 0 = dktX4_demand_0 := by decide +kernel
theorem dX4_demand_0 : decode cX4_demand 0 = .ok (.iload_n 1, 1) := dk_27 (dk_at dksX4_demand_0 0 rfl rfl)
theorem dX4_demand_1 : decode cX4_demand 1 = .ok (.ifCond .ne 13, 3) := dk_154 0 13 (dk_at dksX4_demand_0 1 rfl rfl)
theorem dX4_demand_4 : decode cX4_demand 4 = .ok (.new 55, 3) := dk_187 0 55 (dk_at dksX4_demand_0 4 rfl rfl)
theorem dX4_demand_7 : decode cX4_demand 7 = .ok (.dup, 1) := dk_89 (dk_at dksX4_demand_0 7 rfl rfl)
theorem dX4_demand_8 : decode cX4_demand 8 = .ok (.iload_n 2, 1) := dk_28 (dk_at dksX4_demand_0 8 rfl rfl)
theorem dX4_demand_9 : decode cX4_demand 9 = .ok (.iload_n 3, 1) := dk_29 (dk_at dksX4_demand_0 9 rfl rfl)
theorem dX4_demand_10 : decode cX4_demand 10 = .ok (.invokespecial 57, 3) := dk_183 0 57 (dk_at dksX4_demand_0 10 rfl rfl)
theorem dX4_demand_13 : decode cX4_demand 13 = .ok (.athrow, 1) := dk_191 (dk_at dksX4_demand_0 13 rfl rfl)
theorem dX4_demand_14 : decode cX4_demand 14 = .ok (.return_, 1) := dk_177 (dk_at dksX4_demand_0 14 rfl rfl)
abbrev cX4_ends : ByteArray := prog_6_method_9_code
def yX4_ends : MethodName := ⟨RX4, "ends", "()V"⟩
def dkwX4_ends_1 : List UInt8 := [89, 180, 0, 44, 4, 96, 181, 0, 44, 177]
abbrev dktX4_ends_1 : List UInt8 := dkwX4_ends_1 ++ []
def dkwX4_ends_0 : List UInt8 := [42, 42, 182, 0, 60, 16, 59, 160, 0, 7, 4, 167, 0, 4, 3, 4, 42, 180, 0, 44, 182, 0, 68, 42]
abbrev dktX4_ends_0 : List UInt8 := dkwX4_ends_0 ++ dktX4_ends_1
theorem dksX4_ends_0 : cX4_ends.data.toList.drop 0 = dktX4_ends_0 := by decide +kernel
theorem dksX4_ends_1 : cX4_ends.data.toList.drop 24 = dktX4_ends_1 := dk_seg dksX4_ends_0 24 rfl rfl
theorem dX4_ends_0 : decode cX4_ends 0 = .ok (.aload_n 0, 1) := dk_42 (dk_at dksX4_ends_0 0 rfl rfl)
theorem dX4_ends_1 : decode cX4_ends 1 = .ok (.aload_n 0, 1) := dk_42 (dk_at dksX4_ends_0 1 rfl rfl)
theorem dX4_ends_2 : decode cX4_ends 2 = .ok (.invokevirtual 60, 3) := dk_182 0 60 (dk_at dksX4_ends_0 2 rfl rfl)
theorem dX4_ends_5 : decode cX4_ends 5 = .ok (.bipush 59, 2) := dk_16 59 (dk_at dksX4_ends_0 5 rfl rfl)
theorem dX4_ends_7 : decode cX4_ends 7 = .ok (.if_icmp .ne 7, 3) := dk_160 0 7 (dk_at dksX4_ends_0 7 rfl rfl)
theorem dX4_ends_10 : decode cX4_ends 10 = .ok (.iconst 1, 1) := dk_4 (dk_at dksX4_ends_0 10 rfl rfl)
theorem dX4_ends_11 : decode cX4_ends 11 = .ok (.goto 4, 3) := dk_167 0 4 (dk_at dksX4_ends_0 11 rfl rfl)
theorem dX4_ends_14 : decode cX4_ends 14 = .ok (.iconst 0, 1) := dk_3 (dk_at dksX4_ends_0 14 rfl rfl)
theorem dX4_ends_15 : decode cX4_ends 15 = .ok (.iconst 1, 1) := dk_4 (dk_at dksX4_ends_0 15 rfl rfl)
theorem dX4_ends_16 : decode cX4_ends 16 = .ok (.aload_n 0, 1) := dk_42 (dk_at dksX4_ends_0 16 rfl rfl)
theorem dX4_ends_17 : decode cX4_ends 17 = .ok (.getfield 44, 3) := dk_180 0 44 (dk_at dksX4_ends_0 17 rfl rfl)
theorem dX4_ends_20 : decode cX4_ends 20 = .ok (.invokevirtual 68, 3) := dk_182 0 68 (dk_at dksX4_ends_0 20 rfl rfl)
theorem dX4_ends_23 : decode cX4_ends 23 = .ok (.aload_n 0, 1) := dk_42 (dk_at dksX4_ends_0 23 rfl rfl)
theorem dX4_ends_24 : decode cX4_ends 24 = .ok (.dup, 1) := dk_89 (dk_at dksX4_ends_1 0 rfl rfl)
theorem dX4_ends_25 : decode cX4_ends 25 = .ok (.getfield 44, 3) := dk_180 0 44 (dk_at dksX4_ends_1 1 rfl rfl)
theorem dX4_ends_28 : decode cX4_ends 28 = .ok (.iconst 1, 1) := dk_4 (dk_at dksX4_ends_1 4 rfl rfl)
theorem dX4_ends_29 : decode cX4_ends 29 = .ok (.iadd, 1) := dk_96 (dk_at dksX4_ends_1 5 rfl rfl)
theorem dX4_ends_30 : decode cX4_ends 30 = .ok (.putfield 44, 3) := dk_181 0 44 (dk_at dksX4_ends_1 6 rfl rfl)
theorem dX4_ends_33 : decode cX4_ends 33 = .ok (.return_, 1) := dk_177 (dk_at dksX4_ends_1 9 rfl rfl)
abbrev cX4_lambda_new_1 : ByteArray := prog_6_method_18_code
def yX4_lambda_new_1 : MethodName := ⟨RX4, "lambda$new$1", "()V"⟩
theorem dX4_lambda_new_1_0 : decode cX4_lambda_new_1 0 = .ok (.aload_n 0, 1) := by decide +kernel
theorem dX4_lambda_new_1_1 : decode cX4_lambda_new_1 1 = .ok (.invokevirtual 182, 3) := by decide +kernel
theorem dX4_lambda_new_1_4 : decode cX4_lambda_new_1 4 = .ok (.return_, 1) := by decide +kernel
abbrev cX4_assumes : ByteArray := prog_6_method_11_code
def yX4_assumes : MethodName := ⟨RX4, "assumes", "()V"⟩
def dkwX4_assumes_1 : List UInt8 := [27, 184, 0, 110, 42, 180, 0, 25, 27, 181, 0, 116, 177]
abbrev dktX4_assumes_1 : List UInt8 := dkwX4_assumes_1 ++ []
def dkwX4_assumes_0 : List UInt8 := [42, 16, 8, 182, 0, 103, 60, 42, 182, 0, 100, 42, 180, 0, 28, 3, 42, 180, 0, 25, 180, 0, 107, 3]
abbrev dktX4_assumes_0 : List UInt8 := dkwX4_assumes_0 ++ dktX4_assumes_1
theorem dksX4_assumes_0 : cX4_assumes.data.toList.drop 0 = dktX4_assumes_0 := by decide +kernel
theorem dksX4_assumes_1 : cX4_assumes.data.toList.drop 24 = dktX4_assumes_1 := dk_seg dksX4_assumes_0 24 rfl rfl
theorem dX4_assumes_0 : decode cX4_assumes 0 = .ok (.aload_n 0, 1) := dk_42 (dk_at dksX4_assumes_0 0 rfl rfl)
theorem dX4_assumes_1 : decode cX4_assumes 1 = .ok (.bipush 8, 2) := dk_16 8 (dk_at dksX4_assumes_0 1 rfl rfl)
theorem dX4_assumes_3 : decode cX4_assumes 3 = .ok (.invokevirtual 103, 3) := dk_182 0 103 (dk_at dksX4_assumes_0 3 rfl rfl)
theorem dX4_assumes_6 : decode cX4_assumes 6 = .ok (.istore_n 1, 1) := dk_60 (dk_at dksX4_assumes_0 6 rfl rfl)
theorem dX4_assumes_7 : decode cX4_assumes 7 = .ok (.aload_n 0, 1) := dk_42 (dk_at dksX4_assumes_0 7 rfl rfl)
theorem dX4_assumes_8 : decode cX4_assumes 8 = .ok (.invokevirtual 100, 3) := dk_182 0 100 (dk_at dksX4_assumes_0 8 rfl rfl)
theorem dX4_assumes_11 : decode cX4_assumes 11 = .ok (.aload_n 0, 1) := dk_42 (dk_at dksX4_assumes_0 11 rfl rfl)
theorem dX4_assumes_12 : decode cX4_assumes 12 = .ok (.getfield 28, 3) := dk_180 0 28 (dk_at dksX4_assumes_0 12 rfl rfl)
theorem dX4_assumes_15 : decode cX4_assumes 15 = .ok (.iconst 0, 1) := dk_3 (dk_at dksX4_assumes_0 15 rfl rfl)
theorem dX4_assumes_16 : decode cX4_assumes 16 = .ok (.aload_n 0, 1) := dk_42 (dk_at dksX4_assumes_0 16 rfl rfl)
theorem dX4_assumes_17 : decode cX4_assumes 17 = .ok (.getfield 25, 3) := dk_180 0 25 (dk_at dksX4_assumes_0 17 rfl rfl)
theorem dX4_assumes_20 : decode cX4_assumes 20 = .ok (.getfield 107, 3) := dk_180 0 107 (dk_at dksX4_assumes_0 20 rfl rfl)
theorem dX4_assumes_23 : decode cX4_assumes 23 = .ok (.iconst 0, 1) := dk_3 (dk_at dksX4_assumes_0 23 rfl rfl)
theorem dX4_assumes_24 : decode cX4_assumes 24 = .ok (.iload_n 1, 1) := dk_27 (dk_at dksX4_assumes_1 0 rfl rfl)
theorem dX4_assumes_25 : decode cX4_assumes 25 = .ok (.invokestatic 110, 3) := dk_184 0 110 (dk_at dksX4_assumes_1 1 rfl rfl)
theorem dX4_assumes_28 : decode cX4_assumes 28 = .ok (.aload_n 0, 1) := dk_42 (dk_at dksX4_assumes_1 4 rfl rfl)
theorem dX4_assumes_29 : decode cX4_assumes 29 = .ok (.getfield 25, 3) := dk_180 0 25 (dk_at dksX4_assumes_1 5 rfl rfl)
theorem dX4_assumes_32 : decode cX4_assumes 32 = .ok (.iload_n 1, 1) := dk_27 (dk_at dksX4_assumes_1 8 rfl rfl)
theorem dX4_assumes_33 : decode cX4_assumes 33 = .ok (.putfield 116, 3) := dk_181 0 116 (dk_at dksX4_assumes_1 9 rfl rfl)
theorem dX4_assumes_36 : decode cX4_assumes 36 = .ok (.return_, 1) := dk_177 (dk_at dksX4_assumes_1 12 rfl rfl)
abbrev cX4_literals : ByteArray := prog_6_method_8_code
def yX4_literals : MethodName := ⟨RX4, "literals", "(I)I"⟩
def dkwX4_literals_2 : List UInt8 := [182, 0, 68, 42, 180, 0, 28, 28, 29, 79, 132, 2, 1, 167, 255, 197, 28, 172]
abbrev dktX4_literals_2 : List UInt8 := dkwX4_literals_2 ++ []
def dkwX4_literals_1 : List UInt8 := [62, 42, 42, 180, 0, 28, 28, 29, 184, 0, 85, 154, 0, 7, 4, 167, 0, 4, 3, 5, 42, 180, 0, 72]
abbrev dktX4_literals_1 : List UInt8 := dkwX4_literals_1 ++ dktX4_literals_2
def dkwX4_literals_0 : List UInt8 := [3, 61, 42, 182, 0, 89, 153, 0, 58, 28, 27, 160, 0, 9, 42, 28, 182, 0, 93, 191, 42, 182, 0, 82]
abbrev dktX4_literals_0 : List UInt8 := dkwX4_literals_0 ++ dktX4_literals_1
theorem dksX4_literals_0 : cX4_literals.data.toList.drop 0 = dktX4_literals_0 := by decide +kernel
theorem dksX4_literals_1 : cX4_literals.data.toList.drop 24 = dktX4_literals_1 := dk_seg dksX4_literals_0 24 rfl rfl
theorem dksX4_literals_2 : cX4_literals.data.toList.drop 48 = dktX4_literals_2 := dk_seg dksX4_literals_1 24 rfl rfl
theorem dX4_literals_0 : decode cX4_literals 0 = .ok (.iconst 0, 1) := dk_3 (dk_at dksX4_literals_0 0 rfl rfl)
theorem dX4_literals_1 : decode cX4_literals 1 = .ok (.istore_n 2, 1) := dk_61 (dk_at dksX4_literals_0 1 rfl rfl)
theorem dX4_literals_2 : decode cX4_literals 2 = .ok (.aload_n 0, 1) := dk_42 (dk_at dksX4_literals_0 2 rfl rfl)
theorem dX4_literals_3 : decode cX4_literals 3 = .ok (.invokevirtual 89, 3) := dk_182 0 89 (dk_at dksX4_literals_0 3 rfl rfl)
theorem dX4_literals_6 : decode cX4_literals 6 = .ok (.ifCond .eq 58, 3) := dk_153 0 58 (dk_at dksX4_literals_0 6 rfl rfl)
theorem dX4_literals_9 : decode cX4_literals 9 = .ok (.iload_n 2, 1) := dk_28 (dk_at dksX4_literals_0 9 rfl rfl)
theorem dX4_literals_10 : decode cX4_literals 10 = .ok (.iload_n 1, 1) := dk_27 (dk_at dksX4_literals_0 10 rfl rfl)
theorem dX4_literals_11 : decode cX4_literals 11 = .ok (.if_icmp .ne 9, 3) := dk_160 0 9 (dk_at dksX4_literals_0 11 rfl rfl)
theorem dX4_literals_14 : decode cX4_literals 14 = .ok (.aload_n 0, 1) := dk_42 (dk_at dksX4_literals_0 14 rfl rfl)
theorem dX4_literals_15 : decode cX4_literals 15 = .ok (.iload_n 2, 1) := dk_28 (dk_at dksX4_literals_0 15 rfl rfl)
theorem dX4_literals_16 : decode cX4_literals 16 = .ok (.invokevirtual 93, 3) := dk_182 0 93 (dk_at dksX4_literals_0 16 rfl rfl)
theorem dX4_literals_19 : decode cX4_literals 19 = .ok (.athrow, 1) := dk_191 (dk_at dksX4_literals_0 19 rfl rfl)
theorem dX4_literals_20 : decode cX4_literals 20 = .ok (.aload_n 0, 1) := dk_42 (dk_at dksX4_literals_0 20 rfl rfl)
theorem dX4_literals_21 : decode cX4_literals 21 = .ok (.invokevirtual 82, 3) := dk_182 0 82 (dk_at dksX4_literals_0 21 rfl rfl)
theorem dX4_literals_24 : decode cX4_literals 24 = .ok (.istore_n 3, 1) := dk_62 (dk_at dksX4_literals_1 0 rfl rfl)
theorem dX4_literals_25 : decode cX4_literals 25 = .ok (.aload_n 0, 1) := dk_42 (dk_at dksX4_literals_1 1 rfl rfl)
theorem dX4_literals_26 : decode cX4_literals 26 = .ok (.aload_n 0, 1) := dk_42 (dk_at dksX4_literals_1 2 rfl rfl)
theorem dX4_literals_27 : decode cX4_literals 27 = .ok (.getfield 28, 3) := dk_180 0 28 (dk_at dksX4_literals_1 3 rfl rfl)
theorem dX4_literals_30 : decode cX4_literals 30 = .ok (.iload_n 2, 1) := dk_28 (dk_at dksX4_literals_1 6 rfl rfl)
theorem dX4_literals_31 : decode cX4_literals 31 = .ok (.iload_n 3, 1) := dk_29 (dk_at dksX4_literals_1 7 rfl rfl)
theorem dX4_literals_32 : decode cX4_literals 32 = .ok (.invokestatic 85, 3) := dk_184 0 85 (dk_at dksX4_literals_1 8 rfl rfl)
theorem dX4_literals_35 : decode cX4_literals 35 = .ok (.ifCond .ne 7, 3) := dk_154 0 7 (dk_at dksX4_literals_1 11 rfl rfl)
theorem dX4_literals_38 : decode cX4_literals 38 = .ok (.iconst 1, 1) := dk_4 (dk_at dksX4_literals_1 14 rfl rfl)
theorem dX4_literals_39 : decode cX4_literals 39 = .ok (.goto 4, 3) := dk_167 0 4 (dk_at dksX4_literals_1 15 rfl rfl)
theorem dX4_literals_42 : decode cX4_literals 42 = .ok (.iconst 0, 1) := dk_3 (dk_at dksX4_literals_1 18 rfl rfl)
theorem dX4_literals_43 : decode cX4_literals 43 = .ok (.iconst 2, 1) := dk_5 (dk_at dksX4_literals_1 19 rfl rfl)
theorem dX4_literals_44 : decode cX4_literals 44 = .ok (.aload_n 0, 1) := dk_42 (dk_at dksX4_literals_1 20 rfl rfl)
theorem dX4_literals_45 : decode cX4_literals 45 = .ok (.getfield 72, 3) := dk_180 0 72 (dk_at dksX4_literals_1 21 rfl rfl)
theorem dX4_literals_48 : decode cX4_literals 48 = .ok (.invokevirtual 68, 3) := dk_182 0 68 (dk_at dksX4_literals_2 0 rfl rfl)
theorem dX4_literals_51 : decode cX4_literals 51 = .ok (.aload_n 0, 1) := dk_42 (dk_at dksX4_literals_2 3 rfl rfl)
theorem dX4_literals_52 : decode cX4_literals 52 = .ok (.getfield 28, 3) := dk_180 0 28 (dk_at dksX4_literals_2 4 rfl rfl)
theorem dX4_literals_55 : decode cX4_literals 55 = .ok (.iload_n 2, 1) := dk_28 (dk_at dksX4_literals_2 7 rfl rfl)
theorem dX4_literals_56 : decode cX4_literals 56 = .ok (.iload_n 3, 1) := dk_29 (dk_at dksX4_literals_2 8 rfl rfl)
theorem dX4_literals_57 : decode cX4_literals 57 = .ok (.iastore, 1) := dk_79 (dk_at dksX4_literals_2 9 rfl rfl)
theorem dX4_literals_58 : decode cX4_literals 58 = .ok (.iinc 2 1, 3) := dk_132 2 1 (dk_at dksX4_literals_2 10 rfl rfl)
theorem dX4_literals_61 : decode cX4_literals 61 = .ok (.goto (-59), 3) := dk_167 255 197 (dk_at dksX4_literals_2 13 rfl rfl)
theorem dX4_literals_64 : decode cX4_literals 64 = .ok (.iload_n 2, 1) := dk_28 (dk_at dksX4_literals_2 16 rfl rfl)
theorem dX4_literals_65 : decode cX4_literals 65 = .ok (.ireturn, 1) := dk_172 (dk_at dksX4_literals_2 17 rfl rfl)
abbrev cX4_isLiteral : ByteArray := prog_6_method_4_code
def yX4_isLiteral : MethodName := ⟨RX4, "isLiteral", "()Z"⟩
def dkwX4_isLiteral_1 : List UInt8 := [167, 0, 4, 3, 172]
abbrev dktX4_isLiteral_1 : List UInt8 := dkwX4_isLiteral_1 ++ []
def dkwX4_isLiteral_0 : List UInt8 := [42, 182, 0, 60, 16, 45, 159, 0, 17, 42, 182, 0, 60, 16, 48, 16, 57, 184, 0, 64, 153, 0, 7, 4]
abbrev dktX4_isLiteral_0 : List UInt8 := dkwX4_isLiteral_0 ++ dktX4_isLiteral_1
theorem dksX4_isLiteral_0 : cX4_isLiteral.data.toList.drop 0 = dktX4_isLiteral_0 := by decide +kernel
theorem dksX4_isLiteral_1 : cX4_isLiteral.data.toList.drop 24 = dktX4_isLiteral_1 := dk_seg dksX4_isLiteral_0 24 rfl rfl
theorem dX4_isLiteral_0 : decode cX4_isLiteral 0 = .ok (.aload_n 0, 1) := dk_42 (dk_at dksX4_isLiteral_0 0 rfl rfl)
theorem dX4_isLiteral_1 : decode cX4_isLiteral 1 = .ok (.invokevirtual 60, 3) := dk_182 0 60 (dk_at dksX4_isLiteral_0 1 rfl rfl)
theorem dX4_isLiteral_4 : decode cX4_isLiteral 4 = .ok (.bipush 45, 2) := dk_16 45 (dk_at dksX4_isLiteral_0 4 rfl rfl)
theorem dX4_isLiteral_6 : decode cX4_isLiteral 6 = .ok (.if_icmp .eq 17, 3) := dk_159 0 17 (dk_at dksX4_isLiteral_0 6 rfl rfl)
theorem dX4_isLiteral_9 : decode cX4_isLiteral 9 = .ok (.aload_n 0, 1) := dk_42 (dk_at dksX4_isLiteral_0 9 rfl rfl)
theorem dX4_isLiteral_10 : decode cX4_isLiteral 10 = .ok (.invokevirtual 60, 3) := dk_182 0 60 (dk_at dksX4_isLiteral_0 10 rfl rfl)
theorem dX4_isLiteral_13 : decode cX4_isLiteral 13 = .ok (.bipush 48, 2) := dk_16 48 (dk_at dksX4_isLiteral_0 13 rfl rfl)
theorem dX4_isLiteral_15 : decode cX4_isLiteral 15 = .ok (.bipush 57, 2) := dk_16 57 (dk_at dksX4_isLiteral_0 15 rfl rfl)
theorem dX4_isLiteral_17 : decode cX4_isLiteral 17 = .ok (.invokestatic 64, 3) := dk_184 0 64 (dk_at dksX4_isLiteral_0 17 rfl rfl)
theorem dX4_isLiteral_20 : decode cX4_isLiteral 20 = .ok (.ifCond .eq 7, 3) := dk_153 0 7 (dk_at dksX4_isLiteral_0 20 rfl rfl)
theorem dX4_isLiteral_23 : decode cX4_isLiteral 23 = .ok (.iconst 1, 1) := dk_4 (dk_at dksX4_isLiteral_0 23 rfl rfl)
theorem dX4_isLiteral_24 : decode cX4_isLiteral 24 = .ok (.goto 4, 3) := dk_167 0 4 (dk_at dksX4_isLiteral_1 0 rfl rfl)
theorem dX4_isLiteral_27 : decode cX4_isLiteral 27 = .ok (.iconst 0, 1) := dk_3 (dk_at dksX4_isLiteral_1 3 rfl rfl)
theorem dX4_isLiteral_28 : decode cX4_isLiteral 28 = .ok (.ireturn, 1) := dk_172 (dk_at dksX4_isLiteral_1 4 rfl rfl)
abbrev cX4_full : ByteArray := prog_6_method_7_code
def yX4_full : MethodName := ⟨RX4, "full", "(I)LLearntReasons$Fault;"⟩
def dkwX4_full_2 : List UInt8 := [89, 6, 28, 183, 0, 57, 176]
abbrev dktX4_full_2 : List UInt8 := dkwX4_full_2 ++ []
def dkwX4_full_1 : List UInt8 := [27, 29, 184, 0, 85, 154, 0, 7, 4, 167, 0, 4, 3, 5, 42, 180, 0, 72, 182, 0, 68, 187, 0, 55]
abbrev dktX4_full_1 : List UInt8 := dkwX4_full_1 ++ dktX4_full_2
def dkwX4_full_0 : List UInt8 := [42, 180, 0, 44, 61, 42, 182, 0, 60, 16, 45, 159, 0, 34, 42, 182, 0, 82, 62, 42, 42, 180, 0, 28]
abbrev dktX4_full_0 : List UInt8 := dkwX4_full_0 ++ dktX4_full_1
theorem dksX4_full_0 : cX4_full.data.toList.drop 0 = dktX4_full_0 := by decide +kernel
theorem dksX4_full_1 : cX4_full.data.toList.drop 24 = dktX4_full_1 := dk_seg dksX4_full_0 24 rfl rfl
theorem dksX4_full_2 : cX4_full.data.toList.drop 48 = dktX4_full_2 := dk_seg dksX4_full_1 24 rfl rfl
theorem dX4_full_0 : decode cX4_full 0 = .ok (.aload_n 0, 1) := dk_42 (dk_at dksX4_full_0 0 rfl rfl)
theorem dX4_full_1 : decode cX4_full 1 = .ok (.getfield 44, 3) := dk_180 0 44 (dk_at dksX4_full_0 1 rfl rfl)
theorem dX4_full_4 : decode cX4_full 4 = .ok (.istore_n 2, 1) := dk_61 (dk_at dksX4_full_0 4 rfl rfl)
theorem dX4_full_5 : decode cX4_full 5 = .ok (.aload_n 0, 1) := dk_42 (dk_at dksX4_full_0 5 rfl rfl)
theorem dX4_full_6 : decode cX4_full 6 = .ok (.invokevirtual 60, 3) := dk_182 0 60 (dk_at dksX4_full_0 6 rfl rfl)
theorem dX4_full_9 : decode cX4_full 9 = .ok (.bipush 45, 2) := dk_16 45 (dk_at dksX4_full_0 9 rfl rfl)
theorem dX4_full_11 : decode cX4_full 11 = .ok (.if_icmp .eq 34, 3) := dk_159 0 34 (dk_at dksX4_full_0 11 rfl rfl)
theorem dX4_full_14 : decode cX4_full 14 = .ok (.aload_n 0, 1) := dk_42 (dk_at dksX4_full_0 14 rfl rfl)
theorem dX4_full_15 : decode cX4_full 15 = .ok (.invokevirtual 82, 3) := dk_182 0 82 (dk_at dksX4_full_0 15 rfl rfl)
theorem dX4_full_18 : decode cX4_full 18 = .ok (.istore_n 3, 1) := dk_62 (dk_at dksX4_full_0 18 rfl rfl)
theorem dX4_full_19 : decode cX4_full 19 = .ok (.aload_n 0, 1) := dk_42 (dk_at dksX4_full_0 19 rfl rfl)
theorem dX4_full_20 : decode cX4_full 20 = .ok (.aload_n 0, 1) := dk_42 (dk_at dksX4_full_0 20 rfl rfl)
theorem dX4_full_21 : decode cX4_full 21 = .ok (.getfield 28, 3) := dk_180 0 28 (dk_at dksX4_full_0 21 rfl rfl)
theorem dX4_full_24 : decode cX4_full 24 = .ok (.iload_n 1, 1) := dk_27 (dk_at dksX4_full_1 0 rfl rfl)
theorem dX4_full_25 : decode cX4_full 25 = .ok (.iload_n 3, 1) := dk_29 (dk_at dksX4_full_1 1 rfl rfl)
theorem dX4_full_26 : decode cX4_full 26 = .ok (.invokestatic 85, 3) := dk_184 0 85 (dk_at dksX4_full_1 2 rfl rfl)
theorem dX4_full_29 : decode cX4_full 29 = .ok (.ifCond .ne 7, 3) := dk_154 0 7 (dk_at dksX4_full_1 5 rfl rfl)
theorem dX4_full_32 : decode cX4_full 32 = .ok (.iconst 1, 1) := dk_4 (dk_at dksX4_full_1 8 rfl rfl)
theorem dX4_full_33 : decode cX4_full 33 = .ok (.goto 4, 3) := dk_167 0 4 (dk_at dksX4_full_1 9 rfl rfl)
theorem dX4_full_36 : decode cX4_full 36 = .ok (.iconst 0, 1) := dk_3 (dk_at dksX4_full_1 12 rfl rfl)
theorem dX4_full_37 : decode cX4_full 37 = .ok (.iconst 2, 1) := dk_5 (dk_at dksX4_full_1 13 rfl rfl)
theorem dX4_full_38 : decode cX4_full 38 = .ok (.aload_n 0, 1) := dk_42 (dk_at dksX4_full_1 14 rfl rfl)
theorem dX4_full_39 : decode cX4_full 39 = .ok (.getfield 72, 3) := dk_180 0 72 (dk_at dksX4_full_1 15 rfl rfl)
theorem dX4_full_42 : decode cX4_full 42 = .ok (.invokevirtual 68, 3) := dk_182 0 68 (dk_at dksX4_full_1 18 rfl rfl)
theorem dX4_full_45 : decode cX4_full 45 = .ok (.new 55, 3) := dk_187 0 55 (dk_at dksX4_full_1 21 rfl rfl)
theorem dX4_full_48 : decode cX4_full 48 = .ok (.dup, 1) := dk_89 (dk_at dksX4_full_2 0 rfl rfl)
theorem dX4_full_49 : decode cX4_full 49 = .ok (.iconst 3, 1) := dk_6 (dk_at dksX4_full_2 1 rfl rfl)
theorem dX4_full_50 : decode cX4_full 50 = .ok (.iload_n 2, 1) := dk_28 (dk_at dksX4_full_2 2 rfl rfl)
theorem dX4_full_51 : decode cX4_full 51 = .ok (.invokespecial 57, 3) := dk_183 0 57 (dk_at dksX4_full_2 3 rfl rfl)
theorem dX4_full_54 : decode cX4_full 54 = .ok (.areturn, 1) := dk_176 (dk_at dksX4_full_2 6 rfl rfl)
abbrev cX4_literal : ByteArray := prog_6_method_6_code
def yX4_literal : MethodName := ⟨RX4, "literal", "()I"⟩
def dkwX4_literal_2 : List UInt8 := [42, 180, 0, 72, 182, 0, 68, 27, 153, 0, 8, 28, 116, 167, 0, 4, 28, 172]
abbrev dktX4_literal_2 : List UInt8 := dkwX4_literal_2 ++ []
def dkwX4_literal_1 : List UInt8 := [4, 167, 0, 4, 3, 96, 181, 0, 44, 42, 182, 0, 75, 61, 42, 42, 180, 0, 25, 28, 182, 0, 78, 5]
abbrev dktX4_literal_1 : List UInt8 := dkwX4_literal_1 ++ dktX4_literal_2
def dkwX4_literal_0 : List UInt8 := [42, 182, 0, 60, 16, 45, 160, 0, 7, 4, 167, 0, 4, 3, 60, 42, 89, 180, 0, 44, 27, 153, 0, 7]
abbrev dktX4_literal_0 : List UInt8 := dkwX4_literal_0 ++ dktX4_literal_1
theorem dksX4_literal_0 : cX4_literal.data.toList.drop 0 = dktX4_literal_0 := by decide +kernel
theorem dksX4_literal_1 : cX4_literal.data.toList.drop 24 = dktX4_literal_1 := dk_seg dksX4_literal_0 24 rfl rfl
theorem dksX4_literal_2 : cX4_literal.data.toList.drop 48 = dktX4_literal_2 := dk_seg dksX4_literal_1 24 rfl rfl
theorem dX4_literal_0 : decode cX4_literal 0 = .ok (.aload_n 0, 1) := dk_42 (dk_at dksX4_literal_0 0 rfl rfl)
theorem dX4_literal_1 : decode cX4_literal 1 = .ok (.invokevirtual 60, 3) := dk_182 0 60 (dk_at dksX4_literal_0 1 rfl rfl)
theorem dX4_literal_4 : decode cX4_literal 4 = .ok (.bipush 45, 2) := dk_16 45 (dk_at dksX4_literal_0 4 rfl rfl)
theorem dX4_literal_6 : decode cX4_literal 6 = .ok (.if_icmp .ne 7, 3) := dk_160 0 7 (dk_at dksX4_literal_0 6 rfl rfl)
theorem dX4_literal_9 : decode cX4_literal 9 = .ok (.iconst 1, 1) := dk_4 (dk_at dksX4_literal_0 9 rfl rfl)
theorem dX4_literal_10 : decode cX4_literal 10 = .ok (.goto 4, 3) := dk_167 0 4 (dk_at dksX4_literal_0 10 rfl rfl)
theorem dX4_literal_13 : decode cX4_literal 13 = .ok (.iconst 0, 1) := dk_3 (dk_at dksX4_literal_0 13 rfl rfl)
theorem dX4_literal_14 : decode cX4_literal 14 = .ok (.istore_n 1, 1) := dk_60 (dk_at dksX4_literal_0 14 rfl rfl)
theorem dX4_literal_15 : decode cX4_literal 15 = .ok (.aload_n 0, 1) := dk_42 (dk_at dksX4_literal_0 15 rfl rfl)
theorem dX4_literal_16 : decode cX4_literal 16 = .ok (.dup, 1) := dk_89 (dk_at dksX4_literal_0 16 rfl rfl)
theorem dX4_literal_17 : decode cX4_literal 17 = .ok (.getfield 44, 3) := dk_180 0 44 (dk_at dksX4_literal_0 17 rfl rfl)
theorem dX4_literal_20 : decode cX4_literal 20 = .ok (.iload_n 1, 1) := dk_27 (dk_at dksX4_literal_0 20 rfl rfl)
theorem dX4_literal_21 : decode cX4_literal 21 = .ok (.ifCond .eq 7, 3) := dk_153 0 7 (dk_at dksX4_literal_0 21 rfl rfl)
theorem dX4_literal_24 : decode cX4_literal 24 = .ok (.iconst 1, 1) := dk_4 (dk_at dksX4_literal_1 0 rfl rfl)
theorem dX4_literal_25 : decode cX4_literal 25 = .ok (.goto 4, 3) := dk_167 0 4 (dk_at dksX4_literal_1 1 rfl rfl)
theorem dX4_literal_28 : decode cX4_literal 28 = .ok (.iconst 0, 1) := dk_3 (dk_at dksX4_literal_1 4 rfl rfl)
theorem dX4_literal_29 : decode cX4_literal 29 = .ok (.iadd, 1) := dk_96 (dk_at dksX4_literal_1 5 rfl rfl)
theorem dX4_literal_30 : decode cX4_literal 30 = .ok (.putfield 44, 3) := dk_181 0 44 (dk_at dksX4_literal_1 6 rfl rfl)
theorem dX4_literal_33 : decode cX4_literal 33 = .ok (.aload_n 0, 1) := dk_42 (dk_at dksX4_literal_1 9 rfl rfl)
theorem dX4_literal_34 : decode cX4_literal 34 = .ok (.invokevirtual 75, 3) := dk_182 0 75 (dk_at dksX4_literal_1 10 rfl rfl)
theorem dX4_literal_37 : decode cX4_literal 37 = .ok (.istore_n 2, 1) := dk_61 (dk_at dksX4_literal_1 13 rfl rfl)
theorem dX4_literal_38 : decode cX4_literal 38 = .ok (.aload_n 0, 1) := dk_42 (dk_at dksX4_literal_1 14 rfl rfl)
theorem dX4_literal_39 : decode cX4_literal 39 = .ok (.aload_n 0, 1) := dk_42 (dk_at dksX4_literal_1 15 rfl rfl)
theorem dX4_literal_40 : decode cX4_literal 40 = .ok (.getfield 25, 3) := dk_180 0 25 (dk_at dksX4_literal_1 16 rfl rfl)
theorem dX4_literal_43 : decode cX4_literal 43 = .ok (.iload_n 2, 1) := dk_28 (dk_at dksX4_literal_1 19 rfl rfl)
theorem dX4_literal_44 : decode cX4_literal 44 = .ok (.invokevirtual 78, 3) := dk_182 0 78 (dk_at dksX4_literal_1 20 rfl rfl)
theorem dX4_literal_47 : decode cX4_literal 47 = .ok (.iconst 2, 1) := dk_5 (dk_at dksX4_literal_1 23 rfl rfl)
theorem dX4_literal_48 : decode cX4_literal 48 = .ok (.aload_n 0, 1) := dk_42 (dk_at dksX4_literal_2 0 rfl rfl)
theorem dX4_literal_49 : decode cX4_literal 49 = .ok (.getfield 72, 3) := dk_180 0 72 (dk_at dksX4_literal_2 1 rfl rfl)
theorem dX4_literal_52 : decode cX4_literal 52 = .ok (.invokevirtual 68, 3) := dk_182 0 68 (dk_at dksX4_literal_2 4 rfl rfl)
theorem dX4_literal_55 : decode cX4_literal 55 = .ok (.iload_n 1, 1) := dk_27 (dk_at dksX4_literal_2 7 rfl rfl)
theorem dX4_literal_56 : decode cX4_literal 56 = .ok (.ifCond .eq 8, 3) := dk_153 0 8 (dk_at dksX4_literal_2 8 rfl rfl)
theorem dX4_literal_59 : decode cX4_literal 59 = .ok (.iload_n 2, 1) := dk_28 (dk_at dksX4_literal_2 11 rfl rfl)
theorem dX4_literal_60 : decode cX4_literal 60 = .ok (.ineg, 1) := dk_116 (dk_at dksX4_literal_2 12 rfl rfl)
theorem dX4_literal_61 : decode cX4_literal 61 = .ok (.goto 4, 3) := dk_167 0 4 (dk_at dksX4_literal_2 13 rfl rfl)
theorem dX4_literal_64 : decode cX4_literal 64 = .ok (.iload_n 2, 1) := dk_28 (dk_at dksX4_literal_2 16 rfl rfl)
theorem dX4_literal_65 : decode cX4_literal 65 = .ok (.ireturn, 1) := dk_172 (dk_at dksX4_literal_2 17 rfl rfl)
abbrev cX4_lambda_new_2 : ByteArray := prog_6_method_17_code
def yX4_lambda_new_2 : MethodName := ⟨RX4, "lambda$new$2", "()V"⟩
theorem dX4_lambda_new_2_0 : decode cX4_lambda_new_2 0 = .ok (.aload_n 0, 1) := by decide +kernel
theorem dX4_lambda_new_2_1 : decode cX4_lambda_new_2 1 = .ok (.invokevirtual 180, 3) := by decide +kernel
theorem dX4_lambda_new_2_4 : decode cX4_lambda_new_2 4 = .ok (.return_, 1) := by decide +kernel
abbrev cX4_phases : ByteArray := prog_6_method_12_code
def yX4_phases : MethodName := ⟨RX4, "phases", "()V"⟩
def dkwX4_phases_1 : List UInt8 := [3, 84, 42, 182, 0, 89, 154, 255, 226, 42, 182, 0, 100, 177]
abbrev dktX4_phases_1 : List UInt8 := dkwX4_phases_1 ++ []
def dkwX4_phases_0 : List UInt8 := [42, 182, 0, 82, 60, 42, 180, 0, 25, 180, 0, 119, 27, 184, 0, 123, 27, 158, 0, 7, 4, 167, 0, 4]
abbrev dktX4_phases_0 : List UInt8 := dkwX4_phases_0 ++ dktX4_phases_1
theorem dksX4_phases_0 : cX4_phases.data.toList.drop 0 = dktX4_phases_0 := by decide +kernel
theorem dksX4_phases_1 : cX4_phases.data.toList.drop 24 = dktX4_phases_1 := dk_seg dksX4_phases_0 24 rfl rfl
theorem dX4_phases_0 : decode cX4_phases 0 = .ok (.aload_n 0, 1) := dk_42 (dk_at dksX4_phases_0 0 rfl rfl)
theorem dX4_phases_1 : decode cX4_phases 1 = .ok (.invokevirtual 82, 3) := dk_182 0 82 (dk_at dksX4_phases_0 1 rfl rfl)
theorem dX4_phases_4 : decode cX4_phases 4 = .ok (.istore_n 1, 1) := dk_60 (dk_at dksX4_phases_0 4 rfl rfl)
theorem dX4_phases_5 : decode cX4_phases 5 = .ok (.aload_n 0, 1) := dk_42 (dk_at dksX4_phases_0 5 rfl rfl)
theorem dX4_phases_6 : decode cX4_phases 6 = .ok (.getfield 25, 3) := dk_180 0 25 (dk_at dksX4_phases_0 6 rfl rfl)
theorem dX4_phases_9 : decode cX4_phases 9 = .ok (.getfield 119, 3) := dk_180 0 119 (dk_at dksX4_phases_0 9 rfl rfl)
theorem dX4_phases_12 : decode cX4_phases 12 = .ok (.iload_n 1, 1) := dk_27 (dk_at dksX4_phases_0 12 rfl rfl)
theorem dX4_phases_13 : decode cX4_phases 13 = .ok (.invokestatic 123, 3) := dk_184 0 123 (dk_at dksX4_phases_0 13 rfl rfl)
theorem dX4_phases_16 : decode cX4_phases 16 = .ok (.iload_n 1, 1) := dk_27 (dk_at dksX4_phases_0 16 rfl rfl)
theorem dX4_phases_17 : decode cX4_phases 17 = .ok (.ifCond .le 7, 3) := dk_158 0 7 (dk_at dksX4_phases_0 17 rfl rfl)
theorem dX4_phases_20 : decode cX4_phases 20 = .ok (.iconst 1, 1) := dk_4 (dk_at dksX4_phases_0 20 rfl rfl)
theorem dX4_phases_21 : decode cX4_phases 21 = .ok (.goto 4, 3) := dk_167 0 4 (dk_at dksX4_phases_0 21 rfl rfl)
theorem dX4_phases_24 : decode cX4_phases 24 = .ok (.iconst 0, 1) := dk_3 (dk_at dksX4_phases_1 0 rfl rfl)
theorem dX4_phases_25 : decode cX4_phases 25 = .ok (.bastore, 1) := dk_84 (dk_at dksX4_phases_1 1 rfl rfl)
theorem dX4_phases_26 : decode cX4_phases 26 = .ok (.aload_n 0, 1) := dk_42 (dk_at dksX4_phases_1 2 rfl rfl)
theorem dX4_phases_27 : decode cX4_phases 27 = .ok (.invokevirtual 89, 3) := dk_182 0 89 (dk_at dksX4_phases_1 3 rfl rfl)
theorem dX4_phases_30 : decode cX4_phases 30 = .ok (.ifCond .ne (-30), 3) := dk_154 255 226 (dk_at dksX4_phases_1 6 rfl rfl)
theorem dX4_phases_33 : decode cX4_phases 33 = .ok (.aload_n 0, 1) := dk_42 (dk_at dksX4_phases_1 9 rfl rfl)
theorem dX4_phases_34 : decode cX4_phases 34 = .ok (.invokevirtual 100, 3) := dk_182 0 100 (dk_at dksX4_phases_1 10 rfl rfl)
theorem dX4_phases_37 : decode cX4_phases 37 = .ok (.return_, 1) := dk_177 (dk_at dksX4_phases_1 13 rfl rfl)
abbrev cX4_lines : ByteArray := prog_6_method_16_code
def yX4_lines : MethodName := ⟨RX4, "lines", "()Ljava/util/List;"⟩
def dkwX4_lines_1 : List UInt8 := [42, 182, 0, 100, 43, 42, 180, 0, 28, 28, 184, 0, 152, 185, 0, 175, 2, 0, 87, 167, 255, 222, 43, 176]
abbrev dktX4_lines_1 : List UInt8 := dkwX4_lines_1 ++ []
def dkwX4_lines_0 : List UInt8 := [187, 0, 170, 89, 7, 183, 0, 172, 76, 42, 182, 0, 60, 2, 159, 0, 32, 42, 16, 31, 182, 0, 103, 61]
abbrev dktX4_lines_0 : List UInt8 := dkwX4_lines_0 ++ dktX4_lines_1
theorem dksX4_lines_0 : cX4_lines.data.toList.drop 0 = dktX4_lines_0 := by decide +kernel
theorem dksX4_lines_1 : cX4_lines.data.toList.drop 24 = dktX4_lines_1 := dk_seg dksX4_lines_0 24 rfl rfl
theorem dX4_lines_0 : decode cX4_lines 0 = .ok (.new 170, 3) := dk_187 0 170 (dk_at dksX4_lines_0 0 rfl rfl)
theorem dX4_lines_3 : decode cX4_lines 3 = .ok (.dup, 1) := dk_89 (dk_at dksX4_lines_0 3 rfl rfl)
theorem dX4_lines_4 : decode cX4_lines 4 = .ok (.iconst 4, 1) := dk_7 (dk_at dksX4_lines_0 4 rfl rfl)
theorem dX4_lines_5 : decode cX4_lines 5 = .ok (.invokespecial 172, 3) := dk_183 0 172 (dk_at dksX4_lines_0 5 rfl rfl)
theorem dX4_lines_8 : decode cX4_lines 8 = .ok (.astore_n 1, 1) := dk_76 (dk_at dksX4_lines_0 8 rfl rfl)
theorem dX4_lines_9 : decode cX4_lines 9 = .ok (.aload_n 0, 1) := dk_42 (dk_at dksX4_lines_0 9 rfl rfl)
theorem dX4_lines_10 : decode cX4_lines 10 = .ok (.invokevirtual 60, 3) := dk_182 0 60 (dk_at dksX4_lines_0 10 rfl rfl)
theorem dX4_lines_13 : decode cX4_lines 13 = .ok (.iconst (-1), 1) := dk_2 (dk_at dksX4_lines_0 13 rfl rfl)
theorem dX4_lines_14 : decode cX4_lines 14 = .ok (.if_icmp .eq 32, 3) := dk_159 0 32 (dk_at dksX4_lines_0 14 rfl rfl)
theorem dX4_lines_17 : decode cX4_lines 17 = .ok (.aload_n 0, 1) := dk_42 (dk_at dksX4_lines_0 17 rfl rfl)
theorem dX4_lines_18 : decode cX4_lines 18 = .ok (.bipush 31, 2) := dk_16 31 (dk_at dksX4_lines_0 18 rfl rfl)
theorem dX4_lines_20 : decode cX4_lines 20 = .ok (.invokevirtual 103, 3) := dk_182 0 103 (dk_at dksX4_lines_0 20 rfl rfl)
theorem dX4_lines_23 : decode cX4_lines 23 = .ok (.istore_n 2, 1) := dk_61 (dk_at dksX4_lines_0 23 rfl rfl)
theorem dX4_lines_24 : decode cX4_lines 24 = .ok (.aload_n 0, 1) := dk_42 (dk_at dksX4_lines_1 0 rfl rfl)
theorem dX4_lines_25 : decode cX4_lines 25 = .ok (.invokevirtual 100, 3) := dk_182 0 100 (dk_at dksX4_lines_1 1 rfl rfl)
theorem dX4_lines_28 : decode cX4_lines 28 = .ok (.aload_n 1, 1) := dk_43 (dk_at dksX4_lines_1 4 rfl rfl)
theorem dX4_lines_29 : decode cX4_lines 29 = .ok (.aload_n 0, 1) := dk_42 (dk_at dksX4_lines_1 5 rfl rfl)
theorem dX4_lines_30 : decode cX4_lines 30 = .ok (.getfield 28, 3) := dk_180 0 28 (dk_at dksX4_lines_1 6 rfl rfl)
theorem dX4_lines_33 : decode cX4_lines 33 = .ok (.iload_n 2, 1) := dk_28 (dk_at dksX4_lines_1 9 rfl rfl)
theorem dX4_lines_34 : decode cX4_lines 34 = .ok (.invokestatic 152, 3) := dk_184 0 152 (dk_at dksX4_lines_1 10 rfl rfl)
theorem dX4_lines_37 : decode cX4_lines 37 = .ok (.invokeinterface 175 2, 5) := by decide +kernel
theorem dX4_lines_42 : decode cX4_lines 42 = .ok (.pop, 1) := dk_87 (dk_at dksX4_lines_1 18 rfl rfl)
theorem dX4_lines_43 : decode cX4_lines 43 = .ok (.goto (-34), 3) := dk_167 255 222 (dk_at dksX4_lines_1 19 rfl rfl)
theorem dX4_lines_46 : decode cX4_lines 46 = .ok (.aload_n 1, 1) := dk_43 (dk_at dksX4_lines_1 22 rfl rfl)
theorem dX4_lines_47 : decode cX4_lines 47 = .ok (.areturn, 1) := dk_176 (dk_at dksX4_lines_1 23 rfl rfl)
abbrev cX4_text : ByteArray := prog_6_method_15_code
def yX4_text : MethodName := ⟨RX4, "text", "()I"⟩
def dkwX4_text_1 : List UInt8 := [42, 180, 0, 34, 42, 182, 0, 165, 50, 185, 0, 168, 1, 0, 132, 1, 1, 167, 255, 217, 27, 172]
abbrev dktX4_text_1 : List UInt8 := dkwX4_text_1 ++ []
def dkwX4_text_0 : List UInt8 := [3, 60, 42, 182, 0, 60, 2, 159, 0, 37, 42, 182, 0, 89, 153, 0, 10, 42, 182, 0, 162, 167, 0, 17]
abbrev dktX4_text_0 : List UInt8 := dkwX4_text_0 ++ dktX4_text_1
theorem dksX4_text_0 : cX4_text.data.toList.drop 0 = dktX4_text_0 := by decide +kernel
theorem dksX4_text_1 : cX4_text.data.toList.drop 24 = dktX4_text_1 := dk_seg dksX4_text_0 24 rfl rfl
theorem dX4_text_0 : decode cX4_text 0 = .ok (.iconst 0, 1) := dk_3 (dk_at dksX4_text_0 0 rfl rfl)
theorem dX4_text_1 : decode cX4_text 1 = .ok (.istore_n 1, 1) := dk_60 (dk_at dksX4_text_0 1 rfl rfl)
theorem dX4_text_2 : decode cX4_text 2 = .ok (.aload_n 0, 1) := dk_42 (dk_at dksX4_text_0 2 rfl rfl)
theorem dX4_text_3 : decode cX4_text 3 = .ok (.invokevirtual 60, 3) := dk_182 0 60 (dk_at dksX4_text_0 3 rfl rfl)
theorem dX4_text_6 : decode cX4_text 6 = .ok (.iconst (-1), 1) := dk_2 (dk_at dksX4_text_0 6 rfl rfl)
theorem dX4_text_7 : decode cX4_text 7 = .ok (.if_icmp .eq 37, 3) := dk_159 0 37 (dk_at dksX4_text_0 7 rfl rfl)
theorem dX4_text_10 : decode cX4_text 10 = .ok (.aload_n 0, 1) := dk_42 (dk_at dksX4_text_0 10 rfl rfl)
theorem dX4_text_11 : decode cX4_text 11 = .ok (.invokevirtual 89, 3) := dk_182 0 89 (dk_at dksX4_text_0 11 rfl rfl)
theorem dX4_text_14 : decode cX4_text 14 = .ok (.ifCond .eq 10, 3) := dk_153 0 10 (dk_at dksX4_text_0 14 rfl rfl)
theorem dX4_text_17 : decode cX4_text 17 = .ok (.aload_n 0, 1) := dk_42 (dk_at dksX4_text_0 17 rfl rfl)
theorem dX4_text_18 : decode cX4_text 18 = .ok (.invokevirtual 162, 3) := dk_182 0 162 (dk_at dksX4_text_0 18 rfl rfl)
theorem dX4_text_21 : decode cX4_text 21 = .ok (.goto 17, 3) := dk_167 0 17 (dk_at dksX4_text_0 21 rfl rfl)
theorem dX4_text_24 : decode cX4_text 24 = .ok (.aload_n 0, 1) := dk_42 (dk_at dksX4_text_1 0 rfl rfl)
theorem dX4_text_25 : decode cX4_text 25 = .ok (.getfield 34, 3) := dk_180 0 34 (dk_at dksX4_text_1 1 rfl rfl)
theorem dX4_text_28 : decode cX4_text 28 = .ok (.aload_n 0, 1) := dk_42 (dk_at dksX4_text_1 4 rfl rfl)
theorem dX4_text_29 : decode cX4_text 29 = .ok (.invokevirtual 165, 3) := dk_182 0 165 (dk_at dksX4_text_1 5 rfl rfl)
theorem dX4_text_32 : decode cX4_text 32 = .ok (.aaload, 1) := dk_50 (dk_at dksX4_text_1 8 rfl rfl)
theorem dX4_text_33 : decode cX4_text 33 = .ok (.invokeinterface 168 1, 5) := by decide +kernel
theorem dX4_text_38 : decode cX4_text 38 = .ok (.iinc 1 1, 3) := dk_132 1 1 (dk_at dksX4_text_1 14 rfl rfl)
theorem dX4_text_41 : decode cX4_text 41 = .ok (.goto (-39), 3) := dk_167 255 217 (dk_at dksX4_text_1 17 rfl rfl)
theorem dX4_text_44 : decode cX4_text 44 = .ok (.iload_n 1, 1) := dk_27 (dk_at dksX4_text_1 20 rfl rfl)
theorem dX4_text_45 : decode cX4_text 45 = .ok (.ireturn, 1) := dk_172 (dk_at dksX4_text_1 21 rfl rfl)
abbrev cX4_tellsClause : ByteArray := prog_6_method_14_code
def yX4_tellsClause : MethodName := ⟨RX4, "tellsClause", "()V"⟩
def dkwX4_tellsClause_1 : List UInt8 := [182, 0, 100, 42, 180, 0, 25, 42, 180, 0, 28, 27, 184, 0, 152, 182, 0, 158, 87, 177]
abbrev dktX4_tellsClause_1 : List UInt8 := dkwX4_tellsClause_1 ++ []
def dkwX4_tellsClause_0 : List UInt8 := [42, 180, 0, 25, 182, 0, 149, 154, 0, 9, 42, 3, 182, 0, 93, 191, 42, 16, 8, 182, 0, 103, 60, 42]
abbrev dktX4_tellsClause_0 : List UInt8 := dkwX4_tellsClause_0 ++ dktX4_tellsClause_1
theorem dksX4_tellsClause_0 : cX4_tellsClause.data.toList.drop 0 = dktX4_tellsClause_0 := by decide +kernel
theorem dksX4_tellsClause_1 : cX4_tellsClause.data.toList.drop 24 = dktX4_tellsClause_1 := dk_seg dksX4_tellsClause_0 24 rfl rfl
theorem dX4_tellsClause_0 : decode cX4_tellsClause 0 = .ok (.aload_n 0, 1) := dk_42 (dk_at dksX4_tellsClause_0 0 rfl rfl)
theorem dX4_tellsClause_1 : decode cX4_tellsClause 1 = .ok (.getfield 25, 3) := dk_180 0 25 (dk_at dksX4_tellsClause_0 1 rfl rfl)
theorem dX4_tellsClause_4 : decode cX4_tellsClause 4 = .ok (.invokevirtual 149, 3) := dk_182 0 149 (dk_at dksX4_tellsClause_0 4 rfl rfl)
theorem dX4_tellsClause_7 : decode cX4_tellsClause 7 = .ok (.ifCond .ne 9, 3) := dk_154 0 9 (dk_at dksX4_tellsClause_0 7 rfl rfl)
theorem dX4_tellsClause_10 : decode cX4_tellsClause 10 = .ok (.aload_n 0, 1) := dk_42 (dk_at dksX4_tellsClause_0 10 rfl rfl)
theorem dX4_tellsClause_11 : decode cX4_tellsClause 11 = .ok (.iconst 0, 1) := dk_3 (dk_at dksX4_tellsClause_0 11 rfl rfl)
theorem dX4_tellsClause_12 : decode cX4_tellsClause 12 = .ok (.invokevirtual 93, 3) := dk_182 0 93 (dk_at dksX4_tellsClause_0 12 rfl rfl)
theorem dX4_tellsClause_15 : decode cX4_tellsClause 15 = .ok (.athrow, 1) := dk_191 (dk_at dksX4_tellsClause_0 15 rfl rfl)
theorem dX4_tellsClause_16 : decode cX4_tellsClause 16 = .ok (.aload_n 0, 1) := dk_42 (dk_at dksX4_tellsClause_0 16 rfl rfl)
theorem dX4_tellsClause_17 : decode cX4_tellsClause 17 = .ok (.bipush 8, 2) := dk_16 8 (dk_at dksX4_tellsClause_0 17 rfl rfl)
theorem dX4_tellsClause_19 : decode cX4_tellsClause 19 = .ok (.invokevirtual 103, 3) := dk_182 0 103 (dk_at dksX4_tellsClause_0 19 rfl rfl)
theorem dX4_tellsClause_22 : decode cX4_tellsClause 22 = .ok (.istore_n 1, 1) := dk_60 (dk_at dksX4_tellsClause_0 22 rfl rfl)
theorem dX4_tellsClause_23 : decode cX4_tellsClause 23 = .ok (.aload_n 0, 1) := dk_42 (dk_at dksX4_tellsClause_0 23 rfl rfl)
theorem dX4_tellsClause_24 : decode cX4_tellsClause 24 = .ok (.invokevirtual 100, 3) := dk_182 0 100 (dk_at dksX4_tellsClause_1 0 rfl rfl)
theorem dX4_tellsClause_27 : decode cX4_tellsClause 27 = .ok (.aload_n 0, 1) := dk_42 (dk_at dksX4_tellsClause_1 3 rfl rfl)
theorem dX4_tellsClause_28 : decode cX4_tellsClause 28 = .ok (.getfield 25, 3) := dk_180 0 25 (dk_at dksX4_tellsClause_1 4 rfl rfl)
theorem dX4_tellsClause_31 : decode cX4_tellsClause 31 = .ok (.aload_n 0, 1) := dk_42 (dk_at dksX4_tellsClause_1 7 rfl rfl)
theorem dX4_tellsClause_32 : decode cX4_tellsClause 32 = .ok (.getfield 28, 3) := dk_180 0 28 (dk_at dksX4_tellsClause_1 8 rfl rfl)
theorem dX4_tellsClause_35 : decode cX4_tellsClause 35 = .ok (.iload_n 1, 1) := dk_27 (dk_at dksX4_tellsClause_1 11 rfl rfl)
theorem dX4_tellsClause_36 : decode cX4_tellsClause 36 = .ok (.invokestatic 152, 3) := dk_184 0 152 (dk_at dksX4_tellsClause_1 12 rfl rfl)
theorem dX4_tellsClause_39 : decode cX4_tellsClause 39 = .ok (.invokevirtual 158, 3) := dk_182 0 158 (dk_at dksX4_tellsClause_1 15 rfl rfl)
theorem dX4_tellsClause_42 : decode cX4_tellsClause 42 = .ok (.pop, 1) := dk_87 (dk_at dksX4_tellsClause_1 18 rfl rfl)
theorem dX4_tellsClause_43 : decode cX4_tellsClause 43 = .ok (.return_, 1) := dk_177 (dk_at dksX4_tellsClause_1 19 rfl rfl)
abbrev cX4_word : ByteArray := prog_6_method_13_code
def yX4_word : MethodName := ⟨RX4, "word", "()I"⟩
def dkwX4_word_7 : List UInt8 := [42, 180, 0, 72, 182, 0, 68, 29, 172]
abbrev dktX4_word_7 : List UInt8 := dkwX4_word_7 ++ []
def dkwX4_word_6 : List UInt8 := [182, 0, 139, 153, 0, 7, 5, 167, 0, 4, 2, 62, 42, 29, 2, 159, 0, 7, 4, 167, 0, 4, 3, 4]
abbrev dktX4_word_6 : List UInt8 := dkwX4_word_6 ++ dktX4_word_7
def dkwX4_word_5 : List UInt8 := [153, 0, 7, 3, 167, 0, 30, 44, 18, 145, 182, 0, 139, 153, 0, 7, 4, 167, 0, 17, 44, 18, 147]
abbrev dktX4_word_5 : List UInt8 := dkwX4_word_5 ++ dktX4_word_6
def dkwX4_word_4 : List UInt8 := [42, 89, 180, 0, 44, 4, 96, 181, 0, 44, 167, 255, 192, 43, 182, 0, 133, 77, 44, 18, 137, 182, 0, 139]
abbrev dktX4_word_4 : List UInt8 := dkwX4_word_4 ++ dktX4_word_5
def dkwX4_word_3 : List UInt8 := [184, 0, 64, 153, 0, 34, 43, 42, 180, 0, 3, 180, 0, 51, 42, 180, 0, 44, 51, 146, 182, 0, 129, 87]
abbrev dktX4_word_3 : List UInt8 := dkwX4_word_3 ++ dktX4_word_4
def dkwX4_word_2 : List UInt8 := [180, 0, 48, 162, 0, 56, 42, 180, 0, 3, 180, 0, 51, 42, 180, 0, 44, 51, 16, 97, 16, 122]
abbrev dktX4_word_2 : List UInt8 := dkwX4_word_2 ++ dktX4_word_3
def dkwX4_word_1 : List UInt8 := [180, 0, 44, 181, 0, 72, 187, 0, 126, 89, 183, 0, 128, 76, 42, 180, 0, 44, 42, 180, 0, 3]
abbrev dktX4_word_1 : List UInt8 := dkwX4_word_1 ++ dktX4_word_2
def dkwX4_word_0 : List UInt8 := [42, 42, 182, 0, 60, 16, 97, 16, 122, 184, 0, 64, 4, 42, 180, 0, 44, 182, 0, 68, 42, 42]
abbrev dktX4_word_0 : List UInt8 := dkwX4_word_0 ++ dktX4_word_1
theorem dksX4_word_0 : cX4_word.data.toList.drop 0 = dktX4_word_0 := by decide +kernel
theorem dksX4_word_1 : cX4_word.data.toList.drop 22 = dktX4_word_1 := dk_seg dksX4_word_0 22 rfl rfl
theorem dksX4_word_2 : cX4_word.data.toList.drop 44 = dktX4_word_2 := dk_seg dksX4_word_1 22 rfl rfl
theorem dksX4_word_3 : cX4_word.data.toList.drop 66 = dktX4_word_3 := dk_seg dksX4_word_2 22 rfl rfl
theorem dksX4_word_4 : cX4_word.data.toList.drop 90 = dktX4_word_4 := dk_seg dksX4_word_3 24 rfl rfl
theorem dksX4_word_5 : cX4_word.data.toList.drop 114 = dktX4_word_5 := dk_seg dksX4_word_4 24 rfl rfl
theorem dksX4_word_6 : cX4_word.data.toList.drop 137 = dktX4_word_6 := dk_seg dksX4_word_5 23 rfl rfl
theorem dksX4_word_7 : cX4_word.data.toList.drop 161 = dktX4_word_7 := dk_seg dksX4_word_6 24 rfl rfl
theorem dX4_word_0 : decode cX4_word 0 = .ok (.aload_n 0, 1) := dk_42 (dk_at dksX4_word_0 0 rfl rfl)
theorem dX4_word_1 : decode cX4_word 1 = .ok (.aload_n 0, 1) := dk_42 (dk_at dksX4_word_0 1 rfl rfl)
theorem dX4_word_2 : decode cX4_word 2 = .ok (.invokevirtual 60, 3) := dk_182 0 60 (dk_at dksX4_word_0 2 rfl rfl)
theorem dX4_word_5 : decode cX4_word 5 = .ok (.bipush 97, 2) := dk_16 97 (dk_at dksX4_word_0 5 rfl rfl)
theorem dX4_word_7 : decode cX4_word 7 = .ok (.bipush 122, 2) := dk_16 122 (dk_at dksX4_word_0 7 rfl rfl)
theorem dX4_word_9 : decode cX4_word 9 = .ok (.invokestatic 64, 3) := dk_184 0 64 (dk_at dksX4_word_0 9 rfl rfl)
theorem dX4_word_12 : decode cX4_word 12 = .ok (.iconst 1, 1) := dk_4 (dk_at dksX4_word_0 12 rfl rfl)
theorem dX4_word_13 : decode cX4_word 13 = .ok (.aload_n 0, 1) := dk_42 (dk_at dksX4_word_0 13 rfl rfl)
theorem dX4_word_14 : decode cX4_word 14 = .ok (.getfield 44, 3) := dk_180 0 44 (dk_at dksX4_word_0 14 rfl rfl)
theorem dX4_word_17 : decode cX4_word 17 = .ok (.invokevirtual 68, 3) := dk_182 0 68 (dk_at dksX4_word_0 17 rfl rfl)
theorem dX4_word_20 : decode cX4_word 20 = .ok (.aload_n 0, 1) := dk_42 (dk_at dksX4_word_0 20 rfl rfl)
theorem dX4_word_21 : decode cX4_word 21 = .ok (.aload_n 0, 1) := dk_42 (dk_at dksX4_word_0 21 rfl rfl)
theorem dX4_word_22 : decode cX4_word 22 = .ok (.getfield 44, 3) := dk_180 0 44 (dk_at dksX4_word_1 0 rfl rfl)
theorem dX4_word_25 : decode cX4_word 25 = .ok (.putfield 72, 3) := dk_181 0 72 (dk_at dksX4_word_1 3 rfl rfl)
theorem dX4_word_28 : decode cX4_word 28 = .ok (.new 126, 3) := dk_187 0 126 (dk_at dksX4_word_1 6 rfl rfl)
theorem dX4_word_31 : decode cX4_word 31 = .ok (.dup, 1) := dk_89 (dk_at dksX4_word_1 9 rfl rfl)
theorem dX4_word_32 : decode cX4_word 32 = .ok (.invokespecial 128, 3) := dk_183 0 128 (dk_at dksX4_word_1 10 rfl rfl)
theorem dX4_word_35 : decode cX4_word 35 = .ok (.astore_n 1, 1) := dk_76 (dk_at dksX4_word_1 13 rfl rfl)
theorem dX4_word_36 : decode cX4_word 36 = .ok (.aload_n 0, 1) := dk_42 (dk_at dksX4_word_1 14 rfl rfl)
theorem dX4_word_37 : decode cX4_word 37 = .ok (.getfield 44, 3) := dk_180 0 44 (dk_at dksX4_word_1 15 rfl rfl)
theorem dX4_word_40 : decode cX4_word 40 = .ok (.aload_n 0, 1) := dk_42 (dk_at dksX4_word_1 18 rfl rfl)
theorem dX4_word_41 : decode cX4_word 41 = .ok (.getfield 3, 3) := dk_180 0 3 (dk_at dksX4_word_1 19 rfl rfl)
theorem dX4_word_44 : decode cX4_word 44 = .ok (.getfield 48, 3) := dk_180 0 48 (dk_at dksX4_word_2 0 rfl rfl)
theorem dX4_word_47 : decode cX4_word 47 = .ok (.if_icmp .ge 56, 3) := dk_162 0 56 (dk_at dksX4_word_2 3 rfl rfl)
theorem dX4_word_50 : decode cX4_word 50 = .ok (.aload_n 0, 1) := dk_42 (dk_at dksX4_word_2 6 rfl rfl)
theorem dX4_word_51 : decode cX4_word 51 = .ok (.getfield 3, 3) := dk_180 0 3 (dk_at dksX4_word_2 7 rfl rfl)
theorem dX4_word_54 : decode cX4_word 54 = .ok (.getfield 51, 3) := dk_180 0 51 (dk_at dksX4_word_2 10 rfl rfl)
theorem dX4_word_57 : decode cX4_word 57 = .ok (.aload_n 0, 1) := dk_42 (dk_at dksX4_word_2 13 rfl rfl)
theorem dX4_word_58 : decode cX4_word 58 = .ok (.getfield 44, 3) := dk_180 0 44 (dk_at dksX4_word_2 14 rfl rfl)
theorem dX4_word_61 : decode cX4_word 61 = .ok (.baload, 1) := dk_51 (dk_at dksX4_word_2 17 rfl rfl)
theorem dX4_word_62 : decode cX4_word 62 = .ok (.bipush 97, 2) := dk_16 97 (dk_at dksX4_word_2 18 rfl rfl)
theorem dX4_word_64 : decode cX4_word 64 = .ok (.bipush 122, 2) := dk_16 122 (dk_at dksX4_word_2 20 rfl rfl)
theorem dX4_word_66 : decode cX4_word 66 = .ok (.invokestatic 64, 3) := dk_184 0 64 (dk_at dksX4_word_3 0 rfl rfl)
theorem dX4_word_69 : decode cX4_word 69 = .ok (.ifCond .eq 34, 3) := dk_153 0 34 (dk_at dksX4_word_3 3 rfl rfl)
theorem dX4_word_72 : decode cX4_word 72 = .ok (.aload_n 1, 1) := dk_43 (dk_at dksX4_word_3 6 rfl rfl)
theorem dX4_word_73 : decode cX4_word 73 = .ok (.aload_n 0, 1) := dk_42 (dk_at dksX4_word_3 7 rfl rfl)
theorem dX4_word_74 : decode cX4_word 74 = .ok (.getfield 3, 3) := dk_180 0 3 (dk_at dksX4_word_3 8 rfl rfl)
theorem dX4_word_77 : decode cX4_word 77 = .ok (.getfield 51, 3) := dk_180 0 51 (dk_at dksX4_word_3 11 rfl rfl)
theorem dX4_word_80 : decode cX4_word 80 = .ok (.aload_n 0, 1) := dk_42 (dk_at dksX4_word_3 14 rfl rfl)
theorem dX4_word_81 : decode cX4_word 81 = .ok (.getfield 44, 3) := dk_180 0 44 (dk_at dksX4_word_3 15 rfl rfl)
theorem dX4_word_84 : decode cX4_word 84 = .ok (.baload, 1) := dk_51 (dk_at dksX4_word_3 18 rfl rfl)
theorem dX4_word_85 : decode cX4_word 85 = .ok (.i2c, 1) := dk_146 (dk_at dksX4_word_3 19 rfl rfl)
theorem dX4_word_86 : decode cX4_word 86 = .ok (.invokevirtual 129, 3) := dk_182 0 129 (dk_at dksX4_word_3 20 rfl rfl)
theorem dX4_word_89 : decode cX4_word 89 = .ok (.pop, 1) := dk_87 (dk_at dksX4_word_3 23 rfl rfl)
theorem dX4_word_90 : decode cX4_word 90 = .ok (.aload_n 0, 1) := dk_42 (dk_at dksX4_word_4 0 rfl rfl)
theorem dX4_word_91 : decode cX4_word 91 = .ok (.dup, 1) := dk_89 (dk_at dksX4_word_4 1 rfl rfl)
theorem dX4_word_92 : decode cX4_word 92 = .ok (.getfield 44, 3) := dk_180 0 44 (dk_at dksX4_word_4 2 rfl rfl)
theorem dX4_word_95 : decode cX4_word 95 = .ok (.iconst 1, 1) := dk_4 (dk_at dksX4_word_4 5 rfl rfl)
theorem dX4_word_96 : decode cX4_word 96 = .ok (.iadd, 1) := dk_96 (dk_at dksX4_word_4 6 rfl rfl)
theorem dX4_word_97 : decode cX4_word 97 = .ok (.putfield 44, 3) := dk_181 0 44 (dk_at dksX4_word_4 7 rfl rfl)
theorem dX4_word_100 : decode cX4_word 100 = .ok (.goto (-64), 3) := dk_167 255 192 (dk_at dksX4_word_4 10 rfl rfl)
theorem dX4_word_103 : decode cX4_word 103 = .ok (.aload_n 1, 1) := dk_43 (dk_at dksX4_word_4 13 rfl rfl)
theorem dX4_word_104 : decode cX4_word 104 = .ok (.invokevirtual 133, 3) := dk_182 0 133 (dk_at dksX4_word_4 14 rfl rfl)
theorem dX4_word_107 : decode cX4_word 107 = .ok (.astore_n 2, 1) := dk_77 (dk_at dksX4_word_4 17 rfl rfl)
theorem dX4_word_108 : decode cX4_word 108 = .ok (.aload_n 2, 1) := dk_44 (dk_at dksX4_word_4 18 rfl rfl)
theorem dX4_word_109 : decode cX4_word 109 = .ok (.ldc 137, 2) := dk_18 137 (dk_at dksX4_word_4 19 rfl rfl)
theorem dX4_word_111 : decode cX4_word 111 = .ok (.invokevirtual 139, 3) := dk_182 0 139 (dk_at dksX4_word_4 21 rfl rfl)
theorem dX4_word_114 : decode cX4_word 114 = .ok (.ifCond .eq 7, 3) := dk_153 0 7 (dk_at dksX4_word_5 0 rfl rfl)
theorem dX4_word_117 : decode cX4_word 117 = .ok (.iconst 0, 1) := dk_3 (dk_at dksX4_word_5 3 rfl rfl)
theorem dX4_word_118 : decode cX4_word 118 = .ok (.goto 30, 3) := dk_167 0 30 (dk_at dksX4_word_5 4 rfl rfl)
theorem dX4_word_121 : decode cX4_word 121 = .ok (.aload_n 2, 1) := dk_44 (dk_at dksX4_word_5 7 rfl rfl)
theorem dX4_word_122 : decode cX4_word 122 = .ok (.ldc 145, 2) := dk_18 145 (dk_at dksX4_word_5 8 rfl rfl)
theorem dX4_word_124 : decode cX4_word 124 = .ok (.invokevirtual 139, 3) := dk_182 0 139 (dk_at dksX4_word_5 10 rfl rfl)
theorem dX4_word_127 : decode cX4_word 127 = .ok (.ifCond .eq 7, 3) := dk_153 0 7 (dk_at dksX4_word_5 13 rfl rfl)
theorem dX4_word_130 : decode cX4_word 130 = .ok (.iconst 1, 1) := dk_4 (dk_at dksX4_word_5 16 rfl rfl)
theorem dX4_word_131 : decode cX4_word 131 = .ok (.goto 17, 3) := dk_167 0 17 (dk_at dksX4_word_5 17 rfl rfl)
theorem dX4_word_134 : decode cX4_word 134 = .ok (.aload_n 2, 1) := dk_44 (dk_at dksX4_word_5 20 rfl rfl)
theorem dX4_word_135 : decode cX4_word 135 = .ok (.ldc 147, 2) := dk_18 147 (dk_at dksX4_word_5 21 rfl rfl)
theorem dX4_word_137 : decode cX4_word 137 = .ok (.invokevirtual 139, 3) := dk_182 0 139 (dk_at dksX4_word_6 0 rfl rfl)
theorem dX4_word_140 : decode cX4_word 140 = .ok (.ifCond .eq 7, 3) := dk_153 0 7 (dk_at dksX4_word_6 3 rfl rfl)
theorem dX4_word_143 : decode cX4_word 143 = .ok (.iconst 2, 1) := dk_5 (dk_at dksX4_word_6 6 rfl rfl)
theorem dX4_word_144 : decode cX4_word 144 = .ok (.goto 4, 3) := dk_167 0 4 (dk_at dksX4_word_6 7 rfl rfl)
theorem dX4_word_147 : decode cX4_word 147 = .ok (.iconst (-1), 1) := dk_2 (dk_at dksX4_word_6 10 rfl rfl)
theorem dX4_word_148 : decode cX4_word 148 = .ok (.istore_n 3, 1) := dk_62 (dk_at dksX4_word_6 11 rfl rfl)
theorem dX4_word_149 : decode cX4_word 149 = .ok (.aload_n 0, 1) := dk_42 (dk_at dksX4_word_6 12 rfl rfl)
theorem dX4_word_150 : decode cX4_word 150 = .ok (.iload_n 3, 1) := dk_29 (dk_at dksX4_word_6 13 rfl rfl)
theorem dX4_word_151 : decode cX4_word 151 = .ok (.iconst (-1), 1) := dk_2 (dk_at dksX4_word_6 14 rfl rfl)
theorem dX4_word_152 : decode cX4_word 152 = .ok (.if_icmp .eq 7, 3) := dk_159 0 7 (dk_at dksX4_word_6 15 rfl rfl)
theorem dX4_word_155 : decode cX4_word 155 = .ok (.iconst 1, 1) := dk_4 (dk_at dksX4_word_6 18 rfl rfl)
theorem dX4_word_156 : decode cX4_word 156 = .ok (.goto 4, 3) := dk_167 0 4 (dk_at dksX4_word_6 19 rfl rfl)
theorem dX4_word_159 : decode cX4_word 159 = .ok (.iconst 0, 1) := dk_3 (dk_at dksX4_word_6 22 rfl rfl)
theorem dX4_word_160 : decode cX4_word 160 = .ok (.iconst 1, 1) := dk_4 (dk_at dksX4_word_6 23 rfl rfl)
theorem dX4_word_161 : decode cX4_word 161 = .ok (.aload_n 0, 1) := dk_42 (dk_at dksX4_word_7 0 rfl rfl)
theorem dX4_word_162 : decode cX4_word 162 = .ok (.getfield 72, 3) := dk_180 0 72 (dk_at dksX4_word_7 1 rfl rfl)
theorem dX4_word_165 : decode cX4_word 165 = .ok (.invokevirtual 68, 3) := dk_182 0 68 (dk_at dksX4_word_7 4 rfl rfl)
theorem dX4_word_168 : decode cX4_word 168 = .ok (.iload_n 3, 1) := dk_29 (dk_at dksX4_word_7 7 rfl rfl)
theorem dX4_word_169 : decode cX4_word 169 = .ok (.ireturn, 1) := dk_172 (dk_at dksX4_word_7 8 rfl rfl)
theorem q111 : (Jvm.Cond.initialized "LearntReasons$Reader") ∈ lw_all := lw_g (lw_at lw_m1 7 rfl) rfl
theorem q189 : (Jvm.Cond.fieldLinkNest "LearntReasons$Reader" (107 : Nat) "LearntReasons$State" "assumed" "[I" "LearntReasons") ∈ lw_tbl := lw_at lw_m1 85 rfl
theorem q202 : (Jvm.Cond.fieldLinkNest "LearntReasons$Reader" (119 : Nat) "LearntReasons$State" "phases" "[Z" "LearntReasons") ∈ lw_tbl := lw_at lw_m1 98 rfl
theorem q204 : (Jvm.Cond.fieldLinkNest "LearntReasons$Reader" (97 : Nat) "LearntReasons$State" "variables" "I" "LearntReasons") ∈ lw_tbl := lw_at lw_m1 100 rfl
theorem q211 : (Jvm.Cond.fieldLinkNest "LearntReasons$Reader" (116 : Nat) "LearntReasons$State" "assumptions" "I" "LearntReasons") ∈ lw_tbl := lw_at lw_m1 107 rfl
theorem q270 : (Jvm.Cond.fieldLinkNest "LearntReasons$Reader" (15 : Nat) "LearntReasons" "state" "LLearntReasons$State;" "LearntReasons") ∈ lw_tbl := lw_at lw_m1 166 rfl
theorem q274 : (Jvm.Cond.fieldLinkNest "LearntReasons$Reader" (51 : Nat) "LearntReasons" "tape" "[B" "LearntReasons") ∈ lw_tbl := lw_at lw_m1 170 rfl
theorem q276 : (Jvm.Cond.fieldLinkNest "LearntReasons$Reader" (48 : Nat) "LearntReasons" "taped" "I" "LearntReasons") ∈ lw_tbl := lw_at lw_m1 172 rfl
theorem q454 : (Jvm.Cond.selects "LearntReasons$Reader" ({ cls := "java/lang/Object", name := "getClass", desc := "()Ljava/lang/Class;" } : Jvm.MethodName) ({ cls := "java/lang/Object", name := "getClass", desc := "()Ljava/lang/Class;" } : Jvm.MethodName)) ∈ lw_all := lw_g (lw_at lw_m2 110 rfl) rfl
theorem q1104 : (Jvm.Cond.instantiable "LearntReasons$Reader" (6 : Nat)) ∈ lw_all := lw_g (lw_at lw_m5 40 rfl) rfl
theorem q1106 : (Jvm.Cond.instanceMethod ({ cls := "LearntReasons$Reader", name := "<init>", desc := "(LLearntReasons;)V" } : Jvm.MethodName)) ∈ lw_all := lw_g (lw_at lw_m5 42 rfl) rfl
theorem q1107 : (Jvm.Cond.code ({ cls := "LearntReasons$Reader", name := "<init>", desc := "(LLearntReasons;)V" } : Jvm.MethodName) prog_6_method_1_code (2 : Nat) (Option.none : Option Jvm.ClassFile.FieldType)) ∈ lw_all := lw_g (lw_at lw_m5 43 rfl) rfl
theorem q1108 : (Jvm.Cond.methodLink "LearntReasons$Reader" (9 : Nat) ({ cls := "java/lang/Object", name := "<init>", desc := "()V" } : Jvm.MethodName)) ∈ lw_all := lw_g (lw_at lw_m5 44 rfl) rfl
theorem q1109 : (Jvm.Cond.methodLink "LearntReasons$Reader" (19 : Nat) ({ cls := "LearntReasons$State", name := "like", desc := "()LLearntReasons$State;" } : Jvm.MethodName)) ∈ lw_all := lw_g (lw_at lw_m5 45 rfl) rfl
theorem q1110 : (Jvm.Cond.classLink "LearntReasons$Reader" (32 : Nat) "LearntReasons$Statement") ∈ lw_all := lw_g (lw_at lw_m5 46 rfl) rfl
theorem q1112 : (Jvm.Cond.privateMethod ({ cls := "LearntReasons$Reader", name := "lambda$new$0", desc := "()V" } : Jvm.MethodName)) ∈ lw_tbl := lw_at lw_m5 48 rfl
theorem q1113 : (Jvm.Cond.instanceMethod ({ cls := "LearntReasons$Reader", name := "lambda$new$0", desc := "()V" } : Jvm.MethodName)) ∈ lw_all := lw_g (lw_at lw_m5 49 rfl) rfl
theorem q1114 : (Jvm.Cond.code ({ cls := "LearntReasons$Reader", name := "lambda$new$0", desc := "()V" } : Jvm.MethodName) prog_6_method_19_code (1 : Nat) (Option.none : Option Jvm.ClassFile.FieldType)) ∈ lw_all := lw_g (lw_at lw_m5 50 rfl) rfl
theorem q1115 : (Jvm.Cond.methodLink "LearntReasons$Reader" (185 : Nat) ({ cls := "LearntReasons$Reader", name := "grows", desc := "()V" } : Jvm.MethodName)) ∈ lw_all := lw_g (lw_at lw_m5 51 rfl) rfl
theorem q1116 : (Jvm.Cond.privateMethod ({ cls := "LearntReasons$Reader", name := "grows", desc := "()V" } : Jvm.MethodName)) ∈ lw_tbl := lw_at lw_m5 52 rfl
theorem q1117 : (Jvm.Cond.instanceMethod ({ cls := "LearntReasons$Reader", name := "grows", desc := "()V" } : Jvm.MethodName)) ∈ lw_all := lw_g (lw_at lw_m5 53 rfl) rfl
theorem q1118 : (Jvm.Cond.code ({ cls := "LearntReasons$Reader", name := "grows", desc := "()V" } : Jvm.MethodName) prog_6_method_10_code (2 : Nat) (Option.none : Option Jvm.ClassFile.FieldType)) ∈ lw_all := lw_g (lw_at lw_m5 54 rfl) rfl
theorem q1119 : (Jvm.Cond.methodLink "LearntReasons$Reader" (75 : Nat) ({ cls := "LearntReasons$Reader", name := "number", desc := "()I" } : Jvm.MethodName)) ∈ lw_all := lw_g (lw_at lw_m5 55 rfl) rfl
theorem q1120 : (Jvm.Cond.privateMethod ({ cls := "LearntReasons$Reader", name := "number", desc := "()I" } : Jvm.MethodName)) ∈ lw_tbl := lw_at lw_m5 56 rfl
theorem q1121 : (Jvm.Cond.instanceMethod ({ cls := "LearntReasons$Reader", name := "number", desc := "()I" } : Jvm.MethodName)) ∈ lw_all := lw_g (lw_at lw_m5 57 rfl) rfl
theorem q1122 : (Jvm.Cond.code ({ cls := "LearntReasons$Reader", name := "number", desc := "()I" } : Jvm.MethodName) prog_6_method_5_code (2 : Nat) (Option.some Jvm.ClassFile.FieldType.int)) ∈ lw_all := lw_g (lw_at lw_m5 58 rfl) rfl
theorem q1123 : (Jvm.Cond.methodLink "LearntReasons$Reader" (60 : Nat) ({ cls := "LearntReasons$Reader", name := "here", desc := "()I" } : Jvm.MethodName)) ∈ lw_all := lw_g (lw_at lw_m5 59 rfl) rfl
theorem q1124 : (Jvm.Cond.privateMethod ({ cls := "LearntReasons$Reader", name := "here", desc := "()I" } : Jvm.MethodName)) ∈ lw_tbl := lw_at lw_m5 60 rfl
theorem q1125 : (Jvm.Cond.instanceMethod ({ cls := "LearntReasons$Reader", name := "here", desc := "()I" } : Jvm.MethodName)) ∈ lw_all := lw_g (lw_at lw_m5 61 rfl) rfl
theorem q1126 : (Jvm.Cond.code ({ cls := "LearntReasons$Reader", name := "here", desc := "()I" } : Jvm.MethodName) prog_6_method_2_code (1 : Nat) (Option.some Jvm.ClassFile.FieldType.int)) ∈ lw_all := lw_g (lw_at lw_m5 62 rfl) rfl
theorem q1127 : (Jvm.Cond.methodLinkNest "LearntReasons$Reader" (64 : Nat) ({ cls := "LearntReasons", name := "in", desc := "(III)Z" } : Jvm.MethodName) "LearntReasons") ∈ lw_tbl := lw_at lw_m5 63 rfl
theorem q1128 : (Jvm.Cond.methodLink "LearntReasons$Reader" (68 : Nat) ({ cls := "LearntReasons$Reader", name := "demand", desc := "(ZII)V" } : Jvm.MethodName)) ∈ lw_all := lw_g (lw_at lw_m5 64 rfl) rfl
theorem q1129 : (Jvm.Cond.privateMethod ({ cls := "LearntReasons$Reader", name := "demand", desc := "(ZII)V" } : Jvm.MethodName)) ∈ lw_tbl := lw_at lw_m5 65 rfl
theorem q1130 : (Jvm.Cond.instanceMethod ({ cls := "LearntReasons$Reader", name := "demand", desc := "(ZII)V" } : Jvm.MethodName)) ∈ lw_all := lw_g (lw_at lw_m5 66 rfl) rfl
theorem q1131 : (Jvm.Cond.code ({ cls := "LearntReasons$Reader", name := "demand", desc := "(ZII)V" } : Jvm.MethodName) prog_6_method_3_code (4 : Nat) (Option.none : Option Jvm.ClassFile.FieldType)) ∈ lw_all := lw_g (lw_at lw_m5 67 rfl) rfl
theorem q1132 : (Jvm.Cond.classLink "LearntReasons$Reader" (55 : Nat) "LearntReasons$Fault") ∈ lw_all := lw_g (lw_at lw_m5 68 rfl) rfl
theorem q1141 : (Jvm.Cond.methodLink "LearntReasons$Reader" (57 : Nat) ({ cls := "LearntReasons$Fault", name := "<init>", desc := "(II)V" } : Jvm.MethodName)) ∈ lw_all := lw_g (lw_at lw_m5 77 rfl) rfl
theorem q1156 : (Jvm.Cond.methodLink "LearntReasons$Reader" (100 : Nat) ({ cls := "LearntReasons$Reader", name := "ends", desc := "()V" } : Jvm.MethodName)) ∈ lw_all := lw_g (lw_at lw_m5 92 rfl) rfl
theorem q1157 : (Jvm.Cond.privateMethod ({ cls := "LearntReasons$Reader", name := "ends", desc := "()V" } : Jvm.MethodName)) ∈ lw_tbl := lw_at lw_m5 93 rfl
theorem q1158 : (Jvm.Cond.instanceMethod ({ cls := "LearntReasons$Reader", name := "ends", desc := "()V" } : Jvm.MethodName)) ∈ lw_all := lw_g (lw_at lw_m5 94 rfl) rfl
theorem q1159 : (Jvm.Cond.code ({ cls := "LearntReasons$Reader", name := "ends", desc := "()V" } : Jvm.MethodName) prog_6_method_9_code (1 : Nat) (Option.none : Option Jvm.ClassFile.FieldType)) ∈ lw_all := lw_g (lw_at lw_m5 95 rfl) rfl
theorem q1160 : (Jvm.Cond.privateMethod ({ cls := "LearntReasons$Reader", name := "lambda$new$1", desc := "()V" } : Jvm.MethodName)) ∈ lw_tbl := lw_at lw_m5 96 rfl
theorem q1161 : (Jvm.Cond.instanceMethod ({ cls := "LearntReasons$Reader", name := "lambda$new$1", desc := "()V" } : Jvm.MethodName)) ∈ lw_all := lw_g (lw_at lw_m5 97 rfl) rfl
theorem q1162 : (Jvm.Cond.code ({ cls := "LearntReasons$Reader", name := "lambda$new$1", desc := "()V" } : Jvm.MethodName) prog_6_method_18_code (1 : Nat) (Option.none : Option Jvm.ClassFile.FieldType)) ∈ lw_all := lw_g (lw_at lw_m5 98 rfl) rfl
theorem q1163 : (Jvm.Cond.methodLink "LearntReasons$Reader" (182 : Nat) ({ cls := "LearntReasons$Reader", name := "assumes", desc := "()V" } : Jvm.MethodName)) ∈ lw_all := lw_g (lw_at lw_m5 99 rfl) rfl
theorem q1164 : (Jvm.Cond.privateMethod ({ cls := "LearntReasons$Reader", name := "assumes", desc := "()V" } : Jvm.MethodName)) ∈ lw_tbl := lw_at lw_m5 100 rfl
theorem q1165 : (Jvm.Cond.instanceMethod ({ cls := "LearntReasons$Reader", name := "assumes", desc := "()V" } : Jvm.MethodName)) ∈ lw_all := lw_g (lw_at lw_m5 101 rfl) rfl
theorem q1166 : (Jvm.Cond.code ({ cls := "LearntReasons$Reader", name := "assumes", desc := "()V" } : Jvm.MethodName) prog_6_method_11_code (2 : Nat) (Option.none : Option Jvm.ClassFile.FieldType)) ∈ lw_all := lw_g (lw_at lw_m5 102 rfl) rfl
theorem q1167 : (Jvm.Cond.methodLink "LearntReasons$Reader" (103 : Nat) ({ cls := "LearntReasons$Reader", name := "literals", desc := "(I)I" } : Jvm.MethodName)) ∈ lw_all := lw_g (lw_at lw_m5 103 rfl) rfl
theorem q1168 : (Jvm.Cond.privateMethod ({ cls := "LearntReasons$Reader", name := "literals", desc := "(I)I" } : Jvm.MethodName)) ∈ lw_tbl := lw_at lw_m5 104 rfl
theorem q1169 : (Jvm.Cond.instanceMethod ({ cls := "LearntReasons$Reader", name := "literals", desc := "(I)I" } : Jvm.MethodName)) ∈ lw_all := lw_g (lw_at lw_m5 105 rfl) rfl
theorem q1170 : (Jvm.Cond.code ({ cls := "LearntReasons$Reader", name := "literals", desc := "(I)I" } : Jvm.MethodName) prog_6_method_8_code (4 : Nat) (Option.some Jvm.ClassFile.FieldType.int)) ∈ lw_all := lw_g (lw_at lw_m5 106 rfl) rfl
theorem q1171 : (Jvm.Cond.methodLink "LearntReasons$Reader" (89 : Nat) ({ cls := "LearntReasons$Reader", name := "isLiteral", desc := "()Z" } : Jvm.MethodName)) ∈ lw_all := lw_g (lw_at lw_m5 107 rfl) rfl
theorem q1172 : (Jvm.Cond.privateMethod ({ cls := "LearntReasons$Reader", name := "isLiteral", desc := "()Z" } : Jvm.MethodName)) ∈ lw_tbl := lw_at lw_m5 108 rfl
theorem q1173 : (Jvm.Cond.instanceMethod ({ cls := "LearntReasons$Reader", name := "isLiteral", desc := "()Z" } : Jvm.MethodName)) ∈ lw_all := lw_g (lw_at lw_m5 109 rfl) rfl
theorem q1174 : (Jvm.Cond.code ({ cls := "LearntReasons$Reader", name := "isLiteral", desc := "()Z" } : Jvm.MethodName) prog_6_method_4_code (1 : Nat) (Option.some Jvm.ClassFile.FieldType.boolean)) ∈ lw_all := lw_g (lw_at lw_m5 110 rfl) rfl
theorem q1175 : (Jvm.Cond.methodLink "LearntReasons$Reader" (93 : Nat) ({ cls := "LearntReasons$Reader", name := "full", desc := "(I)LLearntReasons$Fault;" } : Jvm.MethodName)) ∈ lw_all := lw_g (lw_at lw_m5 111 rfl) rfl
theorem q1176 : (Jvm.Cond.privateMethod ({ cls := "LearntReasons$Reader", name := "full", desc := "(I)LLearntReasons$Fault;" } : Jvm.MethodName)) ∈ lw_tbl := lw_at lw_m5 112 rfl
theorem q1177 : (Jvm.Cond.instanceMethod ({ cls := "LearntReasons$Reader", name := "full", desc := "(I)LLearntReasons$Fault;" } : Jvm.MethodName)) ∈ lw_all := lw_g (lw_at lw_m5 113 rfl) rfl
theorem q1178 : (Jvm.Cond.code ({ cls := "LearntReasons$Reader", name := "full", desc := "(I)LLearntReasons$Fault;" } : Jvm.MethodName) prog_6_method_7_code (4 : Nat) (Option.some (Jvm.ClassFile.FieldType.object "LearntReasons$Fault"))) ∈ lw_all := lw_g (lw_at lw_m5 114 rfl) rfl
theorem q1179 : (Jvm.Cond.methodLink "LearntReasons$Reader" (82 : Nat) ({ cls := "LearntReasons$Reader", name := "literal", desc := "()I" } : Jvm.MethodName)) ∈ lw_all := lw_g (lw_at lw_m5 115 rfl) rfl
theorem q1180 : (Jvm.Cond.privateMethod ({ cls := "LearntReasons$Reader", name := "literal", desc := "()I" } : Jvm.MethodName)) ∈ lw_tbl := lw_at lw_m5 116 rfl
theorem q1181 : (Jvm.Cond.instanceMethod ({ cls := "LearntReasons$Reader", name := "literal", desc := "()I" } : Jvm.MethodName)) ∈ lw_all := lw_g (lw_at lw_m5 117 rfl) rfl
theorem q1182 : (Jvm.Cond.code ({ cls := "LearntReasons$Reader", name := "literal", desc := "()I" } : Jvm.MethodName) prog_6_method_6_code (3 : Nat) (Option.some Jvm.ClassFile.FieldType.int)) ∈ lw_all := lw_g (lw_at lw_m5 118 rfl) rfl
theorem q1183 : (Jvm.Cond.methodLink "LearntReasons$Reader" (78 : Nat) ({ cls := "LearntReasons$State", name := "isVariable", desc := "(I)Z" } : Jvm.MethodName)) ∈ lw_all := lw_g (lw_at lw_m5 119 rfl) rfl
theorem q1184 : (Jvm.Cond.methodLinkNest "LearntReasons$Reader" (85 : Nat) ({ cls := "LearntReasons$State", name := "isThere", desc := "([III)Z" } : Jvm.MethodName) "LearntReasons") ∈ lw_tbl := lw_at lw_m5 120 rfl
theorem q1185 : (Jvm.Cond.methodLink "LearntReasons$Reader" (110 : Nat) ({ cls := "java/lang/System", name := "arraycopy", desc := "(Ljava/lang/Object;ILjava/lang/Object;II)V" } : Jvm.MethodName)) ∈ lw_all := lw_g (lw_at lw_m5 121 rfl) rfl
theorem q1186 : (Jvm.Cond.privateMethod ({ cls := "LearntReasons$Reader", name := "lambda$new$2", desc := "()V" } : Jvm.MethodName)) ∈ lw_tbl := lw_at lw_m5 122 rfl
theorem q1187 : (Jvm.Cond.instanceMethod ({ cls := "LearntReasons$Reader", name := "lambda$new$2", desc := "()V" } : Jvm.MethodName)) ∈ lw_all := lw_g (lw_at lw_m5 123 rfl) rfl
theorem q1188 : (Jvm.Cond.code ({ cls := "LearntReasons$Reader", name := "lambda$new$2", desc := "()V" } : Jvm.MethodName) prog_6_method_17_code (1 : Nat) (Option.none : Option Jvm.ClassFile.FieldType)) ∈ lw_all := lw_g (lw_at lw_m5 124 rfl) rfl
theorem q1189 : (Jvm.Cond.methodLink "LearntReasons$Reader" (180 : Nat) ({ cls := "LearntReasons$Reader", name := "phases", desc := "()V" } : Jvm.MethodName)) ∈ lw_all := lw_g (lw_at lw_m5 125 rfl) rfl
theorem q1190 : (Jvm.Cond.privateMethod ({ cls := "LearntReasons$Reader", name := "phases", desc := "()V" } : Jvm.MethodName)) ∈ lw_tbl := lw_at lw_m5 126 rfl
theorem q1191 : (Jvm.Cond.instanceMethod ({ cls := "LearntReasons$Reader", name := "phases", desc := "()V" } : Jvm.MethodName)) ∈ lw_all := lw_g (lw_at lw_m5 127 rfl) rfl
theorem q1192 : (Jvm.Cond.code ({ cls := "LearntReasons$Reader", name := "phases", desc := "()V" } : Jvm.MethodName) prog_6_method_12_code (2 : Nat) (Option.none : Option Jvm.ClassFile.FieldType)) ∈ lw_all := lw_g (lw_at lw_m5 128 rfl) rfl
theorem q1193 : (Jvm.Cond.methodLinkNest "LearntReasons$Reader" (123 : Nat) ({ cls := "LearntReasons", name := "variableOf", desc := "(I)I" } : Jvm.MethodName) "LearntReasons") ∈ lw_tbl := lw_at lw_m5 129 rfl
theorem q1194 : (Jvm.Cond.fieldLink "LearntReasons$Reader" (25 : Nat) "LearntReasons$Reader" "draft" "LLearntReasons$State;") ∈ lw_all := lw_g (lw_at lw_m5 130 rfl) rfl
theorem q1196 : (Jvm.Cond.fieldLink "LearntReasons$Reader" (44 : Nat) "LearntReasons$Reader" "at" "I") ∈ lw_all := lw_g (lw_at lw_m5 132 rfl) rfl
theorem q1197 : (Jvm.Cond.fieldLink "LearntReasons$Reader" (72 : Nat) "LearntReasons$Reader" "begin" "I") ∈ lw_all := lw_g (lw_at lw_m5 133 rfl) rfl
theorem q1198 : (Jvm.Cond.fieldLink "LearntReasons$Reader" (28 : Nat) "LearntReasons$Reader" "row" "[I") ∈ lw_all := lw_g (lw_at lw_m5 134 rfl) rfl
theorem q1199 : (Jvm.Cond.fieldLink "LearntReasons$Reader" (34 : Nat) "LearntReasons$Reader" "statements" "[LLearntReasons$Statement;") ∈ lw_all := lw_g (lw_at lw_m5 135 rfl) rfl
theorem q1200 : (Jvm.Cond.fieldLink "LearntReasons$Reader" (3 : Nat) "LearntReasons$Reader" "this$0" "LLearntReasons;") ∈ lw_all := lw_g (lw_at lw_m5 136 rfl) rfl
theorem q1201 : (Jvm.Cond.laysFinal "LearntReasons$Reader" "LearntReasons$Reader" "draft" "LLearntReasons$State;") ∈ lw_all := lw_g (lw_at lw_m5 137 rfl) rfl
theorem q1202 : (Jvm.Cond.soleField "LearntReasons$Reader" "draft") ∈ lw_all := lw_g (lw_at lw_m5 138 rfl) rfl
theorem q1203 : (Jvm.Cond.lays "LearntReasons$Reader" "LearntReasons$Reader" "at" "I") ∈ lw_all := lw_g (lw_at lw_m5 139 rfl) rfl
theorem q1204 : (Jvm.Cond.soleField "LearntReasons$Reader" "at") ∈ lw_all := lw_g (lw_at lw_m5 140 rfl) rfl
theorem q1205 : (Jvm.Cond.lays "LearntReasons$Reader" "LearntReasons$Reader" "begin" "I") ∈ lw_all := lw_g (lw_at lw_m5 141 rfl) rfl
theorem q1206 : (Jvm.Cond.soleField "LearntReasons$Reader" "begin") ∈ lw_all := lw_g (lw_at lw_m5 142 rfl) rfl
theorem q1207 : (Jvm.Cond.laysFinal "LearntReasons$Reader" "LearntReasons$Reader" "row" "[I") ∈ lw_all := lw_g (lw_at lw_m5 143 rfl) rfl
theorem q1208 : (Jvm.Cond.soleField "LearntReasons$Reader" "row") ∈ lw_all := lw_g (lw_at lw_m5 144 rfl) rfl
theorem q1209 : (Jvm.Cond.laysFinal "LearntReasons$Reader" "LearntReasons$Reader" "statements" "[LLearntReasons$Statement;") ∈ lw_all := lw_g (lw_at lw_m5 145 rfl) rfl
theorem q1210 : (Jvm.Cond.soleField "LearntReasons$Reader" "statements") ∈ lw_all := lw_g (lw_at lw_m5 146 rfl) rfl
theorem q1211 : (Jvm.Cond.laysFinal "LearntReasons$Reader" "LearntReasons$Reader" "this$0" "LLearntReasons;") ∈ lw_all := lw_g (lw_at lw_m5 147 rfl) rfl
theorem q1212 : (Jvm.Cond.soleField "LearntReasons$Reader" "this$0") ∈ lw_all := lw_g (lw_at lw_m5 148 rfl) rfl
theorem q1213 : (Jvm.Cond.superclass "LearntReasons$Reader" "java/lang/Object") ∈ lw_all := lw_g (lw_at lw_m5 149 rfl) rfl
theorem q1215 : (Jvm.Cond.instanceMethod ({ cls := "LearntReasons$Reader", name := "lines", desc := "()Ljava/util/List;" } : Jvm.MethodName)) ∈ lw_all := lw_g (lw_at lw_m5 151 rfl) rfl
theorem q1216 : (Jvm.Cond.selects "LearntReasons$Reader" ({ cls := "LearntReasons$Reader", name := "lines", desc := "()Ljava/util/List;" } : Jvm.MethodName) ({ cls := "LearntReasons$Reader", name := "lines", desc := "()Ljava/util/List;" } : Jvm.MethodName)) ∈ lw_all := lw_g (lw_at lw_m5 152 rfl) rfl
theorem q1217 : (Jvm.Cond.code ({ cls := "LearntReasons$Reader", name := "lines", desc := "()Ljava/util/List;" } : Jvm.MethodName) prog_6_method_16_code (3 : Nat) (Option.some (Jvm.ClassFile.FieldType.object "java/util/List"))) ∈ lw_all := lw_g (lw_at lw_m5 153 rfl) rfl
theorem q1218 : (Jvm.Cond.classLink "LearntReasons$Reader" (170 : Nat) "java/util/ArrayList") ∈ lw_all := lw_g (lw_at lw_m5 154 rfl) rfl
theorem q1219 : (Jvm.Cond.methodLink "LearntReasons$Reader" (172 : Nat) ({ cls := "java/util/ArrayList", name := "<init>", desc := "(I)V" } : Jvm.MethodName)) ∈ lw_all := lw_g (lw_at lw_m5 155 rfl) rfl
theorem q1220 : (Jvm.Cond.methodLink "LearntReasons$Reader" (152 : Nat) ({ cls := "java/util/Arrays", name := "copyOf", desc := "([II)[I" } : Jvm.MethodName)) ∈ lw_all := lw_g (lw_at lw_m5 156 rfl) rfl
theorem q1221 : (Jvm.Cond.interfaceEntry "LearntReasons$Reader" (175 : Nat)) ∈ lw_tbl := lw_at lw_m5 157 rfl
theorem q1222 : (Jvm.Cond.methodLink "LearntReasons$Reader" (175 : Nat) ({ cls := "java/util/List", name := "add", desc := "(Ljava/lang/Object;)Z" } : Jvm.MethodName)) ∈ lw_all := lw_g (lw_at lw_m5 158 rfl) rfl
theorem q1269 : (Jvm.Cond.instanceMethod ({ cls := "LearntReasons$Reader", name := "text", desc := "()I" } : Jvm.MethodName)) ∈ lw_all := lw_g (lw_at lw_m5 205 rfl) rfl
theorem q1270 : (Jvm.Cond.selects "LearntReasons$Reader" ({ cls := "LearntReasons$Reader", name := "text", desc := "()I" } : Jvm.MethodName) ({ cls := "LearntReasons$Reader", name := "text", desc := "()I" } : Jvm.MethodName)) ∈ lw_all := lw_g (lw_at lw_m5 206 rfl) rfl
theorem q1271 : (Jvm.Cond.code ({ cls := "LearntReasons$Reader", name := "text", desc := "()I" } : Jvm.MethodName) prog_6_method_15_code (2 : Nat) (Option.some Jvm.ClassFile.FieldType.int)) ∈ lw_all := lw_g (lw_at lw_m5 207 rfl) rfl
theorem q1272 : (Jvm.Cond.methodLink "LearntReasons$Reader" (162 : Nat) ({ cls := "LearntReasons$Reader", name := "tellsClause", desc := "()V" } : Jvm.MethodName)) ∈ lw_all := lw_g (lw_at lw_m5 208 rfl) rfl
theorem q1273 : (Jvm.Cond.privateMethod ({ cls := "LearntReasons$Reader", name := "tellsClause", desc := "()V" } : Jvm.MethodName)) ∈ lw_tbl := lw_at lw_m5 209 rfl
theorem q1274 : (Jvm.Cond.instanceMethod ({ cls := "LearntReasons$Reader", name := "tellsClause", desc := "()V" } : Jvm.MethodName)) ∈ lw_all := lw_g (lw_at lw_m5 210 rfl) rfl
theorem q1275 : (Jvm.Cond.code ({ cls := "LearntReasons$Reader", name := "tellsClause", desc := "()V" } : Jvm.MethodName) prog_6_method_14_code (2 : Nat) (Option.none : Option Jvm.ClassFile.FieldType)) ∈ lw_all := lw_g (lw_at lw_m5 211 rfl) rfl
theorem q1276 : (Jvm.Cond.methodLink "LearntReasons$Reader" (149 : Nat) ({ cls := "LearntReasons$State", name := "hasRoom", desc := "()Z" } : Jvm.MethodName)) ∈ lw_all := lw_g (lw_at lw_m5 212 rfl) rfl
theorem q1277 : (Jvm.Cond.methodLink "LearntReasons$Reader" (158 : Nat) ({ cls := "LearntReasons$State", name := "tells", desc := "([I)I" } : Jvm.MethodName)) ∈ lw_all := lw_g (lw_at lw_m5 213 rfl) rfl
theorem q1278 : (Jvm.Cond.methodLink "LearntReasons$Reader" (165 : Nat) ({ cls := "LearntReasons$Reader", name := "word", desc := "()I" } : Jvm.MethodName)) ∈ lw_all := lw_g (lw_at lw_m5 214 rfl) rfl
theorem q1279 : (Jvm.Cond.privateMethod ({ cls := "LearntReasons$Reader", name := "word", desc := "()I" } : Jvm.MethodName)) ∈ lw_tbl := lw_at lw_m5 215 rfl
theorem q1280 : (Jvm.Cond.instanceMethod ({ cls := "LearntReasons$Reader", name := "word", desc := "()I" } : Jvm.MethodName)) ∈ lw_all := lw_g (lw_at lw_m5 216 rfl) rfl
theorem q1281 : (Jvm.Cond.code ({ cls := "LearntReasons$Reader", name := "word", desc := "()I" } : Jvm.MethodName) prog_6_method_13_code (4 : Nat) (Option.some Jvm.ClassFile.FieldType.int)) ∈ lw_all := lw_g (lw_at lw_m5 217 rfl) rfl
theorem q1282 : (Jvm.Cond.classLink "LearntReasons$Reader" (126 : Nat) "java/lang/StringBuilder") ∈ lw_all := lw_g (lw_at lw_m5 218 rfl) rfl
theorem q1284 : (Jvm.Cond.methodLink "LearntReasons$Reader" (128 : Nat) ({ cls := "java/lang/StringBuilder", name := "<init>", desc := "()V" } : Jvm.MethodName)) ∈ lw_all := lw_g (lw_at lw_m5 220 rfl) rfl
theorem q1313 : (Jvm.Cond.methodLink "LearntReasons$Reader" (129 : Nat) ({ cls := "java/lang/StringBuilder", name := "append", desc := "(C)Ljava/lang/StringBuilder;" } : Jvm.MethodName)) ∈ lw_all := lw_g (lw_at lw_m6 9 rfl) rfl
theorem q1389 : (Jvm.Cond.methodLink "LearntReasons$Reader" (133 : Nat) ({ cls := "java/lang/StringBuilder", name := "toString", desc := "()Ljava/lang/String;" } : Jvm.MethodName)) ∈ lw_all := lw_g (lw_at lw_m6 85 rfl) rfl
theorem q1450 : (Jvm.Cond.stringRef "LearntReasons$Reader" (137 : Nat) "grow") ∈ lw_tbl := lw_at lw_m6 146 rfl
theorem q1451 : (Jvm.Cond.methodLink "LearntReasons$Reader" (139 : Nat) ({ cls := "java/lang/String", name := "equals", desc := "(Ljava/lang/Object;)Z" } : Jvm.MethodName)) ∈ lw_all := lw_g (lw_at lw_m6 147 rfl) rfl
theorem q1459 : (Jvm.Cond.stringRef "LearntReasons$Reader" (145 : Nat) "assume") ∈ lw_tbl := lw_at lw_m6 155 rfl
theorem q1460 : (Jvm.Cond.stringRef "LearntReasons$Reader" (147 : Nat) "phase") ∈ lw_tbl := lw_at lw_m6 156 rfl
theorem q1461 : (Jvm.Cond.interfaceEntry "LearntReasons$Reader" (168 : Nat)) ∈ lw_tbl := lw_at lw_m6 157 rfl
theorem q1462 : (Jvm.Cond.methodLink "LearntReasons$Reader" (168 : Nat) ({ cls := "LearntReasons$Statement", name := "told", desc := "()V" } : Jvm.MethodName)) ∈ lw_all := lw_g (lw_at lw_m6 158 rfl) rfl
theorem q1941 : (Jvm.Cond.castable "LearntReasons$Reader" "java/lang/Object") ∈ lw_tbl := lw_at lw_m8 157 rfl
theorem in_X4 : ∀ w ∈ wsX40, w ∈ lw_all := lw_in wsX40 [1201, 1203, 1205, 1207, 1209, 1211] (by decide +kernel) (by decide +kernel)

/-! LearntReasons$Clause -/
set_option maxRecDepth 100000
def RX5 : String := "LearntReasons$Clause"
def TX5 : u_T := fun k => match k with
  | 0 => ("LearntReasons$Clause", "literals", "[I", true)
  | 1 => ("LearntReasons$Clause", "isLearnt", "Z", true)
  | 2 => ("LearntReasons$Clause", "number", "I", false)
  | 3 => ("LearntReasons$Clause", "isGone", "Z", false)
  | 4 => ("LearntReasons$Clause", "one", "I", false)
  | _ => ("LearntReasons$Clause", "other", "I", false)
def tyX5 : Nat → FieldType := fun k => match k with
  | 0 => .array .int
  | 1 => .boolean
  | 2 => .int
  | 3 => .boolean
  | 4 => .int
  | _ => .int
abbrev wsX50 : List Cond := u_ws RX5 TX5 6
theorem nmX5 : ∀ a, a < 6 → ∀ b, b < 6 → a ≠ b → (TX5 a).2.1 ≠ (TX5 b).2.1 := by decide +kernel
theorem tyX5_ok : ∀ k, k < 6 → parseFieldDescriptor (TX5 k).2.2.1 = some (tyX5 k) := by decide +kernel
abbrev cX5_init : ByteArray := prog_2_method_1_code
def yX5_init : MethodName := ⟨RX5, "<init>", "([I)V"⟩
def dkwX5_init_0 : List UInt8 := [42, 3, 43, 183, 0, 3, 177]
abbrev dktX5_init_0 : List UInt8 := dkwX5_init_0 ++ []
theorem dksX5_init_0 : cX5_init.data.toList.drop 0 = dktX5_init_0 := by decide +kernel
theorem dX5_init_0 : decode cX5_init 0 = .ok (.aload_n 0, 1) := dk_42 (dk_at dksX5_init_0 0 rfl rfl)
theorem dX5_init_1 : decode cX5_init 1 = .ok (.iconst 0, 1) := dk_3 (dk_at dksX5_init_0 1 rfl rfl)
theorem dX5_init_2 : decode cX5_init 2 = .ok (.aload_n 1, 1) := dk_43 (dk_at dksX5_init_0 2 rfl rfl)
theorem dX5_init_3 : decode cX5_init 3 = .ok (.invokespecial 3, 3) := dk_183 0 3 (dk_at dksX5_init_0 3 rfl rfl)
theorem dX5_init_6 : decode cX5_init 6 = .ok (.return_, 1) := dk_177 (dk_at dksX5_init_0 6 rfl rfl)
abbrev cX5_init_2 : ByteArray := prog_2_method_2_code
def yX5_init_2 : MethodName := ⟨RX5, "<init>", "(Z[I)V"⟩
def dkwX5_init_2_1 : List UInt8 := [181, 0, 28, 177]
abbrev dktX5_init_2_1 : List UInt8 := dkwX5_init_2_1 ++ []
def dkwX5_init_2_0 : List UInt8 := [42, 183, 0, 9, 42, 2, 181, 0, 14, 42, 27, 181, 0, 18, 42, 44, 182, 0, 22, 192, 0, 23]
abbrev dktX5_init_2_0 : List UInt8 := dkwX5_init_2_0 ++ dktX5_init_2_1
theorem dksX5_init_2_0 : cX5_init_2.data.toList.drop 0 = dktX5_init_2_0 := by decide +kernel
theorem dksX5_init_2_1 : cX5_init_2.data.toList.drop 22 = dktX5_init_2_1 := dk_seg dksX5_init_2_0 22 rfl rfl
theorem dX5_init_2_0 : decode cX5_init_2 0 = .ok (.aload_n 0, 1) := dk_42 (dk_at dksX5_init_2_0 0 rfl rfl)
theorem dX5_init_2_1 : decode cX5_init_2 1 = .ok (.invokespecial 9, 3) := dk_183 0 9 (dk_at dksX5_init_2_0 1 rfl rfl)
theorem dX5_init_2_4 : decode cX5_init_2 4 = .ok (.aload_n 0, 1) := dk_42 (dk_at dksX5_init_2_0 4 rfl rfl)
theorem dX5_init_2_5 : decode cX5_init_2 5 = .ok (.iconst (-1), 1) := dk_2 (dk_at dksX5_init_2_0 5 rfl rfl)
theorem dX5_init_2_6 : decode cX5_init_2 6 = .ok (.putfield 14, 3) := dk_181 0 14 (dk_at dksX5_init_2_0 6 rfl rfl)
theorem dX5_init_2_9 : decode cX5_init_2 9 = .ok (.aload_n 0, 1) := dk_42 (dk_at dksX5_init_2_0 9 rfl rfl)
theorem dX5_init_2_10 : decode cX5_init_2 10 = .ok (.iload_n 1, 1) := dk_27 (dk_at dksX5_init_2_0 10 rfl rfl)
theorem dX5_init_2_11 : decode cX5_init_2 11 = .ok (.putfield 18, 3) := dk_181 0 18 (dk_at dksX5_init_2_0 11 rfl rfl)
theorem dX5_init_2_14 : decode cX5_init_2 14 = .ok (.aload_n 0, 1) := dk_42 (dk_at dksX5_init_2_0 14 rfl rfl)
theorem dX5_init_2_15 : decode cX5_init_2 15 = .ok (.aload_n 2, 1) := dk_44 (dk_at dksX5_init_2_0 15 rfl rfl)
theorem dX5_init_2_16 : decode cX5_init_2 16 = .ok (.invokevirtual 22, 3) := dk_182 0 22 (dk_at dksX5_init_2_0 16 rfl rfl)
theorem dX5_init_2_19 : decode cX5_init_2 19 = .ok (.checkcast 23, 3) := dk_192 0 23 (dk_at dksX5_init_2_0 19 rfl rfl)
theorem dX5_init_2_22 : decode cX5_init_2 22 = .ok (.putfield 28, 3) := dk_181 0 28 (dk_at dksX5_init_2_1 0 rfl rfl)
theorem dX5_init_2_25 : decode cX5_init_2 25 = .ok (.return_, 1) := dk_177 (dk_at dksX5_init_2_1 3 rfl rfl)
abbrev cX5_size : ByteArray := prog_2_method_4_code
def yX5_size : MethodName := ⟨RX5, "size", "()I"⟩
def dkwX5_size_0 : List UInt8 := [42, 180, 0, 28, 190, 172]
abbrev dktX5_size_0 : List UInt8 := dkwX5_size_0 ++ []
theorem dksX5_size_0 : cX5_size.data.toList.drop 0 = dktX5_size_0 := by decide +kernel
theorem dX5_size_0 : decode cX5_size 0 = .ok (.aload_n 0, 1) := dk_42 (dk_at dksX5_size_0 0 rfl rfl)
theorem dX5_size_1 : decode cX5_size 1 = .ok (.getfield 28, 3) := dk_180 0 28 (dk_at dksX5_size_0 1 rfl rfl)
theorem dX5_size_4 : decode cX5_size 4 = .ok (.arraylength, 1) := dk_190 (dk_at dksX5_size_0 4 rfl rfl)
theorem dX5_size_5 : decode cX5_size 5 = .ok (.ireturn, 1) := dk_172 (dk_at dksX5_size_0 5 rfl rfl)
abbrev cX5_like : ByteArray := prog_2_method_3_code
def yX5_like : MethodName := ⟨RX5, "like", "()LLearntReasons$Clause;"⟩
def dkwX5_like_1 : List UInt8 := [43, 42, 180, 0, 31, 181, 0, 31, 43, 176]
abbrev dktX5_like_1 : List UInt8 := dkwX5_like_1 ++ []
def dkwX5_like_0 : List UInt8 := [187, 0, 4, 89, 42, 180, 0, 18, 42, 180, 0, 28, 183, 0, 3, 76, 43, 42, 180, 0, 14, 181, 0, 14]
abbrev dktX5_like_0 : List UInt8 := dkwX5_like_0 ++ dktX5_like_1
theorem dksX5_like_0 : cX5_like.data.toList.drop 0 = dktX5_like_0 := by decide +kernel
theorem dksX5_like_1 : cX5_like.data.toList.drop 24 = dktX5_like_1 := dk_seg dksX5_like_0 24 rfl rfl
theorem dX5_like_0 : decode cX5_like 0 = .ok (.new 4, 3) := dk_187 0 4 (dk_at dksX5_like_0 0 rfl rfl)
theorem dX5_like_3 : decode cX5_like 3 = .ok (.dup, 1) := dk_89 (dk_at dksX5_like_0 3 rfl rfl)
theorem dX5_like_4 : decode cX5_like 4 = .ok (.aload_n 0, 1) := dk_42 (dk_at dksX5_like_0 4 rfl rfl)
theorem dX5_like_5 : decode cX5_like 5 = .ok (.getfield 18, 3) := dk_180 0 18 (dk_at dksX5_like_0 5 rfl rfl)
theorem dX5_like_8 : decode cX5_like 8 = .ok (.aload_n 0, 1) := dk_42 (dk_at dksX5_like_0 8 rfl rfl)
theorem dX5_like_9 : decode cX5_like 9 = .ok (.getfield 28, 3) := dk_180 0 28 (dk_at dksX5_like_0 9 rfl rfl)
theorem dX5_like_12 : decode cX5_like 12 = .ok (.invokespecial 3, 3) := dk_183 0 3 (dk_at dksX5_like_0 12 rfl rfl)
theorem dX5_like_15 : decode cX5_like 15 = .ok (.astore_n 1, 1) := dk_76 (dk_at dksX5_like_0 15 rfl rfl)
theorem dX5_like_16 : decode cX5_like 16 = .ok (.aload_n 1, 1) := dk_43 (dk_at dksX5_like_0 16 rfl rfl)
theorem dX5_like_17 : decode cX5_like 17 = .ok (.aload_n 0, 1) := dk_42 (dk_at dksX5_like_0 17 rfl rfl)
theorem dX5_like_18 : decode cX5_like 18 = .ok (.getfield 14, 3) := dk_180 0 14 (dk_at dksX5_like_0 18 rfl rfl)
theorem dX5_like_21 : decode cX5_like 21 = .ok (.putfield 14, 3) := dk_181 0 14 (dk_at dksX5_like_0 21 rfl rfl)
theorem dX5_like_24 : decode cX5_like 24 = .ok (.aload_n 1, 1) := dk_43 (dk_at dksX5_like_1 0 rfl rfl)
theorem dX5_like_25 : decode cX5_like 25 = .ok (.aload_n 0, 1) := dk_42 (dk_at dksX5_like_1 1 rfl rfl)
theorem dX5_like_26 : decode cX5_like 26 = .ok (.getfield 31, 3) := dk_180 0 31 (dk_at dksX5_like_1 2 rfl rfl)
theorem dX5_like_29 : decode cX5_like 29 = .ok (.putfield 31, 3) := dk_181 0 31 (dk_at dksX5_like_1 5 rfl rfl)
theorem dX5_like_32 : decode cX5_like 32 = .ok (.aload_n 1, 1) := dk_43 (dk_at dksX5_like_1 8 rfl rfl)
theorem dX5_like_33 : decode cX5_like 33 = .ok (.areturn, 1) := dk_176 (dk_at dksX5_like_1 9 rfl rfl)
abbrev cX5_has : ByteArray := prog_2_method_5_code
def yX5_has : MethodName := ⟨RX5, "has", "(I)Z"⟩
def dkwX5_has_1 : List UInt8 := [21, 5, 184, 0, 34, 27, 160, 0, 5, 4, 172, 132, 4, 1, 167, 255, 230, 3, 172]
abbrev dktX5_has_1 : List UInt8 := dkwX5_has_1 ++ []
def dkwX5_has_0 : List UInt8 := [42, 180, 0, 28, 77, 44, 190, 62, 3, 54, 4, 21, 4, 29, 162, 0, 26, 44, 21, 4, 46, 54, 5]
abbrev dktX5_has_0 : List UInt8 := dkwX5_has_0 ++ dktX5_has_1
theorem dksX5_has_0 : cX5_has.data.toList.drop 0 = dktX5_has_0 := by decide +kernel
theorem dksX5_has_1 : cX5_has.data.toList.drop 23 = dktX5_has_1 := dk_seg dksX5_has_0 23 rfl rfl
theorem dX5_has_0 : decode cX5_has 0 = .ok (.aload_n 0, 1) := dk_42 (dk_at dksX5_has_0 0 rfl rfl)
theorem dX5_has_1 : decode cX5_has 1 = .ok (.getfield 28, 3) := dk_180 0 28 (dk_at dksX5_has_0 1 rfl rfl)
theorem dX5_has_4 : decode cX5_has 4 = .ok (.astore_n 2, 1) := dk_77 (dk_at dksX5_has_0 4 rfl rfl)
theorem dX5_has_5 : decode cX5_has 5 = .ok (.aload_n 2, 1) := dk_44 (dk_at dksX5_has_0 5 rfl rfl)
theorem dX5_has_6 : decode cX5_has 6 = .ok (.arraylength, 1) := dk_190 (dk_at dksX5_has_0 6 rfl rfl)
theorem dX5_has_7 : decode cX5_has 7 = .ok (.istore_n 3, 1) := dk_62 (dk_at dksX5_has_0 7 rfl rfl)
theorem dX5_has_8 : decode cX5_has 8 = .ok (.iconst 0, 1) := dk_3 (dk_at dksX5_has_0 8 rfl rfl)
theorem dX5_has_9 : decode cX5_has 9 = .ok (.istore 4, 2) := dk_54 4 (dk_at dksX5_has_0 9 rfl rfl)
theorem dX5_has_11 : decode cX5_has 11 = .ok (.iload 4, 2) := dk_21 4 (dk_at dksX5_has_0 11 rfl rfl)
theorem dX5_has_13 : decode cX5_has 13 = .ok (.iload_n 3, 1) := dk_29 (dk_at dksX5_has_0 13 rfl rfl)
theorem dX5_has_14 : decode cX5_has 14 = .ok (.if_icmp .ge 26, 3) := dk_162 0 26 (dk_at dksX5_has_0 14 rfl rfl)
theorem dX5_has_17 : decode cX5_has 17 = .ok (.aload_n 2, 1) := dk_44 (dk_at dksX5_has_0 17 rfl rfl)
theorem dX5_has_18 : decode cX5_has 18 = .ok (.iload 4, 2) := dk_21 4 (dk_at dksX5_has_0 18 rfl rfl)
theorem dX5_has_20 : decode cX5_has 20 = .ok (.iaload, 1) := dk_46 (dk_at dksX5_has_0 20 rfl rfl)
theorem dX5_has_21 : decode cX5_has 21 = .ok (.istore 5, 2) := dk_54 5 (dk_at dksX5_has_0 21 rfl rfl)
theorem dX5_has_23 : decode cX5_has 23 = .ok (.iload 5, 2) := dk_21 5 (dk_at dksX5_has_1 0 rfl rfl)
theorem dX5_has_25 : decode cX5_has 25 = .ok (.invokestatic 34, 3) := dk_184 0 34 (dk_at dksX5_has_1 2 rfl rfl)
theorem dX5_has_28 : decode cX5_has 28 = .ok (.iload_n 1, 1) := dk_27 (dk_at dksX5_has_1 5 rfl rfl)
theorem dX5_has_29 : decode cX5_has 29 = .ok (.if_icmp .ne 5, 3) := dk_160 0 5 (dk_at dksX5_has_1 6 rfl rfl)
theorem dX5_has_32 : decode cX5_has 32 = .ok (.iconst 1, 1) := dk_4 (dk_at dksX5_has_1 9 rfl rfl)
theorem dX5_has_33 : decode cX5_has 33 = .ok (.ireturn, 1) := dk_172 (dk_at dksX5_has_1 10 rfl rfl)
theorem dX5_has_34 : decode cX5_has 34 = .ok (.iinc 4 1, 3) := dk_132 4 1 (dk_at dksX5_has_1 11 rfl rfl)
theorem dX5_has_37 : decode cX5_has 37 = .ok (.goto (-26), 3) := dk_167 255 230 (dk_at dksX5_has_1 14 rfl rfl)
theorem dX5_has_40 : decode cX5_has 40 = .ok (.iconst 0, 1) := dk_3 (dk_at dksX5_has_1 17 rfl rfl)
theorem dX5_has_41 : decode cX5_has 41 = .ok (.ireturn, 1) := dk_172 (dk_at dksX5_has_1 18 rfl rfl)
theorem q117 : (Jvm.Cond.initialized "LearntReasons$Clause") ∈ lw_all := lw_g (lw_at lw_m1 13 rfl) rfl
theorem q370 : (Jvm.Cond.instantiable "LearntReasons$Clause" (6 : Nat)) ∈ lw_all := lw_g (lw_at lw_m2 26 rfl) rfl
theorem q372 : (Jvm.Cond.instanceMethod ({ cls := "LearntReasons$Clause", name := "<init>", desc := "([I)V" } : Jvm.MethodName)) ∈ lw_all := lw_g (lw_at lw_m2 28 rfl) rfl
theorem q373 : (Jvm.Cond.code ({ cls := "LearntReasons$Clause", name := "<init>", desc := "([I)V" } : Jvm.MethodName) prog_2_method_1_code (2 : Nat) (Option.none : Option Jvm.ClassFile.FieldType)) ∈ lw_all := lw_g (lw_at lw_m2 29 rfl) rfl
theorem q374 : (Jvm.Cond.methodLink "LearntReasons$Clause" (3 : Nat) ({ cls := "LearntReasons$Clause", name := "<init>", desc := "(Z[I)V" } : Jvm.MethodName)) ∈ lw_all := lw_g (lw_at lw_m2 30 rfl) rfl
theorem q375 : (Jvm.Cond.instanceMethod ({ cls := "LearntReasons$Clause", name := "<init>", desc := "(Z[I)V" } : Jvm.MethodName)) ∈ lw_all := lw_g (lw_at lw_m2 31 rfl) rfl
theorem q376 : (Jvm.Cond.code ({ cls := "LearntReasons$Clause", name := "<init>", desc := "(Z[I)V" } : Jvm.MethodName) prog_2_method_2_code (3 : Nat) (Option.none : Option Jvm.ClassFile.FieldType)) ∈ lw_all := lw_g (lw_at lw_m2 32 rfl) rfl
theorem q377 : (Jvm.Cond.methodLink "LearntReasons$Clause" (9 : Nat) ({ cls := "java/lang/Object", name := "<init>", desc := "()V" } : Jvm.MethodName)) ∈ lw_all := lw_g (lw_at lw_m2 33 rfl) rfl
theorem q378 : (Jvm.Cond.methodLink "LearntReasons$Clause" (22 : Nat) ({ cls := "[I", name := "clone", desc := "()Ljava/lang/Object;" } : Jvm.MethodName)) ∈ lw_all := lw_g (lw_at lw_m2 34 rfl) rfl
theorem q379 : (Jvm.Cond.classLink "LearntReasons$Clause" (23 : Nat) "[I") ∈ lw_all := lw_g (lw_at lw_m2 35 rfl) rfl
theorem q381 : (Jvm.Cond.fieldLink "LearntReasons$Clause" (28 : Nat) "LearntReasons$Clause" "literals" "[I") ∈ lw_all := lw_g (lw_at lw_m2 37 rfl) rfl
theorem q383 : (Jvm.Cond.fieldLink "LearntReasons$Clause" (18 : Nat) "LearntReasons$Clause" "isLearnt" "Z") ∈ lw_all := lw_g (lw_at lw_m2 39 rfl) rfl
theorem q386 : (Jvm.Cond.fieldLink "LearntReasons$Clause" (14 : Nat) "LearntReasons$Clause" "number" "I") ∈ lw_all := lw_g (lw_at lw_m2 42 rfl) rfl
theorem q390 : (Jvm.Cond.fieldLink "LearntReasons$Clause" (31 : Nat) "LearntReasons$Clause" "isGone" "Z") ∈ lw_all := lw_g (lw_at lw_m2 46 rfl) rfl
theorem q395 : (Jvm.Cond.laysFinal "LearntReasons$Clause" "LearntReasons$Clause" "literals" "[I") ∈ lw_all := lw_g (lw_at lw_m2 51 rfl) rfl
theorem q396 : (Jvm.Cond.soleField "LearntReasons$Clause" "literals") ∈ lw_all := lw_g (lw_at lw_m2 52 rfl) rfl
theorem q397 : (Jvm.Cond.laysFinal "LearntReasons$Clause" "LearntReasons$Clause" "isLearnt" "Z") ∈ lw_all := lw_g (lw_at lw_m2 53 rfl) rfl
theorem q398 : (Jvm.Cond.soleField "LearntReasons$Clause" "isLearnt") ∈ lw_all := lw_g (lw_at lw_m2 54 rfl) rfl
theorem q399 : (Jvm.Cond.lays "LearntReasons$Clause" "LearntReasons$Clause" "number" "I") ∈ lw_all := lw_g (lw_at lw_m2 55 rfl) rfl
theorem q400 : (Jvm.Cond.soleField "LearntReasons$Clause" "number") ∈ lw_all := lw_g (lw_at lw_m2 56 rfl) rfl
theorem q401 : (Jvm.Cond.lays "LearntReasons$Clause" "LearntReasons$Clause" "isGone" "Z") ∈ lw_all := lw_g (lw_at lw_m2 57 rfl) rfl
theorem q402 : (Jvm.Cond.soleField "LearntReasons$Clause" "isGone") ∈ lw_all := lw_g (lw_at lw_m2 58 rfl) rfl
theorem q403 : (Jvm.Cond.lays "LearntReasons$Clause" "LearntReasons$Clause" "one" "I") ∈ lw_all := lw_g (lw_at lw_m2 59 rfl) rfl
theorem q404 : (Jvm.Cond.soleField "LearntReasons$Clause" "one") ∈ lw_all := lw_g (lw_at lw_m2 60 rfl) rfl
theorem q405 : (Jvm.Cond.lays "LearntReasons$Clause" "LearntReasons$Clause" "other" "I") ∈ lw_all := lw_g (lw_at lw_m2 61 rfl) rfl
theorem q406 : (Jvm.Cond.soleField "LearntReasons$Clause" "other") ∈ lw_all := lw_g (lw_at lw_m2 62 rfl) rfl
theorem q407 : (Jvm.Cond.superclass "LearntReasons$Clause" "java/lang/Object") ∈ lw_all := lw_g (lw_at lw_m2 63 rfl) rfl
theorem q452 : (Jvm.Cond.selects "LearntReasons$Clause" ({ cls := "java/lang/Object", name := "getClass", desc := "()Ljava/lang/Class;" } : Jvm.MethodName) ({ cls := "java/lang/Object", name := "getClass", desc := "()Ljava/lang/Class;" } : Jvm.MethodName)) ∈ lw_all := lw_g (lw_at lw_m2 108 rfl) rfl
theorem q619 : (Jvm.Cond.instanceMethod ({ cls := "LearntReasons$Clause", name := "size", desc := "()I" } : Jvm.MethodName)) ∈ lw_all := lw_g (lw_at lw_m3 35 rfl) rfl
theorem q620 : (Jvm.Cond.selects "LearntReasons$Clause" ({ cls := "LearntReasons$Clause", name := "size", desc := "()I" } : Jvm.MethodName) ({ cls := "LearntReasons$Clause", name := "size", desc := "()I" } : Jvm.MethodName)) ∈ lw_all := lw_g (lw_at lw_m3 36 rfl) rfl
theorem q621 : (Jvm.Cond.code ({ cls := "LearntReasons$Clause", name := "size", desc := "()I" } : Jvm.MethodName) prog_2_method_4_code (1 : Nat) (Option.some Jvm.ClassFile.FieldType.int)) ∈ lw_all := lw_g (lw_at lw_m3 37 rfl) rfl
theorem q633 : (Jvm.Cond.instanceMethod ({ cls := "LearntReasons$Clause", name := "like", desc := "()LLearntReasons$Clause;" } : Jvm.MethodName)) ∈ lw_all := lw_g (lw_at lw_m3 49 rfl) rfl
theorem q634 : (Jvm.Cond.selects "LearntReasons$Clause" ({ cls := "LearntReasons$Clause", name := "like", desc := "()LLearntReasons$Clause;" } : Jvm.MethodName) ({ cls := "LearntReasons$Clause", name := "like", desc := "()LLearntReasons$Clause;" } : Jvm.MethodName)) ∈ lw_all := lw_g (lw_at lw_m3 50 rfl) rfl
theorem q635 : (Jvm.Cond.code ({ cls := "LearntReasons$Clause", name := "like", desc := "()LLearntReasons$Clause;" } : Jvm.MethodName) prog_2_method_3_code (2 : Nat) (Option.some (Jvm.ClassFile.FieldType.object "LearntReasons$Clause"))) ∈ lw_all := lw_g (lw_at lw_m3 51 rfl) rfl
theorem q636 : (Jvm.Cond.classLink "LearntReasons$Clause" (4 : Nat) "LearntReasons$Clause") ∈ lw_all := lw_g (lw_at lw_m3 52 rfl) rfl
theorem q1030 : (Jvm.Cond.instanceMethod ({ cls := "LearntReasons$Clause", name := "has", desc := "(I)Z" } : Jvm.MethodName)) ∈ lw_all := lw_g (lw_at lw_m4 206 rfl) rfl
theorem q1031 : (Jvm.Cond.selects "LearntReasons$Clause" ({ cls := "LearntReasons$Clause", name := "has", desc := "(I)Z" } : Jvm.MethodName) ({ cls := "LearntReasons$Clause", name := "has", desc := "(I)Z" } : Jvm.MethodName)) ∈ lw_all := lw_g (lw_at lw_m4 207 rfl) rfl
theorem q1032 : (Jvm.Cond.code ({ cls := "LearntReasons$Clause", name := "has", desc := "(I)Z" } : Jvm.MethodName) prog_2_method_5_code (6 : Nat) (Option.some Jvm.ClassFile.FieldType.boolean)) ∈ lw_all := lw_g (lw_at lw_m4 208 rfl) rfl
theorem q1033 : (Jvm.Cond.methodLinkNest "LearntReasons$Clause" (34 : Nat) ({ cls := "LearntReasons", name := "variableOf", desc := "(I)I" } : Jvm.MethodName) "LearntReasons") ∈ lw_tbl := lw_at lw_m4 209 rfl
theorem q1935 : (Jvm.Cond.castable "LearntReasons$Clause" "java/lang/Object") ∈ lw_tbl := lw_at lw_m8 151 rfl
theorem in_X5 : ∀ w ∈ wsX50, w ∈ lw_all := lw_in wsX50 [395, 397, 399, 401, 403, 405] (by decide +kernel) (by decide +kernel)

/-! LearntReasons$Fault -/
set_option maxRecDepth 100000
def RX6 : String := "LearntReasons$Fault"
def TX6 : u_T := fun k => match k with
  | 0 => ("java/lang/Throwable", "cause", "Ljava/lang/Throwable;", false)
  | 1 => ("java/lang/Throwable", "stackTrace", "[Ljava/lang/StackTraceElement;", false)
  | 2 => ("java/lang/Throwable", "suppressedExceptions", "Ljava/util/List;", false)
  | 3 => ("java/lang/Throwable", "detailMessage", "Ljava/lang/String;", false)
  | 4 => ("java/lang/Throwable", "backtrace", "Ljava/lang/Object;", false)
  | 5 => ("java/lang/Throwable", "depth", "I", false)
  | _ => ("LearntReasons$Fault", "told", "I", true)
def tyX6 : Nat → FieldType := fun k => match k with
  | 0 => .object "java/lang/Throwable"
  | 1 => .array (.object "java/lang/StackTraceElement")
  | 2 => .object "java/util/List"
  | 3 => .object "java/lang/String"
  | 4 => .object "java/lang/Object"
  | 5 => .int
  | _ => .int
abbrev wsX60 : List Cond := u_ws RX6 TX6 7
theorem nmX6 : ∀ a, a < 7 → ∀ b, b < 7 → a ≠ b → (TX6 a).2.1 ≠ (TX6 b).2.1 := by decide +kernel
theorem tyX6_ok : ∀ k, k < 7 → parseFieldDescriptor (TX6 k).2.2.1 = some (tyX6 k) := by decide +kernel
abbrev cX6_init : ByteArray := prog_3_method_1_code
def yX6_init : MethodName := ⟨RX6, "<init>", "(II)V"⟩
def dkwX6_init_0 : List UInt8 := [42, 1, 1, 3, 3, 183, 0, 1, 42, 27, 16, 8, 28, 104, 96, 181, 0, 7, 177]
abbrev dktX6_init_0 : List UInt8 := dkwX6_init_0 ++ []
theorem dksX6_init_0 : cX6_init.data.toList.drop 0 = dktX6_init_0 := by decide +kernel
theorem dX6_init_0 : decode cX6_init 0 = .ok (.aload_n 0, 1) := dk_42 (dk_at dksX6_init_0 0 rfl rfl)
theorem dX6_init_1 : decode cX6_init 1 = .ok (.aconst_null, 1) := dk_1 (dk_at dksX6_init_0 1 rfl rfl)
theorem dX6_init_2 : decode cX6_init 2 = .ok (.aconst_null, 1) := dk_1 (dk_at dksX6_init_0 2 rfl rfl)
theorem dX6_init_3 : decode cX6_init 3 = .ok (.iconst 0, 1) := dk_3 (dk_at dksX6_init_0 3 rfl rfl)
theorem dX6_init_4 : decode cX6_init 4 = .ok (.iconst 0, 1) := dk_3 (dk_at dksX6_init_0 4 rfl rfl)
theorem dX6_init_5 : decode cX6_init 5 = .ok (.invokespecial 1, 3) := dk_183 0 1 (dk_at dksX6_init_0 5 rfl rfl)
theorem dX6_init_8 : decode cX6_init 8 = .ok (.aload_n 0, 1) := dk_42 (dk_at dksX6_init_0 8 rfl rfl)
theorem dX6_init_9 : decode cX6_init 9 = .ok (.iload_n 1, 1) := dk_27 (dk_at dksX6_init_0 9 rfl rfl)
theorem dX6_init_10 : decode cX6_init 10 = .ok (.bipush 8, 2) := dk_16 8 (dk_at dksX6_init_0 10 rfl rfl)
theorem dX6_init_12 : decode cX6_init 12 = .ok (.iload_n 2, 1) := dk_28 (dk_at dksX6_init_0 12 rfl rfl)
theorem dX6_init_13 : decode cX6_init 13 = .ok (.imul, 1) := dk_104 (dk_at dksX6_init_0 13 rfl rfl)
theorem dX6_init_14 : decode cX6_init 14 = .ok (.iadd, 1) := dk_96 (dk_at dksX6_init_0 14 rfl rfl)
theorem dX6_init_15 : decode cX6_init 15 = .ok (.putfield 7, 3) := dk_181 0 7 (dk_at dksX6_init_0 15 rfl rfl)
theorem dX6_init_18 : decode cX6_init 18 = .ok (.return_, 1) := dk_177 (dk_at dksX6_init_0 18 rfl rfl)
theorem q122 : (Jvm.Cond.initialized "LearntReasons$Fault") ∈ lw_all := lw_g (lw_at lw_m1 18 rfl) rfl
theorem q453 : (Jvm.Cond.selects "LearntReasons$Fault" ({ cls := "java/lang/Object", name := "getClass", desc := "()Ljava/lang/Class;" } : Jvm.MethodName) ({ cls := "java/lang/Object", name := "getClass", desc := "()Ljava/lang/Class;" } : Jvm.MethodName)) ∈ lw_all := lw_g (lw_at lw_m2 109 rfl) rfl
theorem q588 : (Jvm.Cond.selects "LearntReasons$Fault" ({ cls := "java/lang/Throwable", name := "fillInStackTrace", desc := "()Ljava/lang/Throwable;" } : Jvm.MethodName) ({ cls := "java/lang/Throwable", name := "fillInStackTrace", desc := "()Ljava/lang/Throwable;" } : Jvm.MethodName)) ∈ lw_all := lw_g (lw_at lw_m3 4 rfl) rfl
theorem q1133 : (Jvm.Cond.instantiable "LearntReasons$Fault" (7 : Nat)) ∈ lw_all := lw_g (lw_at lw_m5 69 rfl) rfl
theorem q1134 : (Jvm.Cond.castable "LearntReasons$Fault" "LearntReasons$Fault") ∈ lw_tbl := lw_at lw_m5 70 rfl
theorem q1135 : (Jvm.Cond.selects "LearntReasons$Fault" ({ cls := "java/lang/Throwable", name := "fillInStackTrace", desc := "(I)Ljava/lang/Throwable;" } : Jvm.MethodName) ({ cls := "java/lang/Throwable", name := "fillInStackTrace", desc := "(I)Ljava/lang/Throwable;" } : Jvm.MethodName)) ∈ lw_all := lw_g (lw_at lw_m5 71 rfl) rfl
theorem q1136 : (Jvm.Cond.lays "LearntReasons$Fault" "java/lang/Throwable" "cause" "Ljava/lang/Throwable;") ∈ lw_all := lw_g (lw_at lw_m5 72 rfl) rfl
theorem q1137 : (Jvm.Cond.lays "LearntReasons$Fault" "java/lang/Throwable" "stackTrace" "[Ljava/lang/StackTraceElement;") ∈ lw_all := lw_g (lw_at lw_m5 73 rfl) rfl
theorem q1138 : (Jvm.Cond.lays "LearntReasons$Fault" "java/lang/Throwable" "suppressedExceptions" "Ljava/util/List;") ∈ lw_all := lw_g (lw_at lw_m5 74 rfl) rfl
theorem q1139 : (Jvm.Cond.lays "LearntReasons$Fault" "java/lang/Throwable" "detailMessage" "Ljava/lang/String;") ∈ lw_all := lw_g (lw_at lw_m5 75 rfl) rfl
theorem q1140 : (Jvm.Cond.lays "LearntReasons$Fault" "java/lang/Throwable" "backtrace" "Ljava/lang/Object;") ∈ lw_all := lw_g (lw_at lw_m5 76 rfl) rfl
theorem q1142 : (Jvm.Cond.instanceMethod ({ cls := "LearntReasons$Fault", name := "<init>", desc := "(II)V" } : Jvm.MethodName)) ∈ lw_all := lw_g (lw_at lw_m5 78 rfl) rfl
theorem q1143 : (Jvm.Cond.code ({ cls := "LearntReasons$Fault", name := "<init>", desc := "(II)V" } : Jvm.MethodName) prog_3_method_1_code (3 : Nat) (Option.none : Option Jvm.ClassFile.FieldType)) ∈ lw_all := lw_g (lw_at lw_m5 79 rfl) rfl
theorem q1144 : (Jvm.Cond.methodLink "LearntReasons$Fault" (1 : Nat) ({ cls := "java/lang/Exception", name := "<init>", desc := "(Ljava/lang/String;Ljava/lang/Throwable;ZZ)V" } : Jvm.MethodName)) ∈ lw_all := lw_g (lw_at lw_m5 80 rfl) rfl
theorem q1150 : (Jvm.Cond.fieldLink "LearntReasons$Fault" (7 : Nat) "LearntReasons$Fault" "told" "I") ∈ lw_all := lw_g (lw_at lw_m5 86 rfl) rfl
theorem q1152 : (Jvm.Cond.laysFinal "LearntReasons$Fault" "LearntReasons$Fault" "told" "I") ∈ lw_all := lw_g (lw_at lw_m5 88 rfl) rfl
theorem q1153 : (Jvm.Cond.soleField "LearntReasons$Fault" "told") ∈ lw_all := lw_g (lw_at lw_m5 89 rfl) rfl
theorem q1154 : (Jvm.Cond.lays "LearntReasons$Fault" "java/lang/Throwable" "depth" "I") ∈ lw_all := lw_g (lw_at lw_m5 90 rfl) rfl
theorem q1155 : (Jvm.Cond.superclass "LearntReasons$Fault" "java/lang/Exception") ∈ lw_all := lw_g (lw_at lw_m5 91 rfl) rfl
theorem q1944 : (Jvm.Cond.castable "LearntReasons$Fault" "java/lang/Object") ∈ lw_tbl := lw_at lw_m8 160 rfl
theorem in_X6 : ∀ w ∈ wsX60, w ∈ lw_all := lw_in wsX60 [1136, 1137, 1138, 1139, 1140, 1154, 1152] (by decide +kernel) (by decide +kernel)

/-! LearntReasons$Trail -/
set_option maxRecDepth 100000
def RX7 : String := "LearntReasons$Trail"
def TX7 : u_T := fun k => match k with
  | 0 => ("LearntReasons$Trail", "trail", "[I", true)
  | 1 => ("LearntReasons$Trail", "levels", "[I", true)
  | 2 => ("LearntReasons$Trail", "places", "[I", true)
  | 3 => ("LearntReasons$Trail", "values", "[B", true)
  | 4 => ("LearntReasons$Trail", "reasons", "[LLearntReasons$Clause;", true)
  | 5 => ("LearntReasons$Trail", "many", "I", false)
  | _ => ("LearntReasons$Trail", "level", "I", false)
def tyX7 : Nat → FieldType := fun k => match k with
  | 0 => .array .int
  | 1 => .array .int
  | 2 => .array .int
  | 3 => .array .byte
  | 4 => .array (.object "LearntReasons$Clause")
  | 5 => .int
  | _ => .int
abbrev wsX70 : List Cond := u_ws RX7 TX7 7
theorem nmX7 : ∀ a, a < 7 → ∀ b, b < 7 → a ≠ b → (TX7 a).2.1 ≠ (TX7 b).2.1 := by decide +kernel
theorem tyX7_ok : ∀ k, k < 7 → parseFieldDescriptor (TX7 k).2.2.1 = some (tyX7 k) := by decide +kernel
abbrev cX7_init : ByteArray := prog_10_method_1_code
def yX7_init : MethodName := ⟨RX7, "<init>", "()V"⟩
def dkwX7_init_1 : List UInt8 := [188, 10, 181, 0, 18, 42, 16, 31, 188, 8, 181, 0, 21, 42, 16, 31, 189, 0, 25, 181, 0, 27, 177]
abbrev dktX7_init_1 : List UInt8 := dkwX7_init_1 ++ []
def dkwX7_init_0 : List UInt8 := [42, 183, 0, 3, 42, 16, 30, 188, 10, 181, 0, 9, 42, 16, 31, 188, 10, 181, 0, 15, 42, 16, 31]
abbrev dktX7_init_0 : List UInt8 := dkwX7_init_0 ++ dktX7_init_1
theorem dksX7_init_0 : cX7_init.data.toList.drop 0 = dktX7_init_0 := by decide +kernel
theorem dksX7_init_1 : cX7_init.data.toList.drop 23 = dktX7_init_1 := dk_seg dksX7_init_0 23 rfl rfl
theorem dX7_init_0 : decode cX7_init 0 = .ok (.aload_n 0, 1) := dk_42 (dk_at dksX7_init_0 0 rfl rfl)
theorem dX7_init_1 : decode cX7_init 1 = .ok (.invokespecial 3, 3) := dk_183 0 3 (dk_at dksX7_init_0 1 rfl rfl)
theorem dX7_init_4 : decode cX7_init 4 = .ok (.aload_n 0, 1) := dk_42 (dk_at dksX7_init_0 4 rfl rfl)
theorem dX7_init_5 : decode cX7_init 5 = .ok (.bipush 30, 2) := dk_16 30 (dk_at dksX7_init_0 5 rfl rfl)
theorem dX7_init_7 : decode cX7_init 7 = .ok (.newarray .int, 2) := dk_188_10 (dk_at dksX7_init_0 7 rfl rfl)
theorem dX7_init_9 : decode cX7_init 9 = .ok (.putfield 9, 3) := dk_181 0 9 (dk_at dksX7_init_0 9 rfl rfl)
theorem dX7_init_12 : decode cX7_init 12 = .ok (.aload_n 0, 1) := dk_42 (dk_at dksX7_init_0 12 rfl rfl)
theorem dX7_init_13 : decode cX7_init 13 = .ok (.bipush 31, 2) := dk_16 31 (dk_at dksX7_init_0 13 rfl rfl)
theorem dX7_init_15 : decode cX7_init 15 = .ok (.newarray .int, 2) := dk_188_10 (dk_at dksX7_init_0 15 rfl rfl)
theorem dX7_init_17 : decode cX7_init 17 = .ok (.putfield 15, 3) := dk_181 0 15 (dk_at dksX7_init_0 17 rfl rfl)
theorem dX7_init_20 : decode cX7_init 20 = .ok (.aload_n 0, 1) := dk_42 (dk_at dksX7_init_0 20 rfl rfl)
theorem dX7_init_21 : decode cX7_init 21 = .ok (.bipush 31, 2) := dk_16 31 (dk_at dksX7_init_0 21 rfl rfl)
theorem dX7_init_23 : decode cX7_init 23 = .ok (.newarray .int, 2) := dk_188_10 (dk_at dksX7_init_1 0 rfl rfl)
theorem dX7_init_25 : decode cX7_init 25 = .ok (.putfield 18, 3) := dk_181 0 18 (dk_at dksX7_init_1 2 rfl rfl)
theorem dX7_init_28 : decode cX7_init 28 = .ok (.aload_n 0, 1) := dk_42 (dk_at dksX7_init_1 5 rfl rfl)
theorem dX7_init_29 : decode cX7_init 29 = .ok (.bipush 31, 2) := dk_16 31 (dk_at dksX7_init_1 6 rfl rfl)
theorem dX7_init_31 : decode cX7_init 31 = .ok (.newarray .byte, 2) := dk_188_8 (dk_at dksX7_init_1 8 rfl rfl)
theorem dX7_init_33 : decode cX7_init 33 = .ok (.putfield 21, 3) := dk_181 0 21 (dk_at dksX7_init_1 10 rfl rfl)
theorem dX7_init_36 : decode cX7_init 36 = .ok (.aload_n 0, 1) := dk_42 (dk_at dksX7_init_1 13 rfl rfl)
theorem dX7_init_37 : decode cX7_init 37 = .ok (.bipush 31, 2) := dk_16 31 (dk_at dksX7_init_1 14 rfl rfl)
theorem dX7_init_39 : decode cX7_init 39 = .ok (.anewarray 25, 3) := dk_189 0 25 (dk_at dksX7_init_1 16 rfl rfl)
theorem dX7_init_42 : decode cX7_init 42 = .ok (.putfield 27, 3) := dk_181 0 27 (dk_at dksX7_init_1 19 rfl rfl)
theorem dX7_init_45 : decode cX7_init 45 = .ok (.return_, 1) := dk_177 (dk_at dksX7_init_1 22 rfl rfl)
abbrev cX7_leaves : ByteArray := prog_10_method_4_code
def yX7_leaves : MethodName := ⟨RX7, "leaves", "()I"⟩
def dkwX7_leaves_1 : List UInt8 := [27, 184, 0, 31, 3, 84, 42, 180, 0, 27, 27, 184, 0, 31, 1, 83, 27, 172]
abbrev dktX7_leaves_1 : List UInt8 := dkwX7_leaves_1 ++ []
def dkwX7_leaves_0 : List UInt8 := [42, 89, 180, 0, 39, 4, 100, 181, 0, 39, 42, 180, 0, 9, 42, 180, 0, 39, 46, 60, 42, 180, 0, 21]
abbrev dktX7_leaves_0 : List UInt8 := dkwX7_leaves_0 ++ dktX7_leaves_1
theorem dksX7_leaves_0 : cX7_leaves.data.toList.drop 0 = dktX7_leaves_0 := by decide +kernel
theorem dksX7_leaves_1 : cX7_leaves.data.toList.drop 24 = dktX7_leaves_1 := dk_seg dksX7_leaves_0 24 rfl rfl
theorem dX7_leaves_0 : decode cX7_leaves 0 = .ok (.aload_n 0, 1) := dk_42 (dk_at dksX7_leaves_0 0 rfl rfl)
theorem dX7_leaves_1 : decode cX7_leaves 1 = .ok (.dup, 1) := dk_89 (dk_at dksX7_leaves_0 1 rfl rfl)
theorem dX7_leaves_2 : decode cX7_leaves 2 = .ok (.getfield 39, 3) := dk_180 0 39 (dk_at dksX7_leaves_0 2 rfl rfl)
theorem dX7_leaves_5 : decode cX7_leaves 5 = .ok (.iconst 1, 1) := dk_4 (dk_at dksX7_leaves_0 5 rfl rfl)
theorem dX7_leaves_6 : decode cX7_leaves 6 = .ok (.isub, 1) := dk_100 (dk_at dksX7_leaves_0 6 rfl rfl)
theorem dX7_leaves_7 : decode cX7_leaves 7 = .ok (.putfield 39, 3) := dk_181 0 39 (dk_at dksX7_leaves_0 7 rfl rfl)
theorem dX7_leaves_10 : decode cX7_leaves 10 = .ok (.aload_n 0, 1) := dk_42 (dk_at dksX7_leaves_0 10 rfl rfl)
theorem dX7_leaves_11 : decode cX7_leaves 11 = .ok (.getfield 9, 3) := dk_180 0 9 (dk_at dksX7_leaves_0 11 rfl rfl)
theorem dX7_leaves_14 : decode cX7_leaves 14 = .ok (.aload_n 0, 1) := dk_42 (dk_at dksX7_leaves_0 14 rfl rfl)
theorem dX7_leaves_15 : decode cX7_leaves 15 = .ok (.getfield 39, 3) := dk_180 0 39 (dk_at dksX7_leaves_0 15 rfl rfl)
theorem dX7_leaves_18 : decode cX7_leaves 18 = .ok (.iaload, 1) := dk_46 (dk_at dksX7_leaves_0 18 rfl rfl)
theorem dX7_leaves_19 : decode cX7_leaves 19 = .ok (.istore_n 1, 1) := dk_60 (dk_at dksX7_leaves_0 19 rfl rfl)
theorem dX7_leaves_20 : decode cX7_leaves 20 = .ok (.aload_n 0, 1) := dk_42 (dk_at dksX7_leaves_0 20 rfl rfl)
theorem dX7_leaves_21 : decode cX7_leaves 21 = .ok (.getfield 21, 3) := dk_180 0 21 (dk_at dksX7_leaves_0 21 rfl rfl)
theorem dX7_leaves_24 : decode cX7_leaves 24 = .ok (.iload_n 1, 1) := dk_27 (dk_at dksX7_leaves_1 0 rfl rfl)
theorem dX7_leaves_25 : decode cX7_leaves 25 = .ok (.invokestatic 31, 3) := dk_184 0 31 (dk_at dksX7_leaves_1 1 rfl rfl)
theorem dX7_leaves_28 : decode cX7_leaves 28 = .ok (.iconst 0, 1) := dk_3 (dk_at dksX7_leaves_1 4 rfl rfl)
theorem dX7_leaves_29 : decode cX7_leaves 29 = .ok (.bastore, 1) := dk_84 (dk_at dksX7_leaves_1 5 rfl rfl)
theorem dX7_leaves_30 : decode cX7_leaves 30 = .ok (.aload_n 0, 1) := dk_42 (dk_at dksX7_leaves_1 6 rfl rfl)
theorem dX7_leaves_31 : decode cX7_leaves 31 = .ok (.getfield 27, 3) := dk_180 0 27 (dk_at dksX7_leaves_1 7 rfl rfl)
theorem dX7_leaves_34 : decode cX7_leaves 34 = .ok (.iload_n 1, 1) := dk_27 (dk_at dksX7_leaves_1 10 rfl rfl)
theorem dX7_leaves_35 : decode cX7_leaves 35 = .ok (.invokestatic 31, 3) := dk_184 0 31 (dk_at dksX7_leaves_1 11 rfl rfl)
theorem dX7_leaves_38 : decode cX7_leaves 38 = .ok (.aconst_null, 1) := dk_1 (dk_at dksX7_leaves_1 14 rfl rfl)
theorem dX7_leaves_39 : decode cX7_leaves 39 = .ok (.aastore, 1) := dk_83 (dk_at dksX7_leaves_1 15 rfl rfl)
theorem dX7_leaves_40 : decode cX7_leaves 40 = .ok (.iload_n 1, 1) := dk_27 (dk_at dksX7_leaves_1 16 rfl rfl)
theorem dX7_leaves_41 : decode cX7_leaves 41 = .ok (.ireturn, 1) := dk_172 (dk_at dksX7_leaves_1 17 rfl rfl)
abbrev cX7_comes : ByteArray := prog_10_method_3_code
def yX7_comes : MethodName := ⟨RX7, "comes", "(ILLearntReasons$Clause;)V"⟩
def dkwX7_comes_3 : List UInt8 := [177]
abbrev dktX7_comes_3 : List UInt8 := dkwX7_comes_3 ++ []
def dkwX7_comes_2 : List UInt8 := [180, 0, 39, 79, 42, 180, 0, 9, 42, 180, 0, 39, 27, 79, 42, 89, 180, 0, 39, 4, 96, 181, 0, 39]
abbrev dktX7_comes_2 : List UInt8 := dkwX7_comes_2 ++ dktX7_comes_3
def dkwX7_comes_1 : List UInt8 := [180, 0, 15, 29, 42, 180, 0, 35, 79, 42, 180, 0, 27, 29, 44, 83, 42, 180, 0, 18, 29, 42]
abbrev dktX7_comes_1 : List UInt8 := dkwX7_comes_1 ++ dktX7_comes_2
def dkwX7_comes_0 : List UInt8 := [27, 184, 0, 31, 62, 42, 180, 0, 21, 29, 27, 158, 0, 7, 4, 167, 0, 4, 2, 145, 84, 42]
abbrev dktX7_comes_0 : List UInt8 := dkwX7_comes_0 ++ dktX7_comes_1
theorem dksX7_comes_0 : cX7_comes.data.toList.drop 0 = dktX7_comes_0 := by decide +kernel
theorem dksX7_comes_1 : cX7_comes.data.toList.drop 22 = dktX7_comes_1 := dk_seg dksX7_comes_0 22 rfl rfl
theorem dksX7_comes_2 : cX7_comes.data.toList.drop 44 = dktX7_comes_2 := dk_seg dksX7_comes_1 22 rfl rfl
theorem dksX7_comes_3 : cX7_comes.data.toList.drop 68 = dktX7_comes_3 := dk_seg dksX7_comes_2 24 rfl rfl
theorem dX7_comes_0 : decode cX7_comes 0 = .ok (.iload_n 1, 1) := dk_27 (dk_at dksX7_comes_0 0 rfl rfl)
theorem dX7_comes_1 : decode cX7_comes 1 = .ok (.invokestatic 31, 3) := dk_184 0 31 (dk_at dksX7_comes_0 1 rfl rfl)
theorem dX7_comes_4 : decode cX7_comes 4 = .ok (.istore_n 3, 1) := dk_62 (dk_at dksX7_comes_0 4 rfl rfl)
theorem dX7_comes_5 : decode cX7_comes 5 = .ok (.aload_n 0, 1) := dk_42 (dk_at dksX7_comes_0 5 rfl rfl)
theorem dX7_comes_6 : decode cX7_comes 6 = .ok (.getfield 21, 3) := dk_180 0 21 (dk_at dksX7_comes_0 6 rfl rfl)
theorem dX7_comes_9 : decode cX7_comes 9 = .ok (.iload_n 3, 1) := dk_29 (dk_at dksX7_comes_0 9 rfl rfl)
theorem dX7_comes_10 : decode cX7_comes 10 = .ok (.iload_n 1, 1) := dk_27 (dk_at dksX7_comes_0 10 rfl rfl)
theorem dX7_comes_11 : decode cX7_comes 11 = .ok (.ifCond .le 7, 3) := dk_158 0 7 (dk_at dksX7_comes_0 11 rfl rfl)
theorem dX7_comes_14 : decode cX7_comes 14 = .ok (.iconst 1, 1) := dk_4 (dk_at dksX7_comes_0 14 rfl rfl)
theorem dX7_comes_15 : decode cX7_comes 15 = .ok (.goto 4, 3) := dk_167 0 4 (dk_at dksX7_comes_0 15 rfl rfl)
theorem dX7_comes_18 : decode cX7_comes 18 = .ok (.iconst (-1), 1) := dk_2 (dk_at dksX7_comes_0 18 rfl rfl)
theorem dX7_comes_19 : decode cX7_comes 19 = .ok (.i2b, 1) := dk_145 (dk_at dksX7_comes_0 19 rfl rfl)
theorem dX7_comes_20 : decode cX7_comes 20 = .ok (.bastore, 1) := dk_84 (dk_at dksX7_comes_0 20 rfl rfl)
theorem dX7_comes_21 : decode cX7_comes 21 = .ok (.aload_n 0, 1) := dk_42 (dk_at dksX7_comes_0 21 rfl rfl)
theorem dX7_comes_22 : decode cX7_comes 22 = .ok (.getfield 15, 3) := dk_180 0 15 (dk_at dksX7_comes_1 0 rfl rfl)
theorem dX7_comes_25 : decode cX7_comes 25 = .ok (.iload_n 3, 1) := dk_29 (dk_at dksX7_comes_1 3 rfl rfl)
theorem dX7_comes_26 : decode cX7_comes 26 = .ok (.aload_n 0, 1) := dk_42 (dk_at dksX7_comes_1 4 rfl rfl)
theorem dX7_comes_27 : decode cX7_comes 27 = .ok (.getfield 35, 3) := dk_180 0 35 (dk_at dksX7_comes_1 5 rfl rfl)
theorem dX7_comes_30 : decode cX7_comes 30 = .ok (.iastore, 1) := dk_79 (dk_at dksX7_comes_1 8 rfl rfl)
theorem dX7_comes_31 : decode cX7_comes 31 = .ok (.aload_n 0, 1) := dk_42 (dk_at dksX7_comes_1 9 rfl rfl)
theorem dX7_comes_32 : decode cX7_comes 32 = .ok (.getfield 27, 3) := dk_180 0 27 (dk_at dksX7_comes_1 10 rfl rfl)
theorem dX7_comes_35 : decode cX7_comes 35 = .ok (.iload_n 3, 1) := dk_29 (dk_at dksX7_comes_1 13 rfl rfl)
theorem dX7_comes_36 : decode cX7_comes 36 = .ok (.aload_n 2, 1) := dk_44 (dk_at dksX7_comes_1 14 rfl rfl)
theorem dX7_comes_37 : decode cX7_comes 37 = .ok (.aastore, 1) := dk_83 (dk_at dksX7_comes_1 15 rfl rfl)
theorem dX7_comes_38 : decode cX7_comes 38 = .ok (.aload_n 0, 1) := dk_42 (dk_at dksX7_comes_1 16 rfl rfl)
theorem dX7_comes_39 : decode cX7_comes 39 = .ok (.getfield 18, 3) := dk_180 0 18 (dk_at dksX7_comes_1 17 rfl rfl)
theorem dX7_comes_42 : decode cX7_comes 42 = .ok (.iload_n 3, 1) := dk_29 (dk_at dksX7_comes_1 20 rfl rfl)
theorem dX7_comes_43 : decode cX7_comes 43 = .ok (.aload_n 0, 1) := dk_42 (dk_at dksX7_comes_1 21 rfl rfl)
theorem dX7_comes_44 : decode cX7_comes 44 = .ok (.getfield 39, 3) := dk_180 0 39 (dk_at dksX7_comes_2 0 rfl rfl)
theorem dX7_comes_47 : decode cX7_comes 47 = .ok (.iastore, 1) := dk_79 (dk_at dksX7_comes_2 3 rfl rfl)
theorem dX7_comes_48 : decode cX7_comes 48 = .ok (.aload_n 0, 1) := dk_42 (dk_at dksX7_comes_2 4 rfl rfl)
theorem dX7_comes_49 : decode cX7_comes 49 = .ok (.getfield 9, 3) := dk_180 0 9 (dk_at dksX7_comes_2 5 rfl rfl)
theorem dX7_comes_52 : decode cX7_comes 52 = .ok (.aload_n 0, 1) := dk_42 (dk_at dksX7_comes_2 8 rfl rfl)
theorem dX7_comes_53 : decode cX7_comes 53 = .ok (.getfield 39, 3) := dk_180 0 39 (dk_at dksX7_comes_2 9 rfl rfl)
theorem dX7_comes_56 : decode cX7_comes 56 = .ok (.iload_n 1, 1) := dk_27 (dk_at dksX7_comes_2 12 rfl rfl)
theorem dX7_comes_57 : decode cX7_comes 57 = .ok (.iastore, 1) := dk_79 (dk_at dksX7_comes_2 13 rfl rfl)
theorem dX7_comes_58 : decode cX7_comes 58 = .ok (.aload_n 0, 1) := dk_42 (dk_at dksX7_comes_2 14 rfl rfl)
theorem dX7_comes_59 : decode cX7_comes 59 = .ok (.dup, 1) := dk_89 (dk_at dksX7_comes_2 15 rfl rfl)
theorem dX7_comes_60 : decode cX7_comes 60 = .ok (.getfield 39, 3) := dk_180 0 39 (dk_at dksX7_comes_2 16 rfl rfl)
theorem dX7_comes_63 : decode cX7_comes 63 = .ok (.iconst 1, 1) := dk_4 (dk_at dksX7_comes_2 19 rfl rfl)
theorem dX7_comes_64 : decode cX7_comes 64 = .ok (.iadd, 1) := dk_96 (dk_at dksX7_comes_2 20 rfl rfl)
theorem dX7_comes_65 : decode cX7_comes 65 = .ok (.putfield 39, 3) := dk_181 0 39 (dk_at dksX7_comes_2 21 rfl rfl)
theorem dX7_comes_68 : decode cX7_comes 68 = .ok (.return_, 1) := dk_177 (dk_at dksX7_comes_3 0 rfl rfl)
abbrev cX7_value : ByteArray := prog_10_method_2_code
def yX7_value : MethodName := ⟨RX7, "value", "(I)I"⟩
def dkwX7_value_0 : List UInt8 := [42, 180, 0, 21, 27, 184, 0, 31, 51, 61, 27, 158, 0, 7, 28, 167, 0, 5, 28, 116, 172]
abbrev dktX7_value_0 : List UInt8 := dkwX7_value_0 ++ []
theorem dksX7_value_0 : cX7_value.data.toList.drop 0 = dktX7_value_0 := by decide +kernel
theorem dX7_value_0 : decode cX7_value 0 = .ok (.aload_n 0, 1) := dk_42 (dk_at dksX7_value_0 0 rfl rfl)
theorem dX7_value_1 : decode cX7_value 1 = .ok (.getfield 21, 3) := dk_180 0 21 (dk_at dksX7_value_0 1 rfl rfl)
theorem dX7_value_4 : decode cX7_value 4 = .ok (.iload_n 1, 1) := dk_27 (dk_at dksX7_value_0 4 rfl rfl)
theorem dX7_value_5 : decode cX7_value 5 = .ok (.invokestatic 31, 3) := dk_184 0 31 (dk_at dksX7_value_0 5 rfl rfl)
theorem dX7_value_8 : decode cX7_value 8 = .ok (.baload, 1) := dk_51 (dk_at dksX7_value_0 8 rfl rfl)
theorem dX7_value_9 : decode cX7_value 9 = .ok (.istore_n 2, 1) := dk_61 (dk_at dksX7_value_0 9 rfl rfl)
theorem dX7_value_10 : decode cX7_value 10 = .ok (.iload_n 1, 1) := dk_27 (dk_at dksX7_value_0 10 rfl rfl)
theorem dX7_value_11 : decode cX7_value 11 = .ok (.ifCond .le 7, 3) := dk_158 0 7 (dk_at dksX7_value_0 11 rfl rfl)
theorem dX7_value_14 : decode cX7_value 14 = .ok (.iload_n 2, 1) := dk_28 (dk_at dksX7_value_0 14 rfl rfl)
theorem dX7_value_15 : decode cX7_value 15 = .ok (.goto 5, 3) := dk_167 0 5 (dk_at dksX7_value_0 15 rfl rfl)
theorem dX7_value_18 : decode cX7_value 18 = .ok (.iload_n 2, 1) := dk_28 (dk_at dksX7_value_0 18 rfl rfl)
theorem dX7_value_19 : decode cX7_value 19 = .ok (.ineg, 1) := dk_116 (dk_at dksX7_value_0 19 rfl rfl)
theorem dX7_value_20 : decode cX7_value 20 = .ok (.ireturn, 1) := dk_172 (dk_at dksX7_value_0 20 rfl rfl)
abbrev cX7_unit : ByteArray := prog_10_method_6_code
def yX7_unit : MethodName := ⟨RX7, "unit", "([I)I"⟩
def dkwX7_unit_2 : List UInt8 := [42, 21, 6, 182, 0, 42, 154, 0, 8, 21, 6, 167, 0, 4, 28, 61, 132, 5, 1, 167, 255, 200, 28, 172]
abbrev dktX7_unit_2 : List UInt8 := dkwX7_unit_2 ++ []
def dkwX7_unit_1 : List UInt8 := [42, 21, 6, 182, 0, 42, 157, 0, 16, 42, 21, 6, 182, 0, 42, 154, 0, 9, 28, 153, 0, 5, 3, 172]
abbrev dktX7_unit_1 : List UInt8 := dkwX7_unit_1 ++ dktX7_unit_2
def dkwX7_unit_0 : List UInt8 := [3, 61, 43, 78, 45, 190, 54, 4, 3, 54, 5, 21, 5, 21, 4, 162, 0, 55, 45, 21, 5, 46, 54, 6]
abbrev dktX7_unit_0 : List UInt8 := dkwX7_unit_0 ++ dktX7_unit_1
theorem dksX7_unit_0 : cX7_unit.data.toList.drop 0 = dktX7_unit_0 := by decide +kernel
theorem dksX7_unit_1 : cX7_unit.data.toList.drop 24 = dktX7_unit_1 := dk_seg dksX7_unit_0 24 rfl rfl
theorem dksX7_unit_2 : cX7_unit.data.toList.drop 48 = dktX7_unit_2 := dk_seg dksX7_unit_1 24 rfl rfl
theorem dX7_unit_0 : decode cX7_unit 0 = .ok (.iconst 0, 1) := dk_3 (dk_at dksX7_unit_0 0 rfl rfl)
theorem dX7_unit_1 : decode cX7_unit 1 = .ok (.istore_n 2, 1) := dk_61 (dk_at dksX7_unit_0 1 rfl rfl)
theorem dX7_unit_2 : decode cX7_unit 2 = .ok (.aload_n 1, 1) := dk_43 (dk_at dksX7_unit_0 2 rfl rfl)
theorem dX7_unit_3 : decode cX7_unit 3 = .ok (.astore_n 3, 1) := dk_78 (dk_at dksX7_unit_0 3 rfl rfl)
theorem dX7_unit_4 : decode cX7_unit 4 = .ok (.aload_n 3, 1) := dk_45 (dk_at dksX7_unit_0 4 rfl rfl)
theorem dX7_unit_5 : decode cX7_unit 5 = .ok (.arraylength, 1) := dk_190 (dk_at dksX7_unit_0 5 rfl rfl)
theorem dX7_unit_6 : decode cX7_unit 6 = .ok (.istore 4, 2) := dk_54 4 (dk_at dksX7_unit_0 6 rfl rfl)
theorem dX7_unit_8 : decode cX7_unit 8 = .ok (.iconst 0, 1) := dk_3 (dk_at dksX7_unit_0 8 rfl rfl)
theorem dX7_unit_9 : decode cX7_unit 9 = .ok (.istore 5, 2) := dk_54 5 (dk_at dksX7_unit_0 9 rfl rfl)
theorem dX7_unit_11 : decode cX7_unit 11 = .ok (.iload 5, 2) := dk_21 5 (dk_at dksX7_unit_0 11 rfl rfl)
theorem dX7_unit_13 : decode cX7_unit 13 = .ok (.iload 4, 2) := dk_21 4 (dk_at dksX7_unit_0 13 rfl rfl)
theorem dX7_unit_15 : decode cX7_unit 15 = .ok (.if_icmp .ge 55, 3) := dk_162 0 55 (dk_at dksX7_unit_0 15 rfl rfl)
theorem dX7_unit_18 : decode cX7_unit 18 = .ok (.aload_n 3, 1) := dk_45 (dk_at dksX7_unit_0 18 rfl rfl)
theorem dX7_unit_19 : decode cX7_unit 19 = .ok (.iload 5, 2) := dk_21 5 (dk_at dksX7_unit_0 19 rfl rfl)
theorem dX7_unit_21 : decode cX7_unit 21 = .ok (.iaload, 1) := dk_46 (dk_at dksX7_unit_0 21 rfl rfl)
theorem dX7_unit_22 : decode cX7_unit 22 = .ok (.istore 6, 2) := dk_54 6 (dk_at dksX7_unit_0 22 rfl rfl)
theorem dX7_unit_24 : decode cX7_unit 24 = .ok (.aload_n 0, 1) := dk_42 (dk_at dksX7_unit_1 0 rfl rfl)
theorem dX7_unit_25 : decode cX7_unit 25 = .ok (.iload 6, 2) := dk_21 6 (dk_at dksX7_unit_1 1 rfl rfl)
theorem dX7_unit_27 : decode cX7_unit 27 = .ok (.invokevirtual 42, 3) := dk_182 0 42 (dk_at dksX7_unit_1 3 rfl rfl)
theorem dX7_unit_30 : decode cX7_unit 30 = .ok (.ifCond .gt 16, 3) := dk_157 0 16 (dk_at dksX7_unit_1 6 rfl rfl)
theorem dX7_unit_33 : decode cX7_unit 33 = .ok (.aload_n 0, 1) := dk_42 (dk_at dksX7_unit_1 9 rfl rfl)
theorem dX7_unit_34 : decode cX7_unit 34 = .ok (.iload 6, 2) := dk_21 6 (dk_at dksX7_unit_1 10 rfl rfl)
theorem dX7_unit_36 : decode cX7_unit 36 = .ok (.invokevirtual 42, 3) := dk_182 0 42 (dk_at dksX7_unit_1 12 rfl rfl)
theorem dX7_unit_39 : decode cX7_unit 39 = .ok (.ifCond .ne 9, 3) := dk_154 0 9 (dk_at dksX7_unit_1 15 rfl rfl)
theorem dX7_unit_42 : decode cX7_unit 42 = .ok (.iload_n 2, 1) := dk_28 (dk_at dksX7_unit_1 18 rfl rfl)
theorem dX7_unit_43 : decode cX7_unit 43 = .ok (.ifCond .eq 5, 3) := dk_153 0 5 (dk_at dksX7_unit_1 19 rfl rfl)
theorem dX7_unit_46 : decode cX7_unit 46 = .ok (.iconst 0, 1) := dk_3 (dk_at dksX7_unit_1 22 rfl rfl)
theorem dX7_unit_47 : decode cX7_unit 47 = .ok (.ireturn, 1) := dk_172 (dk_at dksX7_unit_1 23 rfl rfl)
theorem dX7_unit_48 : decode cX7_unit 48 = .ok (.aload_n 0, 1) := dk_42 (dk_at dksX7_unit_2 0 rfl rfl)
theorem dX7_unit_49 : decode cX7_unit 49 = .ok (.iload 6, 2) := dk_21 6 (dk_at dksX7_unit_2 1 rfl rfl)
theorem dX7_unit_51 : decode cX7_unit 51 = .ok (.invokevirtual 42, 3) := dk_182 0 42 (dk_at dksX7_unit_2 3 rfl rfl)
theorem dX7_unit_54 : decode cX7_unit 54 = .ok (.ifCond .ne 8, 3) := dk_154 0 8 (dk_at dksX7_unit_2 6 rfl rfl)
theorem dX7_unit_57 : decode cX7_unit 57 = .ok (.iload 6, 2) := dk_21 6 (dk_at dksX7_unit_2 9 rfl rfl)
theorem dX7_unit_59 : decode cX7_unit 59 = .ok (.goto 4, 3) := dk_167 0 4 (dk_at dksX7_unit_2 11 rfl rfl)
theorem dX7_unit_62 : decode cX7_unit 62 = .ok (.iload_n 2, 1) := dk_28 (dk_at dksX7_unit_2 14 rfl rfl)
theorem dX7_unit_63 : decode cX7_unit 63 = .ok (.istore_n 2, 1) := dk_61 (dk_at dksX7_unit_2 15 rfl rfl)
theorem dX7_unit_64 : decode cX7_unit 64 = .ok (.iinc 5 1, 3) := dk_132 5 1 (dk_at dksX7_unit_2 16 rfl rfl)
theorem dX7_unit_67 : decode cX7_unit 67 = .ok (.goto (-56), 3) := dk_167 255 200 (dk_at dksX7_unit_2 19 rfl rfl)
theorem dX7_unit_70 : decode cX7_unit 70 = .ok (.iload_n 2, 1) := dk_28 (dk_at dksX7_unit_2 22 rfl rfl)
theorem dX7_unit_71 : decode cX7_unit 71 = .ok (.ireturn, 1) := dk_172 (dk_at dksX7_unit_2 23 rfl rfl)
abbrev cX7_areFalse : ByteArray := prog_10_method_5_code
def yX7_areFalse : MethodName := ⟨RX7, "areFalse", "([I)Z"⟩
def dkwX7_areFalse_1 : List UInt8 := [182, 0, 42, 155, 0, 5, 3, 172, 132, 4, 1, 167, 255, 230, 4, 172]
abbrev dktX7_areFalse_1 : List UInt8 := dkwX7_areFalse_1 ++ []
def dkwX7_areFalse_0 : List UInt8 := [43, 77, 44, 190, 62, 3, 54, 4, 21, 4, 29, 162, 0, 26, 44, 21, 4, 46, 54, 5, 42, 21, 5]
abbrev dktX7_areFalse_0 : List UInt8 := dkwX7_areFalse_0 ++ dktX7_areFalse_1
theorem dksX7_areFalse_0 : cX7_areFalse.data.toList.drop 0 = dktX7_areFalse_0 := by decide +kernel
theorem dksX7_areFalse_1 : cX7_areFalse.data.toList.drop 23 = dktX7_areFalse_1 := dk_seg dksX7_areFalse_0 23 rfl rfl
theorem dX7_areFalse_0 : decode cX7_areFalse 0 = .ok (.aload_n 1, 1) := dk_43 (dk_at dksX7_areFalse_0 0 rfl rfl)
theorem dX7_areFalse_1 : decode cX7_areFalse 1 = .ok (.astore_n 2, 1) := dk_77 (dk_at dksX7_areFalse_0 1 rfl rfl)
theorem dX7_areFalse_2 : decode cX7_areFalse 2 = .ok (.aload_n 2, 1) := dk_44 (dk_at dksX7_areFalse_0 2 rfl rfl)
theorem dX7_areFalse_3 : decode cX7_areFalse 3 = .ok (.arraylength, 1) := dk_190 (dk_at dksX7_areFalse_0 3 rfl rfl)
theorem dX7_areFalse_4 : decode cX7_areFalse 4 = .ok (.istore_n 3, 1) := dk_62 (dk_at dksX7_areFalse_0 4 rfl rfl)
theorem dX7_areFalse_5 : decode cX7_areFalse 5 = .ok (.iconst 0, 1) := dk_3 (dk_at dksX7_areFalse_0 5 rfl rfl)
theorem dX7_areFalse_6 : decode cX7_areFalse 6 = .ok (.istore 4, 2) := dk_54 4 (dk_at dksX7_areFalse_0 6 rfl rfl)
theorem dX7_areFalse_8 : decode cX7_areFalse 8 = .ok (.iload 4, 2) := dk_21 4 (dk_at dksX7_areFalse_0 8 rfl rfl)
theorem dX7_areFalse_10 : decode cX7_areFalse 10 = .ok (.iload_n 3, 1) := dk_29 (dk_at dksX7_areFalse_0 10 rfl rfl)
theorem dX7_areFalse_11 : decode cX7_areFalse 11 = .ok (.if_icmp .ge 26, 3) := dk_162 0 26 (dk_at dksX7_areFalse_0 11 rfl rfl)
theorem dX7_areFalse_14 : decode cX7_areFalse 14 = .ok (.aload_n 2, 1) := dk_44 (dk_at dksX7_areFalse_0 14 rfl rfl)
theorem dX7_areFalse_15 : decode cX7_areFalse 15 = .ok (.iload 4, 2) := dk_21 4 (dk_at dksX7_areFalse_0 15 rfl rfl)
theorem dX7_areFalse_17 : decode cX7_areFalse 17 = .ok (.iaload, 1) := dk_46 (dk_at dksX7_areFalse_0 17 rfl rfl)
theorem dX7_areFalse_18 : decode cX7_areFalse 18 = .ok (.istore 5, 2) := dk_54 5 (dk_at dksX7_areFalse_0 18 rfl rfl)
theorem dX7_areFalse_20 : decode cX7_areFalse 20 = .ok (.aload_n 0, 1) := dk_42 (dk_at dksX7_areFalse_0 20 rfl rfl)
theorem dX7_areFalse_21 : decode cX7_areFalse 21 = .ok (.iload 5, 2) := dk_21 5 (dk_at dksX7_areFalse_0 21 rfl rfl)
theorem dX7_areFalse_23 : decode cX7_areFalse 23 = .ok (.invokevirtual 42, 3) := dk_182 0 42 (dk_at dksX7_areFalse_1 0 rfl rfl)
theorem dX7_areFalse_26 : decode cX7_areFalse 26 = .ok (.ifCond .lt 5, 3) := dk_155 0 5 (dk_at dksX7_areFalse_1 3 rfl rfl)
theorem dX7_areFalse_29 : decode cX7_areFalse 29 = .ok (.iconst 0, 1) := dk_3 (dk_at dksX7_areFalse_1 6 rfl rfl)
theorem dX7_areFalse_30 : decode cX7_areFalse 30 = .ok (.ireturn, 1) := dk_172 (dk_at dksX7_areFalse_1 7 rfl rfl)
theorem dX7_areFalse_31 : decode cX7_areFalse 31 = .ok (.iinc 4 1, 3) := dk_132 4 1 (dk_at dksX7_areFalse_1 8 rfl rfl)
theorem dX7_areFalse_34 : decode cX7_areFalse 34 = .ok (.goto (-26), 3) := dk_167 255 230 (dk_at dksX7_areFalse_1 11 rfl rfl)
theorem dX7_areFalse_37 : decode cX7_areFalse 37 = .ok (.iconst 1, 1) := dk_4 (dk_at dksX7_areFalse_1 14 rfl rfl)
theorem dX7_areFalse_38 : decode cX7_areFalse 38 = .ok (.ireturn, 1) := dk_172 (dk_at dksX7_areFalse_1 15 rfl rfl)
theorem q129 : (Jvm.Cond.initialized "LearntReasons$Trail") ∈ lw_all := lw_g (lw_at lw_m1 25 rfl) rfl
theorem q457 : (Jvm.Cond.selects "LearntReasons$Trail" ({ cls := "java/lang/Object", name := "getClass", desc := "()Ljava/lang/Class;" } : Jvm.MethodName) ({ cls := "java/lang/Object", name := "getClass", desc := "()Ljava/lang/Class;" } : Jvm.MethodName)) ∈ lw_all := lw_g (lw_at lw_m2 113 rfl) rfl
theorem q672 : (Jvm.Cond.instanceMethod ({ cls := "LearntReasons$Trail", name := "<init>", desc := "()V" } : Jvm.MethodName)) ∈ lw_all := lw_g (lw_at lw_m3 88 rfl) rfl
theorem q673 : (Jvm.Cond.code ({ cls := "LearntReasons$Trail", name := "<init>", desc := "()V" } : Jvm.MethodName) prog_10_method_1_code (1 : Nat) (Option.none : Option Jvm.ClassFile.FieldType)) ∈ lw_all := lw_g (lw_at lw_m3 89 rfl) rfl
theorem q674 : (Jvm.Cond.methodLink "LearntReasons$Trail" (3 : Nat) ({ cls := "java/lang/Object", name := "<init>", desc := "()V" } : Jvm.MethodName)) ∈ lw_all := lw_g (lw_at lw_m3 90 rfl) rfl
theorem q675 : (Jvm.Cond.classLink "LearntReasons$Trail" (25 : Nat) "LearntReasons$Clause") ∈ lw_all := lw_g (lw_at lw_m3 91 rfl) rfl
theorem q774 : (Jvm.Cond.fieldLink "LearntReasons$Trail" (9 : Nat) "LearntReasons$Trail" "trail" "[I") ∈ lw_all := lw_g (lw_at lw_m3 190 rfl) rfl
theorem q778 : (Jvm.Cond.fieldLink "LearntReasons$Trail" (15 : Nat) "LearntReasons$Trail" "levels" "[I") ∈ lw_all := lw_g (lw_at lw_m3 194 rfl) rfl
theorem q781 : (Jvm.Cond.fieldLink "LearntReasons$Trail" (18 : Nat) "LearntReasons$Trail" "places" "[I") ∈ lw_all := lw_g (lw_at lw_m3 197 rfl) rfl
theorem q782 : (Jvm.Cond.fieldLink "LearntReasons$Trail" (21 : Nat) "LearntReasons$Trail" "values" "[B") ∈ lw_all := lw_g (lw_at lw_m3 198 rfl) rfl
theorem q785 : (Jvm.Cond.fieldLink "LearntReasons$Trail" (27 : Nat) "LearntReasons$Trail" "reasons" "[LLearntReasons$Clause;") ∈ lw_all := lw_g (lw_at lw_m3 201 rfl) rfl
theorem q788 : (Jvm.Cond.fieldLink "LearntReasons$Trail" (39 : Nat) "LearntReasons$Trail" "many" "I") ∈ lw_all := lw_g (lw_at lw_m3 204 rfl) rfl
theorem q792 : (Jvm.Cond.fieldLink "LearntReasons$Trail" (35 : Nat) "LearntReasons$Trail" "level" "I") ∈ lw_all := lw_g (lw_at lw_m3 208 rfl) rfl
theorem q818 : (Jvm.Cond.soleField "LearntReasons$Trail" "trail") ∈ lw_all := lw_g (lw_at lw_m3 234 rfl) rfl
theorem q820 : (Jvm.Cond.soleField "LearntReasons$Trail" "levels") ∈ lw_all := lw_g (lw_at lw_m3 236 rfl) rfl
theorem q822 : (Jvm.Cond.soleField "LearntReasons$Trail" "places") ∈ lw_all := lw_g (lw_at lw_m3 238 rfl) rfl
theorem q824 : (Jvm.Cond.soleField "LearntReasons$Trail" "values") ∈ lw_all := lw_g (lw_at lw_m4 0 rfl) rfl
theorem q826 : (Jvm.Cond.soleField "LearntReasons$Trail" "reasons") ∈ lw_all := lw_g (lw_at lw_m4 2 rfl) rfl
theorem q828 : (Jvm.Cond.soleField "LearntReasons$Trail" "many") ∈ lw_all := lw_g (lw_at lw_m4 4 rfl) rfl
theorem q830 : (Jvm.Cond.soleField "LearntReasons$Trail" "level") ∈ lw_all := lw_g (lw_at lw_m4 6 rfl) rfl
theorem q921 : (Jvm.Cond.declares ({ cls := "LearntReasons$Trail", name := "leaves", desc := "()I" } : Jvm.MethodName)) ∈ lw_tbl := lw_at lw_m4 97 rfl
theorem q923 : (Jvm.Cond.instanceMethod ({ cls := "LearntReasons$Trail", name := "leaves", desc := "()I" } : Jvm.MethodName)) ∈ lw_all := lw_g (lw_at lw_m4 99 rfl) rfl
theorem q924 : (Jvm.Cond.code ({ cls := "LearntReasons$Trail", name := "leaves", desc := "()I" } : Jvm.MethodName) prog_10_method_4_code (2 : Nat) (Option.some Jvm.ClassFile.FieldType.int)) ∈ lw_all := lw_g (lw_at lw_m4 100 rfl) rfl
theorem q925 : (Jvm.Cond.methodLinkNest "LearntReasons$Trail" (31 : Nat) ({ cls := "LearntReasons", name := "variableOf", desc := "(I)I" } : Jvm.MethodName) "LearntReasons") ∈ lw_tbl := lw_at lw_m4 101 rfl
theorem q945 : (Jvm.Cond.instanceMethod ({ cls := "LearntReasons$Trail", name := "comes", desc := "(ILLearntReasons$Clause;)V" } : Jvm.MethodName)) ∈ lw_all := lw_g (lw_at lw_m4 121 rfl) rfl
theorem q946 : (Jvm.Cond.code ({ cls := "LearntReasons$Trail", name := "comes", desc := "(ILLearntReasons$Clause;)V" } : Jvm.MethodName) prog_10_method_3_code (4 : Nat) (Option.none : Option Jvm.ClassFile.FieldType)) ∈ lw_all := lw_g (lw_at lw_m4 122 rfl) rfl
theorem q953 : (Jvm.Cond.declares ({ cls := "LearntReasons$Trail", name := "value", desc := "(I)I" } : Jvm.MethodName)) ∈ lw_tbl := lw_at lw_m4 129 rfl
theorem q955 : (Jvm.Cond.instanceMethod ({ cls := "LearntReasons$Trail", name := "value", desc := "(I)I" } : Jvm.MethodName)) ∈ lw_all := lw_g (lw_at lw_m4 131 rfl) rfl
theorem q956 : (Jvm.Cond.code ({ cls := "LearntReasons$Trail", name := "value", desc := "(I)I" } : Jvm.MethodName) prog_10_method_2_code (3 : Nat) (Option.some Jvm.ClassFile.FieldType.int)) ∈ lw_all := lw_g (lw_at lw_m4 132 rfl) rfl
theorem q974 : (Jvm.Cond.declares ({ cls := "LearntReasons$Trail", name := "unit", desc := "([I)I" } : Jvm.MethodName)) ∈ lw_tbl := lw_at lw_m4 150 rfl
theorem q976 : (Jvm.Cond.instanceMethod ({ cls := "LearntReasons$Trail", name := "unit", desc := "([I)I" } : Jvm.MethodName)) ∈ lw_all := lw_g (lw_at lw_m4 152 rfl) rfl
theorem q977 : (Jvm.Cond.code ({ cls := "LearntReasons$Trail", name := "unit", desc := "([I)I" } : Jvm.MethodName) prog_10_method_6_code (7 : Nat) (Option.some Jvm.ClassFile.FieldType.int)) ∈ lw_all := lw_g (lw_at lw_m4 153 rfl) rfl
theorem q978 : (Jvm.Cond.methodLink "LearntReasons$Trail" (42 : Nat) ({ cls := "LearntReasons$Trail", name := "value", desc := "(I)I" } : Jvm.MethodName)) ∈ lw_all := lw_g (lw_at lw_m4 154 rfl) rfl
theorem q1039 : (Jvm.Cond.instantiable "LearntReasons$Trail" (7 : Nat)) ∈ lw_all := lw_g (lw_at lw_m4 215 rfl) rfl
theorem q1041 : (Jvm.Cond.laysFinal "LearntReasons$Trail" "LearntReasons$Trail" "trail" "[I") ∈ lw_all := lw_g (lw_at lw_m4 217 rfl) rfl
theorem q1042 : (Jvm.Cond.laysFinal "LearntReasons$Trail" "LearntReasons$Trail" "levels" "[I") ∈ lw_all := lw_g (lw_at lw_m4 218 rfl) rfl
theorem q1043 : (Jvm.Cond.laysFinal "LearntReasons$Trail" "LearntReasons$Trail" "places" "[I") ∈ lw_all := lw_g (lw_at lw_m4 219 rfl) rfl
theorem q1044 : (Jvm.Cond.laysFinal "LearntReasons$Trail" "LearntReasons$Trail" "values" "[B") ∈ lw_all := lw_g (lw_at lw_m4 220 rfl) rfl
theorem q1045 : (Jvm.Cond.laysFinal "LearntReasons$Trail" "LearntReasons$Trail" "reasons" "[LLearntReasons$Clause;") ∈ lw_all := lw_g (lw_at lw_m4 221 rfl) rfl
theorem q1046 : (Jvm.Cond.lays "LearntReasons$Trail" "LearntReasons$Trail" "many" "I") ∈ lw_all := lw_g (lw_at lw_m4 222 rfl) rfl
theorem q1047 : (Jvm.Cond.lays "LearntReasons$Trail" "LearntReasons$Trail" "level" "I") ∈ lw_all := lw_g (lw_at lw_m4 223 rfl) rfl
theorem q1048 : (Jvm.Cond.superclass "LearntReasons$Trail" "java/lang/Object") ∈ lw_all := lw_g (lw_at lw_m4 224 rfl) rfl
theorem q1077 : (Jvm.Cond.instanceMethod ({ cls := "LearntReasons$Trail", name := "areFalse", desc := "([I)Z" } : Jvm.MethodName)) ∈ lw_all := lw_g (lw_at lw_m5 13 rfl) rfl
theorem q1078 : (Jvm.Cond.selects "LearntReasons$Trail" ({ cls := "LearntReasons$Trail", name := "areFalse", desc := "([I)Z" } : Jvm.MethodName) ({ cls := "LearntReasons$Trail", name := "areFalse", desc := "([I)Z" } : Jvm.MethodName)) ∈ lw_all := lw_g (lw_at lw_m5 14 rfl) rfl
theorem q1079 : (Jvm.Cond.sameMethod "LearntReasons$Trail" "LearntReasons$Trail" "areFalse" "([I)Z") ∈ lw_all := lw_g (lw_at lw_m5 15 rfl) rfl
theorem q1081 : (Jvm.Cond.code ({ cls := "LearntReasons$Trail", name := "areFalse", desc := "([I)Z" } : Jvm.MethodName) prog_10_method_5_code (6 : Nat) (Option.some Jvm.ClassFile.FieldType.boolean)) ∈ lw_all := lw_g (lw_at lw_m5 17 rfl) rfl
theorem q1918 : (Jvm.Cond.sameMethod "LearntReasons$Trail" "LearntReasons$Trail" "comes" "(ILLearntReasons$Clause;)V") ∈ lw_all := lw_g (lw_at lw_m8 134 rfl) rfl
theorem q1919 : (Jvm.Cond.sameMethod "LearntReasons$Trail" "LearntReasons$Trail" "value" "(I)I") ∈ lw_all := lw_g (lw_at lw_m8 135 rfl) rfl
theorem q1921 : (Jvm.Cond.selects "LearntReasons$Trail" ({ cls := "LearntReasons$Trail", name := "value", desc := "(I)I" } : Jvm.MethodName) ({ cls := "LearntReasons$Trail", name := "value", desc := "(I)I" } : Jvm.MethodName)) ∈ lw_all := lw_g (lw_at lw_m8 137 rfl) rfl
theorem q1922 : (Jvm.Cond.sameMethod "LearntReasons$Trail" "LearntReasons$Trail" "unit" "([I)I") ∈ lw_all := lw_g (lw_at lw_m8 138 rfl) rfl
theorem q1924 : (Jvm.Cond.selects "LearntReasons$Trail" ({ cls := "LearntReasons$Trail", name := "unit", desc := "([I)I" } : Jvm.MethodName) ({ cls := "LearntReasons$Trail", name := "unit", desc := "([I)I" } : Jvm.MethodName)) ∈ lw_all := lw_g (lw_at lw_m8 140 rfl) rfl
theorem q1926 : (Jvm.Cond.selects "LearntReasons$Trail" ({ cls := "LearntReasons$Trail", name := "comes", desc := "(ILLearntReasons$Clause;)V" } : Jvm.MethodName) ({ cls := "LearntReasons$Trail", name := "comes", desc := "(ILLearntReasons$Clause;)V" } : Jvm.MethodName)) ∈ lw_all := lw_g (lw_at lw_m8 142 rfl) rfl
theorem q1927 : (Jvm.Cond.sameMethod "LearntReasons$Trail" "LearntReasons$Trail" "leaves" "()I") ∈ lw_all := lw_g (lw_at lw_m8 143 rfl) rfl
theorem q1929 : (Jvm.Cond.selects "LearntReasons$Trail" ({ cls := "LearntReasons$Trail", name := "leaves", desc := "()I" } : Jvm.MethodName) ({ cls := "LearntReasons$Trail", name := "leaves", desc := "()I" } : Jvm.MethodName)) ∈ lw_all := lw_g (lw_at lw_m8 145 rfl) rfl
theorem q1949 : (Jvm.Cond.castable "LearntReasons$Trail" "java/lang/Object") ∈ lw_tbl := lw_at lw_m8 165 rfl
theorem in_X7 : ∀ w ∈ wsX70, w ∈ lw_all := lw_in wsX70 [1041, 1042, 1043, 1044, 1045, 1046, 1047] (by decide +kernel) (by decide +kernel)

/-! LearntReasons$Search -/
set_option maxRecDepth 100000
def RX8 : String := "LearntReasons$Search"
def TX8 : u_T := fun k => match k with
  | 0 => ("LearntReasons$Trail", "trail", "[I", true)
  | 1 => ("LearntReasons$Trail", "levels", "[I", true)
  | 2 => ("LearntReasons$Trail", "places", "[I", true)
  | 3 => ("LearntReasons$Trail", "values", "[B", true)
  | 4 => ("LearntReasons$Trail", "reasons", "[LLearntReasons$Clause;", true)
  | 5 => ("LearntReasons$Trail", "many", "I", false)
  | 6 => ("LearntReasons$Trail", "level", "I", false)
  | 7 => ("LearntReasons$Search", "watches", "[LLearntReasons$Watch;", true)
  | 8 => ("LearntReasons$Search", "units", "Ljava/util/BitSet;", true)
  | 9 => ("LearntReasons$Search", "falses", "Ljava/util/BitSet;", true)
  | 10 => ("LearntReasons$Search", "seen", "[Z", true)
  | 11 => ("LearntReasons$Search", "left", "[Z", true)
  | 12 => ("LearntReasons$Search", "budget", "I", true)
  | 13 => ("LearntReasons$Search", "conflicts", "I", false)
  | 14 => ("LearntReasons$Search", "since", "I", false)
  | 15 => ("LearntReasons$Search", "anew", "I", false)
  | 16 => ("LearntReasons$Search", "core", "I", false)
  | _ => ("LearntReasons$Search", "this$0", "LLearntReasons;", true)
def tyX8 : Nat → FieldType := fun k => match k with
  | 0 => .array .int
  | 1 => .array .int
  | 2 => .array .int
  | 3 => .array .byte
  | 4 => .array (.object "LearntReasons$Clause")
  | 5 => .int
  | 6 => .int
  | 7 => .array (.object "LearntReasons$Watch")
  | 8 => .object "java/util/BitSet"
  | 9 => .object "java/util/BitSet"
  | 10 => .array .boolean
  | 11 => .array .boolean
  | 12 => .int
  | 13 => .int
  | 14 => .int
  | 15 => .int
  | 16 => .int
  | _ => .object "LearntReasons"
abbrev wsX80 : List Cond := u_ws RX8 TX8 18
set_option maxRecDepth 100000 in
theorem nmX8 : ∀ a, a < 18 → ∀ b, b < 18 → a ≠ b → (TX8 a).2.1 ≠ (TX8 b).2.1 := by decide +kernel
set_option maxRecDepth 100000 in
theorem tyX8_ok : ∀ k, k < 18 → parseFieldDescriptor (TX8 k).2.2.1 = some (tyX8 k) := by decide +kernel
abbrev cX8_init : ByteArray := prog_7_method_1_code
def yX8_init : MethodName := ⟨RX8, "<init>", "(LLearntReasons;I)V"⟩
def dkwX8_init_5 : List UInt8 := [177]
abbrev dktX8_init_5 : List UInt8 := dkwX8_init_5 ++ []
def dkwX8_init_4 : List UInt8 := [58, 4, 25, 4, 180, 0, 66, 154, 0, 9, 42, 25, 4, 182, 0, 70, 167, 255, 222, 42, 28, 181, 0, 74]
abbrev dktX8_init_4 : List UInt8 := dkwX8_init_4 ++ dktX8_init_5
def dkwX8_init_3 : List UInt8 := [185, 0, 48, 1, 0, 78, 45, 185, 0, 54, 1, 0, 153, 0, 31, 45, 185, 0, 60, 1, 0, 192, 0, 64]
abbrev dktX8_init_3 : List UInt8 := dkwX8_init_3 ++ dktX8_init_4
def dkwX8_init_2 : List UInt8 := [181, 0, 31, 42, 16, 31, 188, 4, 181, 0, 35, 42, 180, 0, 3, 180, 0, 38, 180, 0, 42]
abbrev dktX8_init_2 : List UInt8 := dkwX8_init_2 ++ dktX8_init_3
def dkwX8_init_1 : List UInt8 := [183, 0, 23, 181, 0, 24, 42, 187, 0, 21, 89, 183, 0, 23, 181, 0, 28, 42, 16, 31, 188, 4]
abbrev dktX8_init_1 : List UInt8 := dkwX8_init_1 ++ dktX8_init_2
def dkwX8_init_0 : List UInt8 := [42, 43, 181, 0, 3, 42, 183, 0, 9, 42, 16, 62, 189, 0, 15, 181, 0, 17, 42, 187, 0, 21, 89]
abbrev dktX8_init_0 : List UInt8 := dkwX8_init_0 ++ dktX8_init_1
theorem dksX8_init_0 : cX8_init.data.toList.drop 0 = dktX8_init_0 := by decide +kernel
theorem dksX8_init_1 : cX8_init.data.toList.drop 23 = dktX8_init_1 := dk_seg dksX8_init_0 23 rfl rfl
theorem dksX8_init_2 : cX8_init.data.toList.drop 45 = dktX8_init_2 := dk_seg dksX8_init_1 22 rfl rfl
theorem dksX8_init_3 : cX8_init.data.toList.drop 66 = dktX8_init_3 := dk_seg dksX8_init_2 21 rfl rfl
theorem dksX8_init_4 : cX8_init.data.toList.drop 90 = dktX8_init_4 := dk_seg dksX8_init_3 24 rfl rfl
theorem dksX8_init_5 : cX8_init.data.toList.drop 114 = dktX8_init_5 := dk_seg dksX8_init_4 24 rfl rfl
theorem dX8_init_0 : decode cX8_init 0 = .ok (.aload_n 0, 1) := dk_42 (dk_at dksX8_init_0 0 rfl rfl)
theorem dX8_init_1 : decode cX8_init 1 = .ok (.aload_n 1, 1) := dk_43 (dk_at dksX8_init_0 1 rfl rfl)
theorem dX8_init_2 : decode cX8_init 2 = .ok (.putfield 3, 3) := dk_181 0 3 (dk_at dksX8_init_0 2 rfl rfl)
theorem dX8_init_5 : decode cX8_init 5 = .ok (.aload_n 0, 1) := dk_42 (dk_at dksX8_init_0 5 rfl rfl)
theorem dX8_init_6 : decode cX8_init 6 = .ok (.invokespecial 9, 3) := dk_183 0 9 (dk_at dksX8_init_0 6 rfl rfl)
theorem dX8_init_9 : decode cX8_init 9 = .ok (.aload_n 0, 1) := dk_42 (dk_at dksX8_init_0 9 rfl rfl)
theorem dX8_init_10 : decode cX8_init 10 = .ok (.bipush 62, 2) := dk_16 62 (dk_at dksX8_init_0 10 rfl rfl)
theorem dX8_init_12 : decode cX8_init 12 = .ok (.anewarray 15, 3) := dk_189 0 15 (dk_at dksX8_init_0 12 rfl rfl)
theorem dX8_init_15 : decode cX8_init 15 = .ok (.putfield 17, 3) := dk_181 0 17 (dk_at dksX8_init_0 15 rfl rfl)
theorem dX8_init_18 : decode cX8_init 18 = .ok (.aload_n 0, 1) := dk_42 (dk_at dksX8_init_0 18 rfl rfl)
theorem dX8_init_19 : decode cX8_init 19 = .ok (.new 21, 3) := dk_187 0 21 (dk_at dksX8_init_0 19 rfl rfl)
theorem dX8_init_22 : decode cX8_init 22 = .ok (.dup, 1) := dk_89 (dk_at dksX8_init_0 22 rfl rfl)
theorem dX8_init_23 : decode cX8_init 23 = .ok (.invokespecial 23, 3) := dk_183 0 23 (dk_at dksX8_init_1 0 rfl rfl)
theorem dX8_init_26 : decode cX8_init 26 = .ok (.putfield 24, 3) := dk_181 0 24 (dk_at dksX8_init_1 3 rfl rfl)
theorem dX8_init_29 : decode cX8_init 29 = .ok (.aload_n 0, 1) := dk_42 (dk_at dksX8_init_1 6 rfl rfl)
theorem dX8_init_30 : decode cX8_init 30 = .ok (.new 21, 3) := dk_187 0 21 (dk_at dksX8_init_1 7 rfl rfl)
theorem dX8_init_33 : decode cX8_init 33 = .ok (.dup, 1) := dk_89 (dk_at dksX8_init_1 10 rfl rfl)
theorem dX8_init_34 : decode cX8_init 34 = .ok (.invokespecial 23, 3) := dk_183 0 23 (dk_at dksX8_init_1 11 rfl rfl)
theorem dX8_init_37 : decode cX8_init 37 = .ok (.putfield 28, 3) := dk_181 0 28 (dk_at dksX8_init_1 14 rfl rfl)
theorem dX8_init_40 : decode cX8_init 40 = .ok (.aload_n 0, 1) := dk_42 (dk_at dksX8_init_1 17 rfl rfl)
theorem dX8_init_41 : decode cX8_init 41 = .ok (.bipush 31, 2) := dk_16 31 (dk_at dksX8_init_1 18 rfl rfl)
theorem dX8_init_43 : decode cX8_init 43 = .ok (.newarray .boolean, 2) := dk_188_4 (dk_at dksX8_init_1 20 rfl rfl)
theorem dX8_init_45 : decode cX8_init 45 = .ok (.putfield 31, 3) := dk_181 0 31 (dk_at dksX8_init_2 0 rfl rfl)
theorem dX8_init_48 : decode cX8_init 48 = .ok (.aload_n 0, 1) := dk_42 (dk_at dksX8_init_2 3 rfl rfl)
theorem dX8_init_49 : decode cX8_init 49 = .ok (.bipush 31, 2) := dk_16 31 (dk_at dksX8_init_2 4 rfl rfl)
theorem dX8_init_51 : decode cX8_init 51 = .ok (.newarray .boolean, 2) := dk_188_4 (dk_at dksX8_init_2 6 rfl rfl)
theorem dX8_init_53 : decode cX8_init 53 = .ok (.putfield 35, 3) := dk_181 0 35 (dk_at dksX8_init_2 8 rfl rfl)
theorem dX8_init_56 : decode cX8_init 56 = .ok (.aload_n 0, 1) := dk_42 (dk_at dksX8_init_2 11 rfl rfl)
theorem dX8_init_57 : decode cX8_init 57 = .ok (.getfield 3, 3) := dk_180 0 3 (dk_at dksX8_init_2 12 rfl rfl)
theorem dX8_init_60 : decode cX8_init 60 = .ok (.getfield 38, 3) := dk_180 0 38 (dk_at dksX8_init_2 15 rfl rfl)
theorem dX8_init_63 : decode cX8_init 63 = .ok (.getfield 42, 3) := dk_180 0 42 (dk_at dksX8_init_2 18 rfl rfl)
theorem dX8_init_66 : decode cX8_init 66 = .ok (.invokeinterface 48 1, 5) := by decide +kernel
theorem dX8_init_71 : decode cX8_init 71 = .ok (.astore_n 3, 1) := dk_78 (dk_at dksX8_init_3 5 rfl rfl)
theorem dX8_init_72 : decode cX8_init 72 = .ok (.aload_n 3, 1) := dk_45 (dk_at dksX8_init_3 6 rfl rfl)
theorem dX8_init_73 : decode cX8_init 73 = .ok (.invokeinterface 54 1, 5) := by decide +kernel
theorem dX8_init_78 : decode cX8_init 78 = .ok (.ifCond .eq 31, 3) := dk_153 0 31 (dk_at dksX8_init_3 12 rfl rfl)
theorem dX8_init_81 : decode cX8_init 81 = .ok (.aload_n 3, 1) := dk_45 (dk_at dksX8_init_3 15 rfl rfl)
theorem dX8_init_82 : decode cX8_init 82 = .ok (.invokeinterface 60 1, 5) := by decide +kernel
theorem dX8_init_87 : decode cX8_init 87 = .ok (.checkcast 64, 3) := dk_192 0 64 (dk_at dksX8_init_3 21 rfl rfl)
theorem dX8_init_90 : decode cX8_init 90 = .ok (.astore 4, 2) := dk_58 4 (dk_at dksX8_init_4 0 rfl rfl)
theorem dX8_init_92 : decode cX8_init 92 = .ok (.aload 4, 2) := dk_25 4 (dk_at dksX8_init_4 2 rfl rfl)
theorem dX8_init_94 : decode cX8_init 94 = .ok (.getfield 66, 3) := dk_180 0 66 (dk_at dksX8_init_4 4 rfl rfl)
theorem dX8_init_97 : decode cX8_init 97 = .ok (.ifCond .ne 9, 3) := dk_154 0 9 (dk_at dksX8_init_4 7 rfl rfl)
theorem dX8_init_100 : decode cX8_init 100 = .ok (.aload_n 0, 1) := dk_42 (dk_at dksX8_init_4 10 rfl rfl)
theorem dX8_init_101 : decode cX8_init 101 = .ok (.aload 4, 2) := dk_25 4 (dk_at dksX8_init_4 11 rfl rfl)
theorem dX8_init_103 : decode cX8_init 103 = .ok (.invokevirtual 70, 3) := dk_182 0 70 (dk_at dksX8_init_4 13 rfl rfl)
theorem dX8_init_106 : decode cX8_init 106 = .ok (.goto (-34), 3) := dk_167 255 222 (dk_at dksX8_init_4 16 rfl rfl)
theorem dX8_init_109 : decode cX8_init 109 = .ok (.aload_n 0, 1) := dk_42 (dk_at dksX8_init_4 19 rfl rfl)
theorem dX8_init_110 : decode cX8_init 110 = .ok (.iload_n 2, 1) := dk_28 (dk_at dksX8_init_4 20 rfl rfl)
theorem dX8_init_111 : decode cX8_init 111 = .ok (.putfield 74, 3) := dk_181 0 74 (dk_at dksX8_init_4 21 rfl rfl)
theorem dX8_init_114 : decode cX8_init 114 = .ok (.return_, 1) := dk_177 (dk_at dksX8_init_5 0 rfl rfl)
abbrev cX8_watched : ByteArray := prog_7_method_3_code
def yX8_watched : MethodName := ⟨RX8, "watched", "(LLearntReasons$Clause;)V"⟩
def dkwX8_watched_2 : List UInt8 := [167, 0, 14, 42, 180, 0, 24, 43, 180, 0, 102, 182, 0, 105, 177]
abbrev dktX8_watched_2 : List UInt8 := dkwX8_watched_2 ++ []
def dkwX8_watched_1 : List UInt8 := [43, 180, 0, 89, 182, 0, 99, 43, 182, 0, 92, 4, 164, 0, 15, 42, 43, 43, 180, 0, 96, 182, 0, 99]
abbrev dktX8_watched_1 : List UInt8 := dkwX8_watched_1 ++ dktX8_watched_2
def dkwX8_watched_0 : List UInt8 := [43, 3, 181, 0, 89, 43, 43, 182, 0, 92, 4, 164, 0, 7, 4, 167, 0, 4, 3, 181, 0, 96, 42, 43]
abbrev dktX8_watched_0 : List UInt8 := dkwX8_watched_0 ++ dktX8_watched_1
theorem dksX8_watched_0 : cX8_watched.data.toList.drop 0 = dktX8_watched_0 := by decide +kernel
theorem dksX8_watched_1 : cX8_watched.data.toList.drop 24 = dktX8_watched_1 := dk_seg dksX8_watched_0 24 rfl rfl
theorem dksX8_watched_2 : cX8_watched.data.toList.drop 48 = dktX8_watched_2 := dk_seg dksX8_watched_1 24 rfl rfl
theorem dX8_watched_0 : decode cX8_watched 0 = .ok (.aload_n 1, 1) := dk_43 (dk_at dksX8_watched_0 0 rfl rfl)
theorem dX8_watched_1 : decode cX8_watched 1 = .ok (.iconst 0, 1) := dk_3 (dk_at dksX8_watched_0 1 rfl rfl)
theorem dX8_watched_2 : decode cX8_watched 2 = .ok (.putfield 89, 3) := dk_181 0 89 (dk_at dksX8_watched_0 2 rfl rfl)
theorem dX8_watched_5 : decode cX8_watched 5 = .ok (.aload_n 1, 1) := dk_43 (dk_at dksX8_watched_0 5 rfl rfl)
theorem dX8_watched_6 : decode cX8_watched 6 = .ok (.aload_n 1, 1) := dk_43 (dk_at dksX8_watched_0 6 rfl rfl)
theorem dX8_watched_7 : decode cX8_watched 7 = .ok (.invokevirtual 92, 3) := dk_182 0 92 (dk_at dksX8_watched_0 7 rfl rfl)
theorem dX8_watched_10 : decode cX8_watched 10 = .ok (.iconst 1, 1) := dk_4 (dk_at dksX8_watched_0 10 rfl rfl)
theorem dX8_watched_11 : decode cX8_watched 11 = .ok (.if_icmp .le 7, 3) := dk_164 0 7 (dk_at dksX8_watched_0 11 rfl rfl)
theorem dX8_watched_14 : decode cX8_watched 14 = .ok (.iconst 1, 1) := dk_4 (dk_at dksX8_watched_0 14 rfl rfl)
theorem dX8_watched_15 : decode cX8_watched 15 = .ok (.goto 4, 3) := dk_167 0 4 (dk_at dksX8_watched_0 15 rfl rfl)
theorem dX8_watched_18 : decode cX8_watched 18 = .ok (.iconst 0, 1) := dk_3 (dk_at dksX8_watched_0 18 rfl rfl)
theorem dX8_watched_19 : decode cX8_watched 19 = .ok (.putfield 96, 3) := dk_181 0 96 (dk_at dksX8_watched_0 19 rfl rfl)
theorem dX8_watched_22 : decode cX8_watched 22 = .ok (.aload_n 0, 1) := dk_42 (dk_at dksX8_watched_0 22 rfl rfl)
theorem dX8_watched_23 : decode cX8_watched 23 = .ok (.aload_n 1, 1) := dk_43 (dk_at dksX8_watched_0 23 rfl rfl)
theorem dX8_watched_24 : decode cX8_watched 24 = .ok (.aload_n 1, 1) := dk_43 (dk_at dksX8_watched_1 0 rfl rfl)
theorem dX8_watched_25 : decode cX8_watched 25 = .ok (.getfield 89, 3) := dk_180 0 89 (dk_at dksX8_watched_1 1 rfl rfl)
theorem dX8_watched_28 : decode cX8_watched 28 = .ok (.invokevirtual 99, 3) := dk_182 0 99 (dk_at dksX8_watched_1 4 rfl rfl)
theorem dX8_watched_31 : decode cX8_watched 31 = .ok (.aload_n 1, 1) := dk_43 (dk_at dksX8_watched_1 7 rfl rfl)
theorem dX8_watched_32 : decode cX8_watched 32 = .ok (.invokevirtual 92, 3) := dk_182 0 92 (dk_at dksX8_watched_1 8 rfl rfl)
theorem dX8_watched_35 : decode cX8_watched 35 = .ok (.iconst 1, 1) := dk_4 (dk_at dksX8_watched_1 11 rfl rfl)
theorem dX8_watched_36 : decode cX8_watched 36 = .ok (.if_icmp .le 15, 3) := dk_164 0 15 (dk_at dksX8_watched_1 12 rfl rfl)
theorem dX8_watched_39 : decode cX8_watched 39 = .ok (.aload_n 0, 1) := dk_42 (dk_at dksX8_watched_1 15 rfl rfl)
theorem dX8_watched_40 : decode cX8_watched 40 = .ok (.aload_n 1, 1) := dk_43 (dk_at dksX8_watched_1 16 rfl rfl)
theorem dX8_watched_41 : decode cX8_watched 41 = .ok (.aload_n 1, 1) := dk_43 (dk_at dksX8_watched_1 17 rfl rfl)
theorem dX8_watched_42 : decode cX8_watched 42 = .ok (.getfield 96, 3) := dk_180 0 96 (dk_at dksX8_watched_1 18 rfl rfl)
theorem dX8_watched_45 : decode cX8_watched 45 = .ok (.invokevirtual 99, 3) := dk_182 0 99 (dk_at dksX8_watched_1 21 rfl rfl)
theorem dX8_watched_48 : decode cX8_watched 48 = .ok (.goto 14, 3) := dk_167 0 14 (dk_at dksX8_watched_2 0 rfl rfl)
theorem dX8_watched_51 : decode cX8_watched 51 = .ok (.aload_n 0, 1) := dk_42 (dk_at dksX8_watched_2 3 rfl rfl)
theorem dX8_watched_52 : decode cX8_watched 52 = .ok (.getfield 24, 3) := dk_180 0 24 (dk_at dksX8_watched_2 4 rfl rfl)
theorem dX8_watched_55 : decode cX8_watched 55 = .ok (.aload_n 1, 1) := dk_43 (dk_at dksX8_watched_2 7 rfl rfl)
theorem dX8_watched_56 : decode cX8_watched 56 = .ok (.getfield 102, 3) := dk_180 0 102 (dk_at dksX8_watched_2 8 rfl rfl)
theorem dX8_watched_59 : decode cX8_watched 59 = .ok (.invokevirtual 105, 3) := dk_182 0 105 (dk_at dksX8_watched_2 11 rfl rfl)
theorem dX8_watched_62 : decode cX8_watched 62 = .ok (.return_, 1) := dk_177 (dk_at dksX8_watched_2 14 rfl rfl)
abbrev cX8_watches : ByteArray := prog_7_method_2_code
def yX8_watches : MethodName := ⟨RX8, "watches", "(LLearntReasons$Clause;I)V"⟩
def dkwX8_watches_1 : List UInt8 := [29, 50, 183, 0, 86, 83, 177]
abbrev dktX8_watches_1 : List UInt8 := dkwX8_watches_1 ++ []
def dkwX8_watches_0 : List UInt8 := [43, 180, 0, 78, 28, 46, 184, 0, 82, 62, 42, 180, 0, 17, 29, 187, 0, 15, 89, 43, 42, 180, 0, 17]
abbrev dktX8_watches_0 : List UInt8 := dkwX8_watches_0 ++ dktX8_watches_1
theorem dksX8_watches_0 : cX8_watches.data.toList.drop 0 = dktX8_watches_0 := by decide +kernel
theorem dksX8_watches_1 : cX8_watches.data.toList.drop 24 = dktX8_watches_1 := dk_seg dksX8_watches_0 24 rfl rfl
theorem dX8_watches_0 : decode cX8_watches 0 = .ok (.aload_n 1, 1) := dk_43 (dk_at dksX8_watches_0 0 rfl rfl)
theorem dX8_watches_1 : decode cX8_watches 1 = .ok (.getfield 78, 3) := dk_180 0 78 (dk_at dksX8_watches_0 1 rfl rfl)
theorem dX8_watches_4 : decode cX8_watches 4 = .ok (.iload_n 2, 1) := dk_28 (dk_at dksX8_watches_0 4 rfl rfl)
theorem dX8_watches_5 : decode cX8_watches 5 = .ok (.iaload, 1) := dk_46 (dk_at dksX8_watches_0 5 rfl rfl)
theorem dX8_watches_6 : decode cX8_watches 6 = .ok (.invokestatic 82, 3) := dk_184 0 82 (dk_at dksX8_watches_0 6 rfl rfl)
theorem dX8_watches_9 : decode cX8_watches 9 = .ok (.istore_n 3, 1) := dk_62 (dk_at dksX8_watches_0 9 rfl rfl)
theorem dX8_watches_10 : decode cX8_watches 10 = .ok (.aload_n 0, 1) := dk_42 (dk_at dksX8_watches_0 10 rfl rfl)
theorem dX8_watches_11 : decode cX8_watches 11 = .ok (.getfield 17, 3) := dk_180 0 17 (dk_at dksX8_watches_0 11 rfl rfl)
theorem dX8_watches_14 : decode cX8_watches 14 = .ok (.iload_n 3, 1) := dk_29 (dk_at dksX8_watches_0 14 rfl rfl)
theorem dX8_watches_15 : decode cX8_watches 15 = .ok (.new 15, 3) := dk_187 0 15 (dk_at dksX8_watches_0 15 rfl rfl)
theorem dX8_watches_18 : decode cX8_watches 18 = .ok (.dup, 1) := dk_89 (dk_at dksX8_watches_0 18 rfl rfl)
theorem dX8_watches_19 : decode cX8_watches 19 = .ok (.aload_n 1, 1) := dk_43 (dk_at dksX8_watches_0 19 rfl rfl)
theorem dX8_watches_20 : decode cX8_watches 20 = .ok (.aload_n 0, 1) := dk_42 (dk_at dksX8_watches_0 20 rfl rfl)
theorem dX8_watches_21 : decode cX8_watches 21 = .ok (.getfield 17, 3) := dk_180 0 17 (dk_at dksX8_watches_0 21 rfl rfl)
theorem dX8_watches_24 : decode cX8_watches 24 = .ok (.iload_n 3, 1) := dk_29 (dk_at dksX8_watches_1 0 rfl rfl)
theorem dX8_watches_25 : decode cX8_watches 25 = .ok (.aaload, 1) := dk_50 (dk_at dksX8_watches_1 1 rfl rfl)
theorem dX8_watches_26 : decode cX8_watches 26 = .ok (.invokespecial 86, 3) := dk_183 0 86 (dk_at dksX8_watches_1 2 rfl rfl)
theorem dX8_watches_29 : decode cX8_watches 29 = .ok (.aastore, 1) := dk_83 (dk_at dksX8_watches_1 5 rfl rfl)
theorem dX8_watches_30 : decode cX8_watches 30 = .ok (.return_, 1) := dk_177 (dk_at dksX8_watches_1 6 rfl rfl)
abbrev cX8_goes : ByteArray := prog_7_method_24_code
def yX8_goes : MethodName := ⟨RX8, "goes", "()I"⟩
def dkwX8_goes_6 : List UInt8 := [167, 255, 213, 42, 2, 182, 0, 195, 27, 172]
abbrev dktX8_goes_6 : List UInt8 := dkwX8_goes_6 ++ []
def dkwX8_goes_5 : List UInt8 := [180, 1, 36, 28, 42, 180, 0, 164, 28, 51, 158, 0, 7, 4, 167, 0, 4, 3, 79, 132, 2, 1]
abbrev dktX8_goes_5 : List UInt8 := dkwX8_goes_5 ++ dktX8_goes_6
def dkwX8_goes_4 : List UInt8 := [61, 28, 42, 180, 0, 3, 180, 0, 38, 180, 0, 172, 163, 0, 35, 42, 180, 0, 3, 180, 0, 38]
abbrev dktX8_goes_4 : List UInt8 := dkwX8_goes_4 ++ dktX8_goes_5
def dkwX8_goes_3 : List UInt8 := [180, 0, 3, 180, 0, 38, 42, 180, 0, 3, 180, 0, 38, 180, 0, 172, 4, 96, 188, 10, 181, 1, 36, 4]
abbrev dktX8_goes_3 : List UInt8 := dkwX8_goes_3 ++ dktX8_goes_4
def dkwX8_goes_2 : List UInt8 := [180, 0, 38, 27, 154, 0, 10, 42, 180, 0, 253, 167, 0, 4, 2, 181, 1, 35, 27, 4, 160, 0, 75, 42]
abbrev dktX8_goes_2 : List UInt8 := dkwX8_goes_2 ++ dktX8_goes_3
def dkwX8_goes_1 : List UInt8 := [42, 182, 1, 29, 60, 167, 255, 246, 42, 180, 0, 3, 180, 0, 38, 27, 181, 1, 32, 42, 180, 0, 3]
abbrev dktX8_goes_1 : List UInt8 := dkwX8_goes_1 ++ dktX8_goes_2
def dkwX8_goes_0 : List UInt8 := [42, 180, 0, 3, 180, 0, 38, 180, 1, 3, 153, 0, 7, 3, 167, 0, 4, 2, 60, 27, 2, 160, 0, 11]
abbrev dktX8_goes_0 : List UInt8 := dkwX8_goes_0 ++ dktX8_goes_1
theorem dksX8_goes_0 : cX8_goes.data.toList.drop 0 = dktX8_goes_0 := by decide +kernel
theorem dksX8_goes_1 : cX8_goes.data.toList.drop 24 = dktX8_goes_1 := dk_seg dksX8_goes_0 24 rfl rfl
theorem dksX8_goes_2 : cX8_goes.data.toList.drop 47 = dktX8_goes_2 := dk_seg dksX8_goes_1 23 rfl rfl
theorem dksX8_goes_3 : cX8_goes.data.toList.drop 71 = dktX8_goes_3 := dk_seg dksX8_goes_2 24 rfl rfl
theorem dksX8_goes_4 : cX8_goes.data.toList.drop 95 = dktX8_goes_4 := dk_seg dksX8_goes_3 24 rfl rfl
theorem dksX8_goes_5 : cX8_goes.data.toList.drop 117 = dktX8_goes_5 := dk_seg dksX8_goes_4 22 rfl rfl
theorem dksX8_goes_6 : cX8_goes.data.toList.drop 139 = dktX8_goes_6 := dk_seg dksX8_goes_5 22 rfl rfl
theorem dX8_goes_0 : decode cX8_goes 0 = .ok (.aload_n 0, 1) := dk_42 (dk_at dksX8_goes_0 0 rfl rfl)
theorem dX8_goes_1 : decode cX8_goes 1 = .ok (.getfield 3, 3) := dk_180 0 3 (dk_at dksX8_goes_0 1 rfl rfl)
theorem dX8_goes_4 : decode cX8_goes 4 = .ok (.getfield 38, 3) := dk_180 0 38 (dk_at dksX8_goes_0 4 rfl rfl)
theorem dX8_goes_7 : decode cX8_goes 7 = .ok (.getfield 259, 3) := dk_180 1 3 (dk_at dksX8_goes_0 7 rfl rfl)
theorem dX8_goes_10 : decode cX8_goes 10 = .ok (.ifCond .eq 7, 3) := dk_153 0 7 (dk_at dksX8_goes_0 10 rfl rfl)
theorem dX8_goes_13 : decode cX8_goes 13 = .ok (.iconst 0, 1) := dk_3 (dk_at dksX8_goes_0 13 rfl rfl)
theorem dX8_goes_14 : decode cX8_goes 14 = .ok (.goto 4, 3) := dk_167 0 4 (dk_at dksX8_goes_0 14 rfl rfl)
theorem dX8_goes_17 : decode cX8_goes 17 = .ok (.iconst (-1), 1) := dk_2 (dk_at dksX8_goes_0 17 rfl rfl)
theorem dX8_goes_18 : decode cX8_goes 18 = .ok (.istore_n 1, 1) := dk_60 (dk_at dksX8_goes_0 18 rfl rfl)
theorem dX8_goes_19 : decode cX8_goes 19 = .ok (.iload_n 1, 1) := dk_27 (dk_at dksX8_goes_0 19 rfl rfl)
theorem dX8_goes_20 : decode cX8_goes 20 = .ok (.iconst (-1), 1) := dk_2 (dk_at dksX8_goes_0 20 rfl rfl)
theorem dX8_goes_21 : decode cX8_goes 21 = .ok (.if_icmp .ne 11, 3) := dk_160 0 11 (dk_at dksX8_goes_0 21 rfl rfl)
theorem dX8_goes_24 : decode cX8_goes 24 = .ok (.aload_n 0, 1) := dk_42 (dk_at dksX8_goes_1 0 rfl rfl)
theorem dX8_goes_25 : decode cX8_goes 25 = .ok (.invokevirtual 285, 3) := dk_182 1 29 (dk_at dksX8_goes_1 1 rfl rfl)
theorem dX8_goes_28 : decode cX8_goes 28 = .ok (.istore_n 1, 1) := dk_60 (dk_at dksX8_goes_1 4 rfl rfl)
theorem dX8_goes_29 : decode cX8_goes 29 = .ok (.goto (-10), 3) := dk_167 255 246 (dk_at dksX8_goes_1 5 rfl rfl)
theorem dX8_goes_32 : decode cX8_goes 32 = .ok (.aload_n 0, 1) := dk_42 (dk_at dksX8_goes_1 8 rfl rfl)
theorem dX8_goes_33 : decode cX8_goes 33 = .ok (.getfield 3, 3) := dk_180 0 3 (dk_at dksX8_goes_1 9 rfl rfl)
theorem dX8_goes_36 : decode cX8_goes 36 = .ok (.getfield 38, 3) := dk_180 0 38 (dk_at dksX8_goes_1 12 rfl rfl)
theorem dX8_goes_39 : decode cX8_goes 39 = .ok (.iload_n 1, 1) := dk_27 (dk_at dksX8_goes_1 15 rfl rfl)
theorem dX8_goes_40 : decode cX8_goes 40 = .ok (.putfield 288, 3) := dk_181 1 32 (dk_at dksX8_goes_1 16 rfl rfl)
theorem dX8_goes_43 : decode cX8_goes 43 = .ok (.aload_n 0, 1) := dk_42 (dk_at dksX8_goes_1 19 rfl rfl)
theorem dX8_goes_44 : decode cX8_goes 44 = .ok (.getfield 3, 3) := dk_180 0 3 (dk_at dksX8_goes_1 20 rfl rfl)
theorem dX8_goes_47 : decode cX8_goes 47 = .ok (.getfield 38, 3) := dk_180 0 38 (dk_at dksX8_goes_2 0 rfl rfl)
theorem dX8_goes_50 : decode cX8_goes 50 = .ok (.iload_n 1, 1) := dk_27 (dk_at dksX8_goes_2 3 rfl rfl)
theorem dX8_goes_51 : decode cX8_goes 51 = .ok (.ifCond .ne 10, 3) := dk_154 0 10 (dk_at dksX8_goes_2 4 rfl rfl)
theorem dX8_goes_54 : decode cX8_goes 54 = .ok (.aload_n 0, 1) := dk_42 (dk_at dksX8_goes_2 7 rfl rfl)
theorem dX8_goes_55 : decode cX8_goes 55 = .ok (.getfield 253, 3) := dk_180 0 253 (dk_at dksX8_goes_2 8 rfl rfl)
theorem dX8_goes_58 : decode cX8_goes 58 = .ok (.goto 4, 3) := dk_167 0 4 (dk_at dksX8_goes_2 11 rfl rfl)
theorem dX8_goes_61 : decode cX8_goes 61 = .ok (.iconst (-1), 1) := dk_2 (dk_at dksX8_goes_2 14 rfl rfl)
theorem dX8_goes_62 : decode cX8_goes 62 = .ok (.putfield 291, 3) := dk_181 1 35 (dk_at dksX8_goes_2 15 rfl rfl)
theorem dX8_goes_65 : decode cX8_goes 65 = .ok (.iload_n 1, 1) := dk_27 (dk_at dksX8_goes_2 18 rfl rfl)
theorem dX8_goes_66 : decode cX8_goes 66 = .ok (.iconst 1, 1) := dk_4 (dk_at dksX8_goes_2 19 rfl rfl)
theorem dX8_goes_67 : decode cX8_goes 67 = .ok (.if_icmp .ne 75, 3) := dk_160 0 75 (dk_at dksX8_goes_2 20 rfl rfl)
theorem dX8_goes_70 : decode cX8_goes 70 = .ok (.aload_n 0, 1) := dk_42 (dk_at dksX8_goes_2 23 rfl rfl)
theorem dX8_goes_71 : decode cX8_goes 71 = .ok (.getfield 3, 3) := dk_180 0 3 (dk_at dksX8_goes_3 0 rfl rfl)
theorem dX8_goes_74 : decode cX8_goes 74 = .ok (.getfield 38, 3) := dk_180 0 38 (dk_at dksX8_goes_3 3 rfl rfl)
theorem dX8_goes_77 : decode cX8_goes 77 = .ok (.aload_n 0, 1) := dk_42 (dk_at dksX8_goes_3 6 rfl rfl)
theorem dX8_goes_78 : decode cX8_goes 78 = .ok (.getfield 3, 3) := dk_180 0 3 (dk_at dksX8_goes_3 7 rfl rfl)
theorem dX8_goes_81 : decode cX8_goes 81 = .ok (.getfield 38, 3) := dk_180 0 38 (dk_at dksX8_goes_3 10 rfl rfl)
theorem dX8_goes_84 : decode cX8_goes 84 = .ok (.getfield 172, 3) := dk_180 0 172 (dk_at dksX8_goes_3 13 rfl rfl)
theorem dX8_goes_87 : decode cX8_goes 87 = .ok (.iconst 1, 1) := dk_4 (dk_at dksX8_goes_3 16 rfl rfl)
theorem dX8_goes_88 : decode cX8_goes 88 = .ok (.iadd, 1) := dk_96 (dk_at dksX8_goes_3 17 rfl rfl)
theorem dX8_goes_89 : decode cX8_goes 89 = .ok (.newarray .int, 2) := dk_188_10 (dk_at dksX8_goes_3 18 rfl rfl)
theorem dX8_goes_91 : decode cX8_goes 91 = .ok (.putfield 292, 3) := dk_181 1 36 (dk_at dksX8_goes_3 20 rfl rfl)
theorem dX8_goes_94 : decode cX8_goes 94 = .ok (.iconst 1, 1) := dk_4 (dk_at dksX8_goes_3 23 rfl rfl)
theorem dX8_goes_95 : decode cX8_goes 95 = .ok (.istore_n 2, 1) := dk_61 (dk_at dksX8_goes_4 0 rfl rfl)
theorem dX8_goes_96 : decode cX8_goes 96 = .ok (.iload_n 2, 1) := dk_28 (dk_at dksX8_goes_4 1 rfl rfl)
theorem dX8_goes_97 : decode cX8_goes 97 = .ok (.aload_n 0, 1) := dk_42 (dk_at dksX8_goes_4 2 rfl rfl)
theorem dX8_goes_98 : decode cX8_goes 98 = .ok (.getfield 3, 3) := dk_180 0 3 (dk_at dksX8_goes_4 3 rfl rfl)
theorem dX8_goes_101 : decode cX8_goes 101 = .ok (.getfield 38, 3) := dk_180 0 38 (dk_at dksX8_goes_4 6 rfl rfl)
theorem dX8_goes_104 : decode cX8_goes 104 = .ok (.getfield 172, 3) := dk_180 0 172 (dk_at dksX8_goes_4 9 rfl rfl)
theorem dX8_goes_107 : decode cX8_goes 107 = .ok (.if_icmp .gt 35, 3) := dk_163 0 35 (dk_at dksX8_goes_4 12 rfl rfl)
theorem dX8_goes_110 : decode cX8_goes 110 = .ok (.aload_n 0, 1) := dk_42 (dk_at dksX8_goes_4 15 rfl rfl)
theorem dX8_goes_111 : decode cX8_goes 111 = .ok (.getfield 3, 3) := dk_180 0 3 (dk_at dksX8_goes_4 16 rfl rfl)
theorem dX8_goes_114 : decode cX8_goes 114 = .ok (.getfield 38, 3) := dk_180 0 38 (dk_at dksX8_goes_4 19 rfl rfl)
theorem dX8_goes_117 : decode cX8_goes 117 = .ok (.getfield 292, 3) := dk_180 1 36 (dk_at dksX8_goes_5 0 rfl rfl)
theorem dX8_goes_120 : decode cX8_goes 120 = .ok (.iload_n 2, 1) := dk_28 (dk_at dksX8_goes_5 3 rfl rfl)
theorem dX8_goes_121 : decode cX8_goes 121 = .ok (.aload_n 0, 1) := dk_42 (dk_at dksX8_goes_5 4 rfl rfl)
theorem dX8_goes_122 : decode cX8_goes 122 = .ok (.getfield 164, 3) := dk_180 0 164 (dk_at dksX8_goes_5 5 rfl rfl)
theorem dX8_goes_125 : decode cX8_goes 125 = .ok (.iload_n 2, 1) := dk_28 (dk_at dksX8_goes_5 8 rfl rfl)
theorem dX8_goes_126 : decode cX8_goes 126 = .ok (.baload, 1) := dk_51 (dk_at dksX8_goes_5 9 rfl rfl)
theorem dX8_goes_127 : decode cX8_goes 127 = .ok (.ifCond .le 7, 3) := dk_158 0 7 (dk_at dksX8_goes_5 10 rfl rfl)
theorem dX8_goes_130 : decode cX8_goes 130 = .ok (.iconst 1, 1) := dk_4 (dk_at dksX8_goes_5 13 rfl rfl)
theorem dX8_goes_131 : decode cX8_goes 131 = .ok (.goto 4, 3) := dk_167 0 4 (dk_at dksX8_goes_5 14 rfl rfl)
theorem dX8_goes_134 : decode cX8_goes 134 = .ok (.iconst 0, 1) := dk_3 (dk_at dksX8_goes_5 17 rfl rfl)
theorem dX8_goes_135 : decode cX8_goes 135 = .ok (.iastore, 1) := dk_79 (dk_at dksX8_goes_5 18 rfl rfl)
theorem dX8_goes_136 : decode cX8_goes 136 = .ok (.iinc 2 1, 3) := dk_132 2 1 (dk_at dksX8_goes_5 19 rfl rfl)
theorem dX8_goes_139 : decode cX8_goes 139 = .ok (.goto (-43), 3) := dk_167 255 213 (dk_at dksX8_goes_6 0 rfl rfl)
theorem dX8_goes_142 : decode cX8_goes 142 = .ok (.aload_n 0, 1) := dk_42 (dk_at dksX8_goes_6 3 rfl rfl)
theorem dX8_goes_143 : decode cX8_goes 143 = .ok (.iconst (-1), 1) := dk_2 (dk_at dksX8_goes_6 4 rfl rfl)
theorem dX8_goes_144 : decode cX8_goes 144 = .ok (.invokevirtual 195, 3) := dk_182 0 195 (dk_at dksX8_goes_6 5 rfl rfl)
theorem dX8_goes_147 : decode cX8_goes 147 = .ok (.iload_n 1, 1) := dk_27 (dk_at dksX8_goes_6 8 rfl rfl)
theorem dX8_goes_148 : decode cX8_goes 148 = .ok (.ireturn, 1) := dk_172 (dk_at dksX8_goes_6 9 rfl rfl)
abbrev cX8_steps : ByteArray := prog_7_method_23_code
def yX8_steps : MethodName := ⟨RX8, "steps", "()I"⟩
def dkwX8_steps_10 : List UInt8 := [21, 4, 51, 153, 0, 8, 21, 4, 167, 0, 6, 21, 4, 116, 182, 1, 23, 2, 172]
abbrev dktX8_steps_10 : List UInt8 := dkwX8_steps_10 ++ []
def dkwX8_steps_9 : List UInt8 := [180, 0, 38, 180, 0, 214, 4, 92, 46, 4, 96, 79, 42, 42, 180, 0, 3, 180, 0, 38, 180, 0, 142]
abbrev dktX8_steps_9 : List UInt8 := dkwX8_steps_9 ++ dktX8_steps_10
def dkwX8_steps_8 : List UInt8 := [29, 46, 182, 1, 23, 2, 172, 42, 182, 1, 26, 54, 4, 21, 4, 154, 0, 5, 4, 172, 42, 180, 0, 3]
abbrev dktX8_steps_8 : List UInt8 := dkwX8_steps_8 ++ dktX8_steps_9
def dkwX8_steps_7 : List UInt8 := [182, 0, 124, 156, 0, 10, 42, 29, 182, 1, 20, 3, 172, 42, 42, 180, 0, 3, 180, 0, 38, 180, 0, 250]
abbrev dktX8_steps_7 : List UInt8 := dkwX8_steps_7 ++ dktX8_steps_8
def dkwX8_steps_6 : List UInt8 := [182, 1, 17, 62, 29, 2, 159, 0, 47, 42, 42, 180, 0, 3, 180, 0, 38, 180, 0, 250, 29, 46]
abbrev dktX8_steps_6 : List UInt8 := dkwX8_steps_6 ++ dktX8_steps_7
def dkwX8_steps_5 : List UInt8 := [5, 92, 46, 4, 96, 79, 42, 42, 44, 180, 0, 78, 182, 0, 244, 44, 182, 0, 213, 2, 172, 42]
abbrev dktX8_steps_5 : List UInt8 := dkwX8_steps_5 ++ dktX8_steps_6
def dkwX8_steps_4 : List UInt8 := [198, 0, 45, 42, 180, 0, 24, 44, 180, 0, 102, 182, 0, 211, 42, 180, 0, 3, 180, 0, 38, 180, 0, 214]
abbrev dktX8_steps_4 : List UInt8 := dkwX8_steps_4 ++ dktX8_steps_5
def dkwX8_steps_3 : List UInt8 := [180, 0, 217, 42, 180, 0, 74, 160, 0, 7, 5, 167, 0, 4, 2, 172, 42, 182, 1, 13, 77, 44]
abbrev dktX8_steps_3 : List UInt8 := dkwX8_steps_3 ++ dktX8_steps_4
def dkwX8_steps_2 : List UInt8 := [42, 42, 180, 0, 3, 180, 0, 38, 180, 0, 42, 27, 185, 0, 240, 2, 0, 192, 0, 64, 182, 1, 10, 42]
abbrev dktX8_steps_2 : List UInt8 := dkwX8_steps_2 ++ dktX8_steps_3
def dkwX8_steps_1 : List UInt8 := [172, 42, 180, 0, 3, 180, 0, 38, 180, 0, 42, 185, 1, 9, 1, 0, 17, 1, 144, 160, 0, 5, 6, 172]
abbrev dktX8_steps_1 : List UInt8 := dkwX8_steps_1 ++ dktX8_steps_2
def dkwX8_steps_0 : List UInt8 := [42, 180, 0, 28, 3, 182, 0, 237, 60, 27, 155, 0, 78, 42, 180, 0, 145, 154, 0, 8, 42, 182, 1, 6]
abbrev dktX8_steps_0 : List UInt8 := dkwX8_steps_0 ++ dktX8_steps_1
theorem dksX8_steps_0 : cX8_steps.data.toList.drop 0 = dktX8_steps_0 := by decide +kernel
theorem dksX8_steps_1 : cX8_steps.data.toList.drop 24 = dktX8_steps_1 := dk_seg dksX8_steps_0 24 rfl rfl
theorem dksX8_steps_2 : cX8_steps.data.toList.drop 48 = dktX8_steps_2 := dk_seg dksX8_steps_1 24 rfl rfl
theorem dksX8_steps_3 : cX8_steps.data.toList.drop 72 = dktX8_steps_3 := dk_seg dksX8_steps_2 24 rfl rfl
theorem dksX8_steps_4 : cX8_steps.data.toList.drop 94 = dktX8_steps_4 := dk_seg dksX8_steps_3 22 rfl rfl
theorem dksX8_steps_5 : cX8_steps.data.toList.drop 118 = dktX8_steps_5 := dk_seg dksX8_steps_4 24 rfl rfl
theorem dksX8_steps_6 : cX8_steps.data.toList.drop 140 = dktX8_steps_6 := dk_seg dksX8_steps_5 22 rfl rfl
theorem dksX8_steps_7 : cX8_steps.data.toList.drop 162 = dktX8_steps_7 := dk_seg dksX8_steps_6 22 rfl rfl
theorem dksX8_steps_8 : cX8_steps.data.toList.drop 186 = dktX8_steps_8 := dk_seg dksX8_steps_7 24 rfl rfl
theorem dksX8_steps_9 : cX8_steps.data.toList.drop 210 = dktX8_steps_9 := dk_seg dksX8_steps_8 24 rfl rfl
theorem dksX8_steps_10 : cX8_steps.data.toList.drop 233 = dktX8_steps_10 := dk_seg dksX8_steps_9 23 rfl rfl
theorem dX8_steps_0 : decode cX8_steps 0 = .ok (.aload_n 0, 1) := dk_42 (dk_at dksX8_steps_0 0 rfl rfl)
theorem dX8_steps_1 : decode cX8_steps 1 = .ok (.getfield 28, 3) := dk_180 0 28 (dk_at dksX8_steps_0 1 rfl rfl)
theorem dX8_steps_4 : decode cX8_steps 4 = .ok (.iconst 0, 1) := dk_3 (dk_at dksX8_steps_0 4 rfl rfl)
theorem dX8_steps_5 : decode cX8_steps 5 = .ok (.invokevirtual 237, 3) := dk_182 0 237 (dk_at dksX8_steps_0 5 rfl rfl)
theorem dX8_steps_8 : decode cX8_steps 8 = .ok (.istore_n 1, 1) := dk_60 (dk_at dksX8_steps_0 8 rfl rfl)
theorem dX8_steps_9 : decode cX8_steps 9 = .ok (.iload_n 1, 1) := dk_27 (dk_at dksX8_steps_0 9 rfl rfl)
theorem dX8_steps_10 : decode cX8_steps 10 = .ok (.ifCond .lt 78, 3) := dk_155 0 78 (dk_at dksX8_steps_0 10 rfl rfl)
theorem dX8_steps_13 : decode cX8_steps 13 = .ok (.aload_n 0, 1) := dk_42 (dk_at dksX8_steps_0 13 rfl rfl)
theorem dX8_steps_14 : decode cX8_steps 14 = .ok (.getfield 145, 3) := dk_180 0 145 (dk_at dksX8_steps_0 14 rfl rfl)
theorem dX8_steps_17 : decode cX8_steps 17 = .ok (.ifCond .ne 8, 3) := dk_154 0 8 (dk_at dksX8_steps_0 17 rfl rfl)
theorem dX8_steps_20 : decode cX8_steps 20 = .ok (.aload_n 0, 1) := dk_42 (dk_at dksX8_steps_0 20 rfl rfl)
theorem dX8_steps_21 : decode cX8_steps 21 = .ok (.invokevirtual 262, 3) := dk_182 1 6 (dk_at dksX8_steps_0 21 rfl rfl)
theorem dX8_steps_24 : decode cX8_steps 24 = .ok (.ireturn, 1) := dk_172 (dk_at dksX8_steps_1 0 rfl rfl)
theorem dX8_steps_25 : decode cX8_steps 25 = .ok (.aload_n 0, 1) := dk_42 (dk_at dksX8_steps_1 1 rfl rfl)
theorem dX8_steps_26 : decode cX8_steps 26 = .ok (.getfield 3, 3) := dk_180 0 3 (dk_at dksX8_steps_1 2 rfl rfl)
theorem dX8_steps_29 : decode cX8_steps 29 = .ok (.getfield 38, 3) := dk_180 0 38 (dk_at dksX8_steps_1 5 rfl rfl)
theorem dX8_steps_32 : decode cX8_steps 32 = .ok (.getfield 42, 3) := dk_180 0 42 (dk_at dksX8_steps_1 8 rfl rfl)
theorem dX8_steps_35 : decode cX8_steps 35 = .ok (.invokeinterface 265 1, 5) := by decide +kernel
theorem dX8_steps_40 : decode cX8_steps 40 = .ok (.sipush 400, 3) := dk_17 1 144 (dk_at dksX8_steps_1 16 rfl rfl)
theorem dX8_steps_43 : decode cX8_steps 43 = .ok (.if_icmp .ne 5, 3) := dk_160 0 5 (dk_at dksX8_steps_1 19 rfl rfl)
theorem dX8_steps_46 : decode cX8_steps 46 = .ok (.iconst 3, 1) := dk_6 (dk_at dksX8_steps_1 22 rfl rfl)
theorem dX8_steps_47 : decode cX8_steps 47 = .ok (.ireturn, 1) := dk_172 (dk_at dksX8_steps_1 23 rfl rfl)
theorem dX8_steps_48 : decode cX8_steps 48 = .ok (.aload_n 0, 1) := dk_42 (dk_at dksX8_steps_2 0 rfl rfl)
theorem dX8_steps_49 : decode cX8_steps 49 = .ok (.aload_n 0, 1) := dk_42 (dk_at dksX8_steps_2 1 rfl rfl)
theorem dX8_steps_50 : decode cX8_steps 50 = .ok (.getfield 3, 3) := dk_180 0 3 (dk_at dksX8_steps_2 2 rfl rfl)
theorem dX8_steps_53 : decode cX8_steps 53 = .ok (.getfield 38, 3) := dk_180 0 38 (dk_at dksX8_steps_2 5 rfl rfl)
theorem dX8_steps_56 : decode cX8_steps 56 = .ok (.getfield 42, 3) := dk_180 0 42 (dk_at dksX8_steps_2 8 rfl rfl)
theorem dX8_steps_59 : decode cX8_steps 59 = .ok (.iload_n 1, 1) := dk_27 (dk_at dksX8_steps_2 11 rfl rfl)
theorem dX8_steps_60 : decode cX8_steps 60 = .ok (.invokeinterface 240 2, 5) := by decide +kernel
theorem dX8_steps_65 : decode cX8_steps 65 = .ok (.checkcast 64, 3) := dk_192 0 64 (dk_at dksX8_steps_2 17 rfl rfl)
theorem dX8_steps_68 : decode cX8_steps 68 = .ok (.invokevirtual 266, 3) := dk_182 1 10 (dk_at dksX8_steps_2 20 rfl rfl)
theorem dX8_steps_71 : decode cX8_steps 71 = .ok (.aload_n 0, 1) := dk_42 (dk_at dksX8_steps_2 23 rfl rfl)
theorem dX8_steps_72 : decode cX8_steps 72 = .ok (.getfield 217, 3) := dk_180 0 217 (dk_at dksX8_steps_3 0 rfl rfl)
theorem dX8_steps_75 : decode cX8_steps 75 = .ok (.aload_n 0, 1) := dk_42 (dk_at dksX8_steps_3 3 rfl rfl)
theorem dX8_steps_76 : decode cX8_steps 76 = .ok (.getfield 74, 3) := dk_180 0 74 (dk_at dksX8_steps_3 4 rfl rfl)
theorem dX8_steps_79 : decode cX8_steps 79 = .ok (.if_icmp .ne 7, 3) := dk_160 0 7 (dk_at dksX8_steps_3 7 rfl rfl)
theorem dX8_steps_82 : decode cX8_steps 82 = .ok (.iconst 2, 1) := dk_5 (dk_at dksX8_steps_3 10 rfl rfl)
theorem dX8_steps_83 : decode cX8_steps 83 = .ok (.goto 4, 3) := dk_167 0 4 (dk_at dksX8_steps_3 11 rfl rfl)
theorem dX8_steps_86 : decode cX8_steps 86 = .ok (.iconst (-1), 1) := dk_2 (dk_at dksX8_steps_3 14 rfl rfl)
theorem dX8_steps_87 : decode cX8_steps 87 = .ok (.ireturn, 1) := dk_172 (dk_at dksX8_steps_3 15 rfl rfl)
theorem dX8_steps_88 : decode cX8_steps 88 = .ok (.aload_n 0, 1) := dk_42 (dk_at dksX8_steps_3 16 rfl rfl)
theorem dX8_steps_89 : decode cX8_steps 89 = .ok (.invokevirtual 269, 3) := dk_182 1 13 (dk_at dksX8_steps_3 17 rfl rfl)
theorem dX8_steps_92 : decode cX8_steps 92 = .ok (.astore_n 2, 1) := dk_77 (dk_at dksX8_steps_3 20 rfl rfl)
theorem dX8_steps_93 : decode cX8_steps 93 = .ok (.aload_n 2, 1) := dk_44 (dk_at dksX8_steps_3 21 rfl rfl)
theorem dX8_steps_94 : decode cX8_steps 94 = .ok (.ifnull 45, 3) := dk_198 0 45 (dk_at dksX8_steps_4 0 rfl rfl)
theorem dX8_steps_97 : decode cX8_steps 97 = .ok (.aload_n 0, 1) := dk_42 (dk_at dksX8_steps_4 3 rfl rfl)
theorem dX8_steps_98 : decode cX8_steps 98 = .ok (.getfield 24, 3) := dk_180 0 24 (dk_at dksX8_steps_4 4 rfl rfl)
theorem dX8_steps_101 : decode cX8_steps 101 = .ok (.aload_n 2, 1) := dk_44 (dk_at dksX8_steps_4 7 rfl rfl)
theorem dX8_steps_102 : decode cX8_steps 102 = .ok (.getfield 102, 3) := dk_180 0 102 (dk_at dksX8_steps_4 8 rfl rfl)
theorem dX8_steps_105 : decode cX8_steps 105 = .ok (.invokevirtual 211, 3) := dk_182 0 211 (dk_at dksX8_steps_4 11 rfl rfl)
theorem dX8_steps_108 : decode cX8_steps 108 = .ok (.aload_n 0, 1) := dk_42 (dk_at dksX8_steps_4 14 rfl rfl)
theorem dX8_steps_109 : decode cX8_steps 109 = .ok (.getfield 3, 3) := dk_180 0 3 (dk_at dksX8_steps_4 15 rfl rfl)
theorem dX8_steps_112 : decode cX8_steps 112 = .ok (.getfield 38, 3) := dk_180 0 38 (dk_at dksX8_steps_4 18 rfl rfl)
theorem dX8_steps_115 : decode cX8_steps 115 = .ok (.getfield 214, 3) := dk_180 0 214 (dk_at dksX8_steps_4 21 rfl rfl)
theorem dX8_steps_118 : decode cX8_steps 118 = .ok (.iconst 2, 1) := dk_5 (dk_at dksX8_steps_5 0 rfl rfl)
theorem dX8_steps_119 : decode cX8_steps 119 = .ok (.dup2, 1) := dk_92 (dk_at dksX8_steps_5 1 rfl rfl)
theorem dX8_steps_120 : decode cX8_steps 120 = .ok (.iaload, 1) := dk_46 (dk_at dksX8_steps_5 2 rfl rfl)
theorem dX8_steps_121 : decode cX8_steps 121 = .ok (.iconst 1, 1) := dk_4 (dk_at dksX8_steps_5 3 rfl rfl)
theorem dX8_steps_122 : decode cX8_steps 122 = .ok (.iadd, 1) := dk_96 (dk_at dksX8_steps_5 4 rfl rfl)
theorem dX8_steps_123 : decode cX8_steps 123 = .ok (.iastore, 1) := dk_79 (dk_at dksX8_steps_5 5 rfl rfl)
theorem dX8_steps_124 : decode cX8_steps 124 = .ok (.aload_n 0, 1) := dk_42 (dk_at dksX8_steps_5 6 rfl rfl)
theorem dX8_steps_125 : decode cX8_steps 125 = .ok (.aload_n 0, 1) := dk_42 (dk_at dksX8_steps_5 7 rfl rfl)
theorem dX8_steps_126 : decode cX8_steps 126 = .ok (.aload_n 2, 1) := dk_44 (dk_at dksX8_steps_5 8 rfl rfl)
theorem dX8_steps_127 : decode cX8_steps 127 = .ok (.getfield 78, 3) := dk_180 0 78 (dk_at dksX8_steps_5 9 rfl rfl)
theorem dX8_steps_130 : decode cX8_steps 130 = .ok (.invokevirtual 244, 3) := dk_182 0 244 (dk_at dksX8_steps_5 12 rfl rfl)
theorem dX8_steps_133 : decode cX8_steps 133 = .ok (.aload_n 2, 1) := dk_44 (dk_at dksX8_steps_5 15 rfl rfl)
theorem dX8_steps_134 : decode cX8_steps 134 = .ok (.invokevirtual 213, 3) := dk_182 0 213 (dk_at dksX8_steps_5 16 rfl rfl)
theorem dX8_steps_137 : decode cX8_steps 137 = .ok (.iconst (-1), 1) := dk_2 (dk_at dksX8_steps_5 19 rfl rfl)
theorem dX8_steps_138 : decode cX8_steps 138 = .ok (.ireturn, 1) := dk_172 (dk_at dksX8_steps_5 20 rfl rfl)
theorem dX8_steps_139 : decode cX8_steps 139 = .ok (.aload_n 0, 1) := dk_42 (dk_at dksX8_steps_5 21 rfl rfl)
theorem dX8_steps_140 : decode cX8_steps 140 = .ok (.invokevirtual 273, 3) := dk_182 1 17 (dk_at dksX8_steps_6 0 rfl rfl)
theorem dX8_steps_143 : decode cX8_steps 143 = .ok (.istore_n 3, 1) := dk_62 (dk_at dksX8_steps_6 3 rfl rfl)
theorem dX8_steps_144 : decode cX8_steps 144 = .ok (.iload_n 3, 1) := dk_29 (dk_at dksX8_steps_6 4 rfl rfl)
theorem dX8_steps_145 : decode cX8_steps 145 = .ok (.iconst (-1), 1) := dk_2 (dk_at dksX8_steps_6 5 rfl rfl)
theorem dX8_steps_146 : decode cX8_steps 146 = .ok (.if_icmp .eq 47, 3) := dk_159 0 47 (dk_at dksX8_steps_6 6 rfl rfl)
theorem dX8_steps_149 : decode cX8_steps 149 = .ok (.aload_n 0, 1) := dk_42 (dk_at dksX8_steps_6 9 rfl rfl)
theorem dX8_steps_150 : decode cX8_steps 150 = .ok (.aload_n 0, 1) := dk_42 (dk_at dksX8_steps_6 10 rfl rfl)
theorem dX8_steps_151 : decode cX8_steps 151 = .ok (.getfield 3, 3) := dk_180 0 3 (dk_at dksX8_steps_6 11 rfl rfl)
theorem dX8_steps_154 : decode cX8_steps 154 = .ok (.getfield 38, 3) := dk_180 0 38 (dk_at dksX8_steps_6 14 rfl rfl)
theorem dX8_steps_157 : decode cX8_steps 157 = .ok (.getfield 250, 3) := dk_180 0 250 (dk_at dksX8_steps_6 17 rfl rfl)
theorem dX8_steps_160 : decode cX8_steps 160 = .ok (.iload_n 3, 1) := dk_29 (dk_at dksX8_steps_6 20 rfl rfl)
theorem dX8_steps_161 : decode cX8_steps 161 = .ok (.iaload, 1) := dk_46 (dk_at dksX8_steps_6 21 rfl rfl)
theorem dX8_steps_162 : decode cX8_steps 162 = .ok (.invokevirtual 124, 3) := dk_182 0 124 (dk_at dksX8_steps_7 0 rfl rfl)
theorem dX8_steps_165 : decode cX8_steps 165 = .ok (.ifCond .ge 10, 3) := dk_156 0 10 (dk_at dksX8_steps_7 3 rfl rfl)
theorem dX8_steps_168 : decode cX8_steps 168 = .ok (.aload_n 0, 1) := dk_42 (dk_at dksX8_steps_7 6 rfl rfl)
theorem dX8_steps_169 : decode cX8_steps 169 = .ok (.iload_n 3, 1) := dk_29 (dk_at dksX8_steps_7 7 rfl rfl)
theorem dX8_steps_170 : decode cX8_steps 170 = .ok (.invokevirtual 276, 3) := dk_182 1 20 (dk_at dksX8_steps_7 8 rfl rfl)
theorem dX8_steps_173 : decode cX8_steps 173 = .ok (.iconst 0, 1) := dk_3 (dk_at dksX8_steps_7 11 rfl rfl)
theorem dX8_steps_174 : decode cX8_steps 174 = .ok (.ireturn, 1) := dk_172 (dk_at dksX8_steps_7 12 rfl rfl)
theorem dX8_steps_175 : decode cX8_steps 175 = .ok (.aload_n 0, 1) := dk_42 (dk_at dksX8_steps_7 13 rfl rfl)
theorem dX8_steps_176 : decode cX8_steps 176 = .ok (.aload_n 0, 1) := dk_42 (dk_at dksX8_steps_7 14 rfl rfl)
theorem dX8_steps_177 : decode cX8_steps 177 = .ok (.getfield 3, 3) := dk_180 0 3 (dk_at dksX8_steps_7 15 rfl rfl)
theorem dX8_steps_180 : decode cX8_steps 180 = .ok (.getfield 38, 3) := dk_180 0 38 (dk_at dksX8_steps_7 18 rfl rfl)
theorem dX8_steps_183 : decode cX8_steps 183 = .ok (.getfield 250, 3) := dk_180 0 250 (dk_at dksX8_steps_7 21 rfl rfl)
theorem dX8_steps_186 : decode cX8_steps 186 = .ok (.iload_n 3, 1) := dk_29 (dk_at dksX8_steps_8 0 rfl rfl)
theorem dX8_steps_187 : decode cX8_steps 187 = .ok (.iaload, 1) := dk_46 (dk_at dksX8_steps_8 1 rfl rfl)
theorem dX8_steps_188 : decode cX8_steps 188 = .ok (.invokevirtual 279, 3) := dk_182 1 23 (dk_at dksX8_steps_8 2 rfl rfl)
theorem dX8_steps_191 : decode cX8_steps 191 = .ok (.iconst (-1), 1) := dk_2 (dk_at dksX8_steps_8 5 rfl rfl)
theorem dX8_steps_192 : decode cX8_steps 192 = .ok (.ireturn, 1) := dk_172 (dk_at dksX8_steps_8 6 rfl rfl)
theorem dX8_steps_193 : decode cX8_steps 193 = .ok (.aload_n 0, 1) := dk_42 (dk_at dksX8_steps_8 7 rfl rfl)
theorem dX8_steps_194 : decode cX8_steps 194 = .ok (.invokevirtual 282, 3) := dk_182 1 26 (dk_at dksX8_steps_8 8 rfl rfl)
theorem dX8_steps_197 : decode cX8_steps 197 = .ok (.istore 4, 2) := dk_54 4 (dk_at dksX8_steps_8 11 rfl rfl)
theorem dX8_steps_199 : decode cX8_steps 199 = .ok (.iload 4, 2) := dk_21 4 (dk_at dksX8_steps_8 13 rfl rfl)
theorem dX8_steps_201 : decode cX8_steps 201 = .ok (.ifCond .ne 5, 3) := dk_154 0 5 (dk_at dksX8_steps_8 15 rfl rfl)
theorem dX8_steps_204 : decode cX8_steps 204 = .ok (.iconst 1, 1) := dk_4 (dk_at dksX8_steps_8 18 rfl rfl)
theorem dX8_steps_205 : decode cX8_steps 205 = .ok (.ireturn, 1) := dk_172 (dk_at dksX8_steps_8 19 rfl rfl)
theorem dX8_steps_206 : decode cX8_steps 206 = .ok (.aload_n 0, 1) := dk_42 (dk_at dksX8_steps_8 20 rfl rfl)
theorem dX8_steps_207 : decode cX8_steps 207 = .ok (.getfield 3, 3) := dk_180 0 3 (dk_at dksX8_steps_8 21 rfl rfl)
theorem dX8_steps_210 : decode cX8_steps 210 = .ok (.getfield 38, 3) := dk_180 0 38 (dk_at dksX8_steps_9 0 rfl rfl)
theorem dX8_steps_213 : decode cX8_steps 213 = .ok (.getfield 214, 3) := dk_180 0 214 (dk_at dksX8_steps_9 3 rfl rfl)
theorem dX8_steps_216 : decode cX8_steps 216 = .ok (.iconst 1, 1) := dk_4 (dk_at dksX8_steps_9 6 rfl rfl)
theorem dX8_steps_217 : decode cX8_steps 217 = .ok (.dup2, 1) := dk_92 (dk_at dksX8_steps_9 7 rfl rfl)
theorem dX8_steps_218 : decode cX8_steps 218 = .ok (.iaload, 1) := dk_46 (dk_at dksX8_steps_9 8 rfl rfl)
theorem dX8_steps_219 : decode cX8_steps 219 = .ok (.iconst 1, 1) := dk_4 (dk_at dksX8_steps_9 9 rfl rfl)
theorem dX8_steps_220 : decode cX8_steps 220 = .ok (.iadd, 1) := dk_96 (dk_at dksX8_steps_9 10 rfl rfl)
theorem dX8_steps_221 : decode cX8_steps 221 = .ok (.iastore, 1) := dk_79 (dk_at dksX8_steps_9 11 rfl rfl)
theorem dX8_steps_222 : decode cX8_steps 222 = .ok (.aload_n 0, 1) := dk_42 (dk_at dksX8_steps_9 12 rfl rfl)
theorem dX8_steps_223 : decode cX8_steps 223 = .ok (.aload_n 0, 1) := dk_42 (dk_at dksX8_steps_9 13 rfl rfl)
theorem dX8_steps_224 : decode cX8_steps 224 = .ok (.getfield 3, 3) := dk_180 0 3 (dk_at dksX8_steps_9 14 rfl rfl)
theorem dX8_steps_227 : decode cX8_steps 227 = .ok (.getfield 38, 3) := dk_180 0 38 (dk_at dksX8_steps_9 17 rfl rfl)
theorem dX8_steps_230 : decode cX8_steps 230 = .ok (.getfield 142, 3) := dk_180 0 142 (dk_at dksX8_steps_9 20 rfl rfl)
theorem dX8_steps_233 : decode cX8_steps 233 = .ok (.iload 4, 2) := dk_21 4 (dk_at dksX8_steps_10 0 rfl rfl)
theorem dX8_steps_235 : decode cX8_steps 235 = .ok (.baload, 1) := dk_51 (dk_at dksX8_steps_10 2 rfl rfl)
theorem dX8_steps_236 : decode cX8_steps 236 = .ok (.ifCond .eq 8, 3) := dk_153 0 8 (dk_at dksX8_steps_10 3 rfl rfl)
theorem dX8_steps_239 : decode cX8_steps 239 = .ok (.iload 4, 2) := dk_21 4 (dk_at dksX8_steps_10 6 rfl rfl)
theorem dX8_steps_241 : decode cX8_steps 241 = .ok (.goto 6, 3) := dk_167 0 6 (dk_at dksX8_steps_10 8 rfl rfl)
theorem dX8_steps_244 : decode cX8_steps 244 = .ok (.iload 4, 2) := dk_21 4 (dk_at dksX8_steps_10 11 rfl rfl)
theorem dX8_steps_246 : decode cX8_steps 246 = .ok (.ineg, 1) := dk_116 (dk_at dksX8_steps_10 13 rfl rfl)
theorem dX8_steps_247 : decode cX8_steps 247 = .ok (.invokevirtual 279, 3) := dk_182 1 23 (dk_at dksX8_steps_10 14 rfl rfl)
theorem dX8_steps_250 : decode cX8_steps 250 = .ok (.iconst (-1), 1) := dk_2 (dk_at dksX8_steps_10 17 rfl rfl)
theorem dX8_steps_251 : decode cX8_steps 251 = .ok (.ireturn, 1) := dk_172 (dk_at dksX8_steps_10 18 rfl rfl)
abbrev cX8_refuted : ByteArray := prog_7_method_22_code
def yX8_refuted : MethodName := ⟨RX8, "refuted", "()I"⟩
def dkwX8_refuted_1 : List UInt8 := [185, 0, 207, 2, 0, 87, 42, 3, 181, 0, 253, 3, 172]
abbrev dktX8_refuted_1 : List UInt8 := dkwX8_refuted_1 ++ []
def dkwX8_refuted_0 : List UInt8 := [42, 180, 0, 3, 180, 0, 38, 4, 181, 1, 3, 42, 180, 0, 3, 180, 0, 38, 180, 0, 204, 3, 188, 10]
abbrev dktX8_refuted_0 : List UInt8 := dkwX8_refuted_0 ++ dktX8_refuted_1
theorem dksX8_refuted_0 : cX8_refuted.data.toList.drop 0 = dktX8_refuted_0 := by decide +kernel
theorem dksX8_refuted_1 : cX8_refuted.data.toList.drop 24 = dktX8_refuted_1 := dk_seg dksX8_refuted_0 24 rfl rfl
theorem dX8_refuted_0 : decode cX8_refuted 0 = .ok (.aload_n 0, 1) := dk_42 (dk_at dksX8_refuted_0 0 rfl rfl)
theorem dX8_refuted_1 : decode cX8_refuted 1 = .ok (.getfield 3, 3) := dk_180 0 3 (dk_at dksX8_refuted_0 1 rfl rfl)
theorem dX8_refuted_4 : decode cX8_refuted 4 = .ok (.getfield 38, 3) := dk_180 0 38 (dk_at dksX8_refuted_0 4 rfl rfl)
theorem dX8_refuted_7 : decode cX8_refuted 7 = .ok (.iconst 1, 1) := dk_4 (dk_at dksX8_refuted_0 7 rfl rfl)
theorem dX8_refuted_8 : decode cX8_refuted 8 = .ok (.putfield 259, 3) := dk_181 1 3 (dk_at dksX8_refuted_0 8 rfl rfl)
theorem dX8_refuted_11 : decode cX8_refuted 11 = .ok (.aload_n 0, 1) := dk_42 (dk_at dksX8_refuted_0 11 rfl rfl)
theorem dX8_refuted_12 : decode cX8_refuted 12 = .ok (.getfield 3, 3) := dk_180 0 3 (dk_at dksX8_refuted_0 12 rfl rfl)
theorem dX8_refuted_15 : decode cX8_refuted 15 = .ok (.getfield 38, 3) := dk_180 0 38 (dk_at dksX8_refuted_0 15 rfl rfl)
theorem dX8_refuted_18 : decode cX8_refuted 18 = .ok (.getfield 204, 3) := dk_180 0 204 (dk_at dksX8_refuted_0 18 rfl rfl)
theorem dX8_refuted_21 : decode cX8_refuted 21 = .ok (.iconst 0, 1) := dk_3 (dk_at dksX8_refuted_0 21 rfl rfl)
theorem dX8_refuted_22 : decode cX8_refuted 22 = .ok (.newarray .int, 2) := dk_188_10 (dk_at dksX8_refuted_0 22 rfl rfl)
theorem dX8_refuted_24 : decode cX8_refuted 24 = .ok (.invokeinterface 207 2, 5) := by decide +kernel
theorem dX8_refuted_29 : decode cX8_refuted 29 = .ok (.pop, 1) := dk_87 (dk_at dksX8_refuted_1 5 rfl rfl)
theorem dX8_refuted_30 : decode cX8_refuted 30 = .ok (.aload_n 0, 1) := dk_42 (dk_at dksX8_refuted_1 6 rfl rfl)
theorem dX8_refuted_31 : decode cX8_refuted 31 = .ok (.iconst 0, 1) := dk_3 (dk_at dksX8_refuted_1 7 rfl rfl)
theorem dX8_refuted_32 : decode cX8_refuted 32 = .ok (.putfield 253, 3) := dk_181 0 253 (dk_at dksX8_refuted_1 8 rfl rfl)
theorem dX8_refuted_35 : decode cX8_refuted 35 = .ok (.iconst 0, 1) := dk_3 (dk_at dksX8_refuted_1 11 rfl rfl)
theorem dX8_refuted_36 : decode cX8_refuted 36 = .ok (.ireturn, 1) := dk_172 (dk_at dksX8_refuted_1 12 rfl rfl)
abbrev cX8_leaps : ByteArray := prog_7_method_14_code
def yX8_leaps : MethodName := ⟨RX8, "leaps", "(LLearntReasons$Clause;)V"⟩
def dkwX8_leaps_8 : List UInt8 := [181, 0, 220, 42, 180, 0, 3, 180, 0, 38, 180, 0, 214, 6, 92, 46, 4, 96, 79, 177]
abbrev dktX8_leaps_8 : List UInt8 := dkwX8_leaps_8 ++ []
def dkwX8_leaps_7 : List UInt8 := [182, 0, 229, 104, 160, 0, 39, 42, 3, 182, 0, 195, 42, 89, 180, 0, 226, 4, 96, 181, 0, 226, 42, 3]
abbrev dktX8_leaps_7 : List UInt8 := dkwX8_leaps_7 ++ dktX8_leaps_8
def dkwX8_leaps_6 : List UInt8 := [158, 0, 67, 42, 180, 0, 220, 42, 180, 0, 3, 180, 0, 38, 180, 0, 223, 42, 42, 180, 0, 226, 4, 96]
abbrev dktX8_leaps_6 : List UInt8 := dkwX8_leaps_6 ++ dktX8_leaps_7
def dkwX8_leaps_5 : List UInt8 := [181, 0, 217, 42, 89, 180, 0, 220, 4, 96, 181, 0, 220, 42, 180, 0, 3, 180, 0, 38, 180, 0, 223]
abbrev dktX8_leaps_5 : List UInt8 := dkwX8_leaps_5 ++ dktX8_leaps_6
def dkwX8_leaps_4 : List UInt8 := [42, 180, 0, 3, 180, 0, 38, 180, 0, 214, 3, 92, 46, 4, 96, 79, 42, 89, 180, 0, 217, 4, 96]
abbrev dktX8_leaps_4 : List UInt8 := dkwX8_leaps_4 ++ dktX8_leaps_5
def dkwX8_leaps_3 : List UInt8 := [42, 45, 182, 0, 70, 42, 180, 0, 24, 45, 180, 0, 102, 182, 0, 211, 42, 44, 3, 46, 45, 182, 0, 213]
abbrev dktX8_leaps_3 : List UInt8 := dkwX8_leaps_3 ++ dktX8_leaps_4
def dkwX8_leaps_2 : List UInt8 := [183, 0, 198, 182, 0, 201, 78, 42, 180, 0, 3, 180, 0, 38, 180, 0, 204, 44, 185, 0, 207, 2, 0, 87]
abbrev dktX8_leaps_2 : List UInt8 := dkwX8_leaps_2 ++ dktX8_leaps_3
def dkwX8_leaps_1 : List UInt8 := [184, 0, 136, 46, 167, 0, 4, 3, 182, 0, 195, 42, 180, 0, 3, 180, 0, 38, 187, 0, 64, 89, 4, 44]
abbrev dktX8_leaps_1 : List UInt8 := dkwX8_leaps_1 ++ dktX8_leaps_2
def dkwX8_leaps_0 : List UInt8 := [42, 43, 182, 0, 189, 77, 42, 182, 0, 193, 42, 44, 190, 4, 164, 0, 17, 42, 180, 0, 130, 44, 4, 46]
abbrev dktX8_leaps_0 : List UInt8 := dkwX8_leaps_0 ++ dktX8_leaps_1
theorem dksX8_leaps_0 : cX8_leaps.data.toList.drop 0 = dktX8_leaps_0 := by decide +kernel
theorem dksX8_leaps_1 : cX8_leaps.data.toList.drop 24 = dktX8_leaps_1 := dk_seg dksX8_leaps_0 24 rfl rfl
theorem dksX8_leaps_2 : cX8_leaps.data.toList.drop 48 = dktX8_leaps_2 := dk_seg dksX8_leaps_1 24 rfl rfl
theorem dksX8_leaps_3 : cX8_leaps.data.toList.drop 72 = dktX8_leaps_3 := dk_seg dksX8_leaps_2 24 rfl rfl
theorem dksX8_leaps_4 : cX8_leaps.data.toList.drop 96 = dktX8_leaps_4 := dk_seg dksX8_leaps_3 24 rfl rfl
theorem dksX8_leaps_5 : cX8_leaps.data.toList.drop 119 = dktX8_leaps_5 := dk_seg dksX8_leaps_4 23 rfl rfl
theorem dksX8_leaps_6 : cX8_leaps.data.toList.drop 142 = dktX8_leaps_6 := dk_seg dksX8_leaps_5 23 rfl rfl
theorem dksX8_leaps_7 : cX8_leaps.data.toList.drop 166 = dktX8_leaps_7 := dk_seg dksX8_leaps_6 24 rfl rfl
theorem dksX8_leaps_8 : cX8_leaps.data.toList.drop 190 = dktX8_leaps_8 := dk_seg dksX8_leaps_7 24 rfl rfl
theorem dX8_leaps_0 : decode cX8_leaps 0 = .ok (.aload_n 0, 1) := dk_42 (dk_at dksX8_leaps_0 0 rfl rfl)
theorem dX8_leaps_1 : decode cX8_leaps 1 = .ok (.aload_n 1, 1) := dk_43 (dk_at dksX8_leaps_0 1 rfl rfl)
theorem dX8_leaps_2 : decode cX8_leaps 2 = .ok (.invokevirtual 189, 3) := dk_182 0 189 (dk_at dksX8_leaps_0 2 rfl rfl)
theorem dX8_leaps_5 : decode cX8_leaps 5 = .ok (.astore_n 2, 1) := dk_77 (dk_at dksX8_leaps_0 5 rfl rfl)
theorem dX8_leaps_6 : decode cX8_leaps 6 = .ok (.aload_n 0, 1) := dk_42 (dk_at dksX8_leaps_0 6 rfl rfl)
theorem dX8_leaps_7 : decode cX8_leaps 7 = .ok (.invokevirtual 193, 3) := dk_182 0 193 (dk_at dksX8_leaps_0 7 rfl rfl)
theorem dX8_leaps_10 : decode cX8_leaps 10 = .ok (.aload_n 0, 1) := dk_42 (dk_at dksX8_leaps_0 10 rfl rfl)
theorem dX8_leaps_11 : decode cX8_leaps 11 = .ok (.aload_n 2, 1) := dk_44 (dk_at dksX8_leaps_0 11 rfl rfl)
theorem dX8_leaps_12 : decode cX8_leaps 12 = .ok (.arraylength, 1) := dk_190 (dk_at dksX8_leaps_0 12 rfl rfl)
theorem dX8_leaps_13 : decode cX8_leaps 13 = .ok (.iconst 1, 1) := dk_4 (dk_at dksX8_leaps_0 13 rfl rfl)
theorem dX8_leaps_14 : decode cX8_leaps 14 = .ok (.if_icmp .le 17, 3) := dk_164 0 17 (dk_at dksX8_leaps_0 14 rfl rfl)
theorem dX8_leaps_17 : decode cX8_leaps 17 = .ok (.aload_n 0, 1) := dk_42 (dk_at dksX8_leaps_0 17 rfl rfl)
theorem dX8_leaps_18 : decode cX8_leaps 18 = .ok (.getfield 130, 3) := dk_180 0 130 (dk_at dksX8_leaps_0 18 rfl rfl)
theorem dX8_leaps_21 : decode cX8_leaps 21 = .ok (.aload_n 2, 1) := dk_44 (dk_at dksX8_leaps_0 21 rfl rfl)
theorem dX8_leaps_22 : decode cX8_leaps 22 = .ok (.iconst 1, 1) := dk_4 (dk_at dksX8_leaps_0 22 rfl rfl)
theorem dX8_leaps_23 : decode cX8_leaps 23 = .ok (.iaload, 1) := dk_46 (dk_at dksX8_leaps_0 23 rfl rfl)
theorem dX8_leaps_24 : decode cX8_leaps 24 = .ok (.invokestatic 136, 3) := dk_184 0 136 (dk_at dksX8_leaps_1 0 rfl rfl)
theorem dX8_leaps_27 : decode cX8_leaps 27 = .ok (.iaload, 1) := dk_46 (dk_at dksX8_leaps_1 3 rfl rfl)
theorem dX8_leaps_28 : decode cX8_leaps 28 = .ok (.goto 4, 3) := dk_167 0 4 (dk_at dksX8_leaps_1 4 rfl rfl)
theorem dX8_leaps_31 : decode cX8_leaps 31 = .ok (.iconst 0, 1) := dk_3 (dk_at dksX8_leaps_1 7 rfl rfl)
theorem dX8_leaps_32 : decode cX8_leaps 32 = .ok (.invokevirtual 195, 3) := dk_182 0 195 (dk_at dksX8_leaps_1 8 rfl rfl)
theorem dX8_leaps_35 : decode cX8_leaps 35 = .ok (.aload_n 0, 1) := dk_42 (dk_at dksX8_leaps_1 11 rfl rfl)
theorem dX8_leaps_36 : decode cX8_leaps 36 = .ok (.getfield 3, 3) := dk_180 0 3 (dk_at dksX8_leaps_1 12 rfl rfl)
theorem dX8_leaps_39 : decode cX8_leaps 39 = .ok (.getfield 38, 3) := dk_180 0 38 (dk_at dksX8_leaps_1 15 rfl rfl)
theorem dX8_leaps_42 : decode cX8_leaps 42 = .ok (.new 64, 3) := dk_187 0 64 (dk_at dksX8_leaps_1 18 rfl rfl)
theorem dX8_leaps_45 : decode cX8_leaps 45 = .ok (.dup, 1) := dk_89 (dk_at dksX8_leaps_1 21 rfl rfl)
theorem dX8_leaps_46 : decode cX8_leaps 46 = .ok (.iconst 1, 1) := dk_4 (dk_at dksX8_leaps_1 22 rfl rfl)
theorem dX8_leaps_47 : decode cX8_leaps 47 = .ok (.aload_n 2, 1) := dk_44 (dk_at dksX8_leaps_1 23 rfl rfl)
theorem dX8_leaps_48 : decode cX8_leaps 48 = .ok (.invokespecial 198, 3) := dk_183 0 198 (dk_at dksX8_leaps_2 0 rfl rfl)
theorem dX8_leaps_51 : decode cX8_leaps 51 = .ok (.invokevirtual 201, 3) := dk_182 0 201 (dk_at dksX8_leaps_2 3 rfl rfl)
theorem dX8_leaps_54 : decode cX8_leaps 54 = .ok (.astore_n 3, 1) := dk_78 (dk_at dksX8_leaps_2 6 rfl rfl)
theorem dX8_leaps_55 : decode cX8_leaps 55 = .ok (.aload_n 0, 1) := dk_42 (dk_at dksX8_leaps_2 7 rfl rfl)
theorem dX8_leaps_56 : decode cX8_leaps 56 = .ok (.getfield 3, 3) := dk_180 0 3 (dk_at dksX8_leaps_2 8 rfl rfl)
theorem dX8_leaps_59 : decode cX8_leaps 59 = .ok (.getfield 38, 3) := dk_180 0 38 (dk_at dksX8_leaps_2 11 rfl rfl)
theorem dX8_leaps_62 : decode cX8_leaps 62 = .ok (.getfield 204, 3) := dk_180 0 204 (dk_at dksX8_leaps_2 14 rfl rfl)
theorem dX8_leaps_65 : decode cX8_leaps 65 = .ok (.aload_n 2, 1) := dk_44 (dk_at dksX8_leaps_2 17 rfl rfl)
theorem dX8_leaps_66 : decode cX8_leaps 66 = .ok (.invokeinterface 207 2, 5) := by decide +kernel
theorem dX8_leaps_71 : decode cX8_leaps 71 = .ok (.pop, 1) := dk_87 (dk_at dksX8_leaps_2 23 rfl rfl)
theorem dX8_leaps_72 : decode cX8_leaps 72 = .ok (.aload_n 0, 1) := dk_42 (dk_at dksX8_leaps_3 0 rfl rfl)
theorem dX8_leaps_73 : decode cX8_leaps 73 = .ok (.aload_n 3, 1) := dk_45 (dk_at dksX8_leaps_3 1 rfl rfl)
theorem dX8_leaps_74 : decode cX8_leaps 74 = .ok (.invokevirtual 70, 3) := dk_182 0 70 (dk_at dksX8_leaps_3 2 rfl rfl)
theorem dX8_leaps_77 : decode cX8_leaps 77 = .ok (.aload_n 0, 1) := dk_42 (dk_at dksX8_leaps_3 5 rfl rfl)
theorem dX8_leaps_78 : decode cX8_leaps 78 = .ok (.getfield 24, 3) := dk_180 0 24 (dk_at dksX8_leaps_3 6 rfl rfl)
theorem dX8_leaps_81 : decode cX8_leaps 81 = .ok (.aload_n 3, 1) := dk_45 (dk_at dksX8_leaps_3 9 rfl rfl)
theorem dX8_leaps_82 : decode cX8_leaps 82 = .ok (.getfield 102, 3) := dk_180 0 102 (dk_at dksX8_leaps_3 10 rfl rfl)
theorem dX8_leaps_85 : decode cX8_leaps 85 = .ok (.invokevirtual 211, 3) := dk_182 0 211 (dk_at dksX8_leaps_3 13 rfl rfl)
theorem dX8_leaps_88 : decode cX8_leaps 88 = .ok (.aload_n 0, 1) := dk_42 (dk_at dksX8_leaps_3 16 rfl rfl)
theorem dX8_leaps_89 : decode cX8_leaps 89 = .ok (.aload_n 2, 1) := dk_44 (dk_at dksX8_leaps_3 17 rfl rfl)
theorem dX8_leaps_90 : decode cX8_leaps 90 = .ok (.iconst 0, 1) := dk_3 (dk_at dksX8_leaps_3 18 rfl rfl)
theorem dX8_leaps_91 : decode cX8_leaps 91 = .ok (.iaload, 1) := dk_46 (dk_at dksX8_leaps_3 19 rfl rfl)
theorem dX8_leaps_92 : decode cX8_leaps 92 = .ok (.aload_n 3, 1) := dk_45 (dk_at dksX8_leaps_3 20 rfl rfl)
theorem dX8_leaps_93 : decode cX8_leaps 93 = .ok (.invokevirtual 213, 3) := dk_182 0 213 (dk_at dksX8_leaps_3 21 rfl rfl)
theorem dX8_leaps_96 : decode cX8_leaps 96 = .ok (.aload_n 0, 1) := dk_42 (dk_at dksX8_leaps_4 0 rfl rfl)
theorem dX8_leaps_97 : decode cX8_leaps 97 = .ok (.getfield 3, 3) := dk_180 0 3 (dk_at dksX8_leaps_4 1 rfl rfl)
theorem dX8_leaps_100 : decode cX8_leaps 100 = .ok (.getfield 38, 3) := dk_180 0 38 (dk_at dksX8_leaps_4 4 rfl rfl)
theorem dX8_leaps_103 : decode cX8_leaps 103 = .ok (.getfield 214, 3) := dk_180 0 214 (dk_at dksX8_leaps_4 7 rfl rfl)
theorem dX8_leaps_106 : decode cX8_leaps 106 = .ok (.iconst 0, 1) := dk_3 (dk_at dksX8_leaps_4 10 rfl rfl)
theorem dX8_leaps_107 : decode cX8_leaps 107 = .ok (.dup2, 1) := dk_92 (dk_at dksX8_leaps_4 11 rfl rfl)
theorem dX8_leaps_108 : decode cX8_leaps 108 = .ok (.iaload, 1) := dk_46 (dk_at dksX8_leaps_4 12 rfl rfl)
theorem dX8_leaps_109 : decode cX8_leaps 109 = .ok (.iconst 1, 1) := dk_4 (dk_at dksX8_leaps_4 13 rfl rfl)
theorem dX8_leaps_110 : decode cX8_leaps 110 = .ok (.iadd, 1) := dk_96 (dk_at dksX8_leaps_4 14 rfl rfl)
theorem dX8_leaps_111 : decode cX8_leaps 111 = .ok (.iastore, 1) := dk_79 (dk_at dksX8_leaps_4 15 rfl rfl)
theorem dX8_leaps_112 : decode cX8_leaps 112 = .ok (.aload_n 0, 1) := dk_42 (dk_at dksX8_leaps_4 16 rfl rfl)
theorem dX8_leaps_113 : decode cX8_leaps 113 = .ok (.dup, 1) := dk_89 (dk_at dksX8_leaps_4 17 rfl rfl)
theorem dX8_leaps_114 : decode cX8_leaps 114 = .ok (.getfield 217, 3) := dk_180 0 217 (dk_at dksX8_leaps_4 18 rfl rfl)
theorem dX8_leaps_117 : decode cX8_leaps 117 = .ok (.iconst 1, 1) := dk_4 (dk_at dksX8_leaps_4 21 rfl rfl)
theorem dX8_leaps_118 : decode cX8_leaps 118 = .ok (.iadd, 1) := dk_96 (dk_at dksX8_leaps_4 22 rfl rfl)
theorem dX8_leaps_119 : decode cX8_leaps 119 = .ok (.putfield 217, 3) := dk_181 0 217 (dk_at dksX8_leaps_5 0 rfl rfl)
theorem dX8_leaps_122 : decode cX8_leaps 122 = .ok (.aload_n 0, 1) := dk_42 (dk_at dksX8_leaps_5 3 rfl rfl)
theorem dX8_leaps_123 : decode cX8_leaps 123 = .ok (.dup, 1) := dk_89 (dk_at dksX8_leaps_5 4 rfl rfl)
theorem dX8_leaps_124 : decode cX8_leaps 124 = .ok (.getfield 220, 3) := dk_180 0 220 (dk_at dksX8_leaps_5 5 rfl rfl)
theorem dX8_leaps_127 : decode cX8_leaps 127 = .ok (.iconst 1, 1) := dk_4 (dk_at dksX8_leaps_5 8 rfl rfl)
theorem dX8_leaps_128 : decode cX8_leaps 128 = .ok (.iadd, 1) := dk_96 (dk_at dksX8_leaps_5 9 rfl rfl)
theorem dX8_leaps_129 : decode cX8_leaps 129 = .ok (.putfield 220, 3) := dk_181 0 220 (dk_at dksX8_leaps_5 10 rfl rfl)
theorem dX8_leaps_132 : decode cX8_leaps 132 = .ok (.aload_n 0, 1) := dk_42 (dk_at dksX8_leaps_5 13 rfl rfl)
theorem dX8_leaps_133 : decode cX8_leaps 133 = .ok (.getfield 3, 3) := dk_180 0 3 (dk_at dksX8_leaps_5 14 rfl rfl)
theorem dX8_leaps_136 : decode cX8_leaps 136 = .ok (.getfield 38, 3) := dk_180 0 38 (dk_at dksX8_leaps_5 17 rfl rfl)
theorem dX8_leaps_139 : decode cX8_leaps 139 = .ok (.getfield 223, 3) := dk_180 0 223 (dk_at dksX8_leaps_5 20 rfl rfl)
theorem dX8_leaps_142 : decode cX8_leaps 142 = .ok (.ifCond .le 67, 3) := dk_158 0 67 (dk_at dksX8_leaps_6 0 rfl rfl)
theorem dX8_leaps_145 : decode cX8_leaps 145 = .ok (.aload_n 0, 1) := dk_42 (dk_at dksX8_leaps_6 3 rfl rfl)
theorem dX8_leaps_146 : decode cX8_leaps 146 = .ok (.getfield 220, 3) := dk_180 0 220 (dk_at dksX8_leaps_6 4 rfl rfl)
theorem dX8_leaps_149 : decode cX8_leaps 149 = .ok (.aload_n 0, 1) := dk_42 (dk_at dksX8_leaps_6 7 rfl rfl)
theorem dX8_leaps_150 : decode cX8_leaps 150 = .ok (.getfield 3, 3) := dk_180 0 3 (dk_at dksX8_leaps_6 8 rfl rfl)
theorem dX8_leaps_153 : decode cX8_leaps 153 = .ok (.getfield 38, 3) := dk_180 0 38 (dk_at dksX8_leaps_6 11 rfl rfl)
theorem dX8_leaps_156 : decode cX8_leaps 156 = .ok (.getfield 223, 3) := dk_180 0 223 (dk_at dksX8_leaps_6 14 rfl rfl)
theorem dX8_leaps_159 : decode cX8_leaps 159 = .ok (.aload_n 0, 1) := dk_42 (dk_at dksX8_leaps_6 17 rfl rfl)
theorem dX8_leaps_160 : decode cX8_leaps 160 = .ok (.aload_n 0, 1) := dk_42 (dk_at dksX8_leaps_6 18 rfl rfl)
theorem dX8_leaps_161 : decode cX8_leaps 161 = .ok (.getfield 226, 3) := dk_180 0 226 (dk_at dksX8_leaps_6 19 rfl rfl)
theorem dX8_leaps_164 : decode cX8_leaps 164 = .ok (.iconst 1, 1) := dk_4 (dk_at dksX8_leaps_6 22 rfl rfl)
theorem dX8_leaps_165 : decode cX8_leaps 165 = .ok (.iadd, 1) := dk_96 (dk_at dksX8_leaps_6 23 rfl rfl)
theorem dX8_leaps_166 : decode cX8_leaps 166 = .ok (.invokevirtual 229, 3) := dk_182 0 229 (dk_at dksX8_leaps_7 0 rfl rfl)
theorem dX8_leaps_169 : decode cX8_leaps 169 = .ok (.imul, 1) := dk_104 (dk_at dksX8_leaps_7 3 rfl rfl)
theorem dX8_leaps_170 : decode cX8_leaps 170 = .ok (.if_icmp .ne 39, 3) := dk_160 0 39 (dk_at dksX8_leaps_7 4 rfl rfl)
theorem dX8_leaps_173 : decode cX8_leaps 173 = .ok (.aload_n 0, 1) := dk_42 (dk_at dksX8_leaps_7 7 rfl rfl)
theorem dX8_leaps_174 : decode cX8_leaps 174 = .ok (.iconst 0, 1) := dk_3 (dk_at dksX8_leaps_7 8 rfl rfl)
theorem dX8_leaps_175 : decode cX8_leaps 175 = .ok (.invokevirtual 195, 3) := dk_182 0 195 (dk_at dksX8_leaps_7 9 rfl rfl)
theorem dX8_leaps_178 : decode cX8_leaps 178 = .ok (.aload_n 0, 1) := dk_42 (dk_at dksX8_leaps_7 12 rfl rfl)
theorem dX8_leaps_179 : decode cX8_leaps 179 = .ok (.dup, 1) := dk_89 (dk_at dksX8_leaps_7 13 rfl rfl)
theorem dX8_leaps_180 : decode cX8_leaps 180 = .ok (.getfield 226, 3) := dk_180 0 226 (dk_at dksX8_leaps_7 14 rfl rfl)
theorem dX8_leaps_183 : decode cX8_leaps 183 = .ok (.iconst 1, 1) := dk_4 (dk_at dksX8_leaps_7 17 rfl rfl)
theorem dX8_leaps_184 : decode cX8_leaps 184 = .ok (.iadd, 1) := dk_96 (dk_at dksX8_leaps_7 18 rfl rfl)
theorem dX8_leaps_185 : decode cX8_leaps 185 = .ok (.putfield 226, 3) := dk_181 0 226 (dk_at dksX8_leaps_7 19 rfl rfl)
theorem dX8_leaps_188 : decode cX8_leaps 188 = .ok (.aload_n 0, 1) := dk_42 (dk_at dksX8_leaps_7 22 rfl rfl)
theorem dX8_leaps_189 : decode cX8_leaps 189 = .ok (.iconst 0, 1) := dk_3 (dk_at dksX8_leaps_7 23 rfl rfl)
theorem dX8_leaps_190 : decode cX8_leaps 190 = .ok (.putfield 220, 3) := dk_181 0 220 (dk_at dksX8_leaps_8 0 rfl rfl)
theorem dX8_leaps_193 : decode cX8_leaps 193 = .ok (.aload_n 0, 1) := dk_42 (dk_at dksX8_leaps_8 3 rfl rfl)
theorem dX8_leaps_194 : decode cX8_leaps 194 = .ok (.getfield 3, 3) := dk_180 0 3 (dk_at dksX8_leaps_8 4 rfl rfl)
theorem dX8_leaps_197 : decode cX8_leaps 197 = .ok (.getfield 38, 3) := dk_180 0 38 (dk_at dksX8_leaps_8 7 rfl rfl)
theorem dX8_leaps_200 : decode cX8_leaps 200 = .ok (.getfield 214, 3) := dk_180 0 214 (dk_at dksX8_leaps_8 10 rfl rfl)
theorem dX8_leaps_203 : decode cX8_leaps 203 = .ok (.iconst 3, 1) := dk_6 (dk_at dksX8_leaps_8 13 rfl rfl)
theorem dX8_leaps_204 : decode cX8_leaps 204 = .ok (.dup2, 1) := dk_92 (dk_at dksX8_leaps_8 14 rfl rfl)
theorem dX8_leaps_205 : decode cX8_leaps 205 = .ok (.iaload, 1) := dk_46 (dk_at dksX8_leaps_8 15 rfl rfl)
theorem dX8_leaps_206 : decode cX8_leaps 206 = .ok (.iconst 1, 1) := dk_4 (dk_at dksX8_leaps_8 16 rfl rfl)
theorem dX8_leaps_207 : decode cX8_leaps 207 = .ok (.iadd, 1) := dk_96 (dk_at dksX8_leaps_8 17 rfl rfl)
theorem dX8_leaps_208 : decode cX8_leaps 208 = .ok (.iastore, 1) := dk_79 (dk_at dksX8_leaps_8 18 rfl rfl)
theorem dX8_leaps_209 : decode cX8_leaps 209 = .ok (.return_, 1) := dk_177 (dk_at dksX8_leaps_8 19 rfl rfl)
abbrev cX8_learns : ByteArray := prog_7_method_12_code
def yX8_learns : MethodName := ⟨RX8, "learns", "(LLearntReasons$Clause;)[I"⟩
def dkwX8_learns_6 : List UInt8 := [45, 21, 6, 46, 182, 0, 183, 79, 132, 6, 1, 167, 255, 233, 25, 5, 176]
abbrev dktX8_learns_6 : List UInt8 := dkwX8_learns_6 ++ []
def dkwX8_learns_5 : List UInt8 := [167, 255, 160, 21, 4, 188, 10, 58, 5, 3, 54, 6, 21, 6, 21, 4, 162, 0, 22, 25, 5, 21, 6, 42]
abbrev dktX8_learns_5 : List UInt8 := dkwX8_learns_5 ++ dktX8_learns_6
def dkwX8_learns_4 : List UInt8 := [4, 100, 46, 79, 132, 6, 255, 167, 255, 222, 45, 21, 6, 21, 5, 79, 132, 4, 1, 132, 5, 1]
abbrev dktX8_learns_4 : List UInt8 := dkwX8_learns_4 ++ dktX8_learns_5
def dkwX8_learns_3 : List UInt8 := [164, 0, 34, 42, 21, 5, 45, 21, 6, 4, 100, 46, 182, 0, 179, 153, 0, 19, 45, 21, 6, 45, 21, 6]
abbrev dktX8_learns_3 : List UInt8 := dkwX8_learns_3 ++ dktX8_learns_4
def dkwX8_learns_2 : List UInt8 := [51, 153, 0, 65, 42, 21, 5, 182, 0, 175, 153, 0, 6, 167, 0, 53, 21, 4, 54, 6, 21, 6, 4]
abbrev dktX8_learns_2 : List UInt8 := dkwX8_learns_2 ++ dktX8_learns_3
def dkwX8_learns_1 : List UInt8 := [180, 0, 3, 180, 0, 38, 180, 0, 172, 163, 0, 87, 21, 5, 28, 159, 0, 75, 42, 180, 0, 35, 21, 5]
abbrev dktX8_learns_1 : List UInt8 := dkwX8_learns_1 ++ dktX8_learns_2
def dkwX8_learns_0 : List UInt8 := [42, 43, 182, 0, 168, 61, 16, 31, 188, 10, 78, 45, 3, 28, 79, 4, 54, 4, 4, 54, 5, 21, 5, 42]
abbrev dktX8_learns_0 : List UInt8 := dkwX8_learns_0 ++ dktX8_learns_1
theorem dksX8_learns_0 : cX8_learns.data.toList.drop 0 = dktX8_learns_0 := by decide +kernel
theorem dksX8_learns_1 : cX8_learns.data.toList.drop 24 = dktX8_learns_1 := dk_seg dksX8_learns_0 24 rfl rfl
theorem dksX8_learns_2 : cX8_learns.data.toList.drop 48 = dktX8_learns_2 := dk_seg dksX8_learns_1 24 rfl rfl
theorem dksX8_learns_3 : cX8_learns.data.toList.drop 71 = dktX8_learns_3 := dk_seg dksX8_learns_2 23 rfl rfl
theorem dksX8_learns_4 : cX8_learns.data.toList.drop 95 = dktX8_learns_4 := dk_seg dksX8_learns_3 24 rfl rfl
theorem dksX8_learns_5 : cX8_learns.data.toList.drop 117 = dktX8_learns_5 := dk_seg dksX8_learns_4 22 rfl rfl
theorem dksX8_learns_6 : cX8_learns.data.toList.drop 141 = dktX8_learns_6 := dk_seg dksX8_learns_5 24 rfl rfl
theorem dX8_learns_0 : decode cX8_learns 0 = .ok (.aload_n 0, 1) := dk_42 (dk_at dksX8_learns_0 0 rfl rfl)
theorem dX8_learns_1 : decode cX8_learns 1 = .ok (.aload_n 1, 1) := dk_43 (dk_at dksX8_learns_0 1 rfl rfl)
theorem dX8_learns_2 : decode cX8_learns 2 = .ok (.invokevirtual 168, 3) := dk_182 0 168 (dk_at dksX8_learns_0 2 rfl rfl)
theorem dX8_learns_5 : decode cX8_learns 5 = .ok (.istore_n 2, 1) := dk_61 (dk_at dksX8_learns_0 5 rfl rfl)
theorem dX8_learns_6 : decode cX8_learns 6 = .ok (.bipush 31, 2) := dk_16 31 (dk_at dksX8_learns_0 6 rfl rfl)
theorem dX8_learns_8 : decode cX8_learns 8 = .ok (.newarray .int, 2) := dk_188_10 (dk_at dksX8_learns_0 8 rfl rfl)
theorem dX8_learns_10 : decode cX8_learns 10 = .ok (.astore_n 3, 1) := dk_78 (dk_at dksX8_learns_0 10 rfl rfl)
theorem dX8_learns_11 : decode cX8_learns 11 = .ok (.aload_n 3, 1) := dk_45 (dk_at dksX8_learns_0 11 rfl rfl)
theorem dX8_learns_12 : decode cX8_learns 12 = .ok (.iconst 0, 1) := dk_3 (dk_at dksX8_learns_0 12 rfl rfl)
theorem dX8_learns_13 : decode cX8_learns 13 = .ok (.iload_n 2, 1) := dk_28 (dk_at dksX8_learns_0 13 rfl rfl)
theorem dX8_learns_14 : decode cX8_learns 14 = .ok (.iastore, 1) := dk_79 (dk_at dksX8_learns_0 14 rfl rfl)
theorem dX8_learns_15 : decode cX8_learns 15 = .ok (.iconst 1, 1) := dk_4 (dk_at dksX8_learns_0 15 rfl rfl)
theorem dX8_learns_16 : decode cX8_learns 16 = .ok (.istore 4, 2) := dk_54 4 (dk_at dksX8_learns_0 16 rfl rfl)
theorem dX8_learns_18 : decode cX8_learns 18 = .ok (.iconst 1, 1) := dk_4 (dk_at dksX8_learns_0 18 rfl rfl)
theorem dX8_learns_19 : decode cX8_learns 19 = .ok (.istore 5, 2) := dk_54 5 (dk_at dksX8_learns_0 19 rfl rfl)
theorem dX8_learns_21 : decode cX8_learns 21 = .ok (.iload 5, 2) := dk_21 5 (dk_at dksX8_learns_0 21 rfl rfl)
theorem dX8_learns_23 : decode cX8_learns 23 = .ok (.aload_n 0, 1) := dk_42 (dk_at dksX8_learns_0 23 rfl rfl)
theorem dX8_learns_24 : decode cX8_learns 24 = .ok (.getfield 3, 3) := dk_180 0 3 (dk_at dksX8_learns_1 0 rfl rfl)
theorem dX8_learns_27 : decode cX8_learns 27 = .ok (.getfield 38, 3) := dk_180 0 38 (dk_at dksX8_learns_1 3 rfl rfl)
theorem dX8_learns_30 : decode cX8_learns 30 = .ok (.getfield 172, 3) := dk_180 0 172 (dk_at dksX8_learns_1 6 rfl rfl)
theorem dX8_learns_33 : decode cX8_learns 33 = .ok (.if_icmp .gt 87, 3) := dk_163 0 87 (dk_at dksX8_learns_1 9 rfl rfl)
theorem dX8_learns_36 : decode cX8_learns 36 = .ok (.iload 5, 2) := dk_21 5 (dk_at dksX8_learns_1 12 rfl rfl)
theorem dX8_learns_38 : decode cX8_learns 38 = .ok (.iload_n 2, 1) := dk_28 (dk_at dksX8_learns_1 14 rfl rfl)
theorem dX8_learns_39 : decode cX8_learns 39 = .ok (.if_icmp .eq 75, 3) := dk_159 0 75 (dk_at dksX8_learns_1 15 rfl rfl)
theorem dX8_learns_42 : decode cX8_learns 42 = .ok (.aload_n 0, 1) := dk_42 (dk_at dksX8_learns_1 18 rfl rfl)
theorem dX8_learns_43 : decode cX8_learns 43 = .ok (.getfield 35, 3) := dk_180 0 35 (dk_at dksX8_learns_1 19 rfl rfl)
theorem dX8_learns_46 : decode cX8_learns 46 = .ok (.iload 5, 2) := dk_21 5 (dk_at dksX8_learns_1 22 rfl rfl)
theorem dX8_learns_48 : decode cX8_learns 48 = .ok (.baload, 1) := dk_51 (dk_at dksX8_learns_2 0 rfl rfl)
theorem dX8_learns_49 : decode cX8_learns 49 = .ok (.ifCond .eq 65, 3) := dk_153 0 65 (dk_at dksX8_learns_2 1 rfl rfl)
theorem dX8_learns_52 : decode cX8_learns 52 = .ok (.aload_n 0, 1) := dk_42 (dk_at dksX8_learns_2 4 rfl rfl)
theorem dX8_learns_53 : decode cX8_learns 53 = .ok (.iload 5, 2) := dk_21 5 (dk_at dksX8_learns_2 5 rfl rfl)
theorem dX8_learns_55 : decode cX8_learns 55 = .ok (.invokevirtual 175, 3) := dk_182 0 175 (dk_at dksX8_learns_2 7 rfl rfl)
theorem dX8_learns_58 : decode cX8_learns 58 = .ok (.ifCond .eq 6, 3) := dk_153 0 6 (dk_at dksX8_learns_2 10 rfl rfl)
theorem dX8_learns_61 : decode cX8_learns 61 = .ok (.goto 53, 3) := dk_167 0 53 (dk_at dksX8_learns_2 13 rfl rfl)
theorem dX8_learns_64 : decode cX8_learns 64 = .ok (.iload 4, 2) := dk_21 4 (dk_at dksX8_learns_2 16 rfl rfl)
theorem dX8_learns_66 : decode cX8_learns 66 = .ok (.istore 6, 2) := dk_54 6 (dk_at dksX8_learns_2 18 rfl rfl)
theorem dX8_learns_68 : decode cX8_learns 68 = .ok (.iload 6, 2) := dk_21 6 (dk_at dksX8_learns_2 20 rfl rfl)
theorem dX8_learns_70 : decode cX8_learns 70 = .ok (.iconst 1, 1) := dk_4 (dk_at dksX8_learns_2 22 rfl rfl)
theorem dX8_learns_71 : decode cX8_learns 71 = .ok (.if_icmp .le 34, 3) := dk_164 0 34 (dk_at dksX8_learns_3 0 rfl rfl)
theorem dX8_learns_74 : decode cX8_learns 74 = .ok (.aload_n 0, 1) := dk_42 (dk_at dksX8_learns_3 3 rfl rfl)
theorem dX8_learns_75 : decode cX8_learns 75 = .ok (.iload 5, 2) := dk_21 5 (dk_at dksX8_learns_3 4 rfl rfl)
theorem dX8_learns_77 : decode cX8_learns 77 = .ok (.aload_n 3, 1) := dk_45 (dk_at dksX8_learns_3 6 rfl rfl)
theorem dX8_learns_78 : decode cX8_learns 78 = .ok (.iload 6, 2) := dk_21 6 (dk_at dksX8_learns_3 7 rfl rfl)
theorem dX8_learns_80 : decode cX8_learns 80 = .ok (.iconst 1, 1) := dk_4 (dk_at dksX8_learns_3 9 rfl rfl)
theorem dX8_learns_81 : decode cX8_learns 81 = .ok (.isub, 1) := dk_100 (dk_at dksX8_learns_3 10 rfl rfl)
theorem dX8_learns_82 : decode cX8_learns 82 = .ok (.iaload, 1) := dk_46 (dk_at dksX8_learns_3 11 rfl rfl)
theorem dX8_learns_83 : decode cX8_learns 83 = .ok (.invokevirtual 179, 3) := dk_182 0 179 (dk_at dksX8_learns_3 12 rfl rfl)
theorem dX8_learns_86 : decode cX8_learns 86 = .ok (.ifCond .eq 19, 3) := dk_153 0 19 (dk_at dksX8_learns_3 15 rfl rfl)
theorem dX8_learns_89 : decode cX8_learns 89 = .ok (.aload_n 3, 1) := dk_45 (dk_at dksX8_learns_3 18 rfl rfl)
theorem dX8_learns_90 : decode cX8_learns 90 = .ok (.iload 6, 2) := dk_21 6 (dk_at dksX8_learns_3 19 rfl rfl)
theorem dX8_learns_92 : decode cX8_learns 92 = .ok (.aload_n 3, 1) := dk_45 (dk_at dksX8_learns_3 21 rfl rfl)
theorem dX8_learns_93 : decode cX8_learns 93 = .ok (.iload 6, 2) := dk_21 6 (dk_at dksX8_learns_3 22 rfl rfl)
theorem dX8_learns_95 : decode cX8_learns 95 = .ok (.iconst 1, 1) := dk_4 (dk_at dksX8_learns_4 0 rfl rfl)
theorem dX8_learns_96 : decode cX8_learns 96 = .ok (.isub, 1) := dk_100 (dk_at dksX8_learns_4 1 rfl rfl)
theorem dX8_learns_97 : decode cX8_learns 97 = .ok (.iaload, 1) := dk_46 (dk_at dksX8_learns_4 2 rfl rfl)
theorem dX8_learns_98 : decode cX8_learns 98 = .ok (.iastore, 1) := dk_79 (dk_at dksX8_learns_4 3 rfl rfl)
theorem dX8_learns_99 : decode cX8_learns 99 = .ok (.iinc 6 (-1), 3) := dk_132 6 255 (dk_at dksX8_learns_4 4 rfl rfl)
theorem dX8_learns_102 : decode cX8_learns 102 = .ok (.goto (-34), 3) := dk_167 255 222 (dk_at dksX8_learns_4 7 rfl rfl)
theorem dX8_learns_105 : decode cX8_learns 105 = .ok (.aload_n 3, 1) := dk_45 (dk_at dksX8_learns_4 10 rfl rfl)
theorem dX8_learns_106 : decode cX8_learns 106 = .ok (.iload 6, 2) := dk_21 6 (dk_at dksX8_learns_4 11 rfl rfl)
theorem dX8_learns_108 : decode cX8_learns 108 = .ok (.iload 5, 2) := dk_21 5 (dk_at dksX8_learns_4 13 rfl rfl)
theorem dX8_learns_110 : decode cX8_learns 110 = .ok (.iastore, 1) := dk_79 (dk_at dksX8_learns_4 15 rfl rfl)
theorem dX8_learns_111 : decode cX8_learns 111 = .ok (.iinc 4 1, 3) := dk_132 4 1 (dk_at dksX8_learns_4 16 rfl rfl)
theorem dX8_learns_114 : decode cX8_learns 114 = .ok (.iinc 5 1, 3) := dk_132 5 1 (dk_at dksX8_learns_4 19 rfl rfl)
theorem dX8_learns_117 : decode cX8_learns 117 = .ok (.goto (-96), 3) := dk_167 255 160 (dk_at dksX8_learns_5 0 rfl rfl)
theorem dX8_learns_120 : decode cX8_learns 120 = .ok (.iload 4, 2) := dk_21 4 (dk_at dksX8_learns_5 3 rfl rfl)
theorem dX8_learns_122 : decode cX8_learns 122 = .ok (.newarray .int, 2) := dk_188_10 (dk_at dksX8_learns_5 5 rfl rfl)
theorem dX8_learns_124 : decode cX8_learns 124 = .ok (.astore 5, 2) := dk_58 5 (dk_at dksX8_learns_5 7 rfl rfl)
theorem dX8_learns_126 : decode cX8_learns 126 = .ok (.iconst 0, 1) := dk_3 (dk_at dksX8_learns_5 9 rfl rfl)
theorem dX8_learns_127 : decode cX8_learns 127 = .ok (.istore 6, 2) := dk_54 6 (dk_at dksX8_learns_5 10 rfl rfl)
theorem dX8_learns_129 : decode cX8_learns 129 = .ok (.iload 6, 2) := dk_21 6 (dk_at dksX8_learns_5 12 rfl rfl)
theorem dX8_learns_131 : decode cX8_learns 131 = .ok (.iload 4, 2) := dk_21 4 (dk_at dksX8_learns_5 14 rfl rfl)
theorem dX8_learns_133 : decode cX8_learns 133 = .ok (.if_icmp .ge 22, 3) := dk_162 0 22 (dk_at dksX8_learns_5 16 rfl rfl)
theorem dX8_learns_136 : decode cX8_learns 136 = .ok (.aload 5, 2) := dk_25 5 (dk_at dksX8_learns_5 19 rfl rfl)
theorem dX8_learns_138 : decode cX8_learns 138 = .ok (.iload 6, 2) := dk_21 6 (dk_at dksX8_learns_5 21 rfl rfl)
theorem dX8_learns_140 : decode cX8_learns 140 = .ok (.aload_n 0, 1) := dk_42 (dk_at dksX8_learns_5 23 rfl rfl)
theorem dX8_learns_141 : decode cX8_learns 141 = .ok (.aload_n 3, 1) := dk_45 (dk_at dksX8_learns_6 0 rfl rfl)
theorem dX8_learns_142 : decode cX8_learns 142 = .ok (.iload 6, 2) := dk_21 6 (dk_at dksX8_learns_6 1 rfl rfl)
theorem dX8_learns_144 : decode cX8_learns 144 = .ok (.iaload, 1) := dk_46 (dk_at dksX8_learns_6 3 rfl rfl)
theorem dX8_learns_145 : decode cX8_learns 145 = .ok (.invokevirtual 183, 3) := dk_182 0 183 (dk_at dksX8_learns_6 4 rfl rfl)
theorem dX8_learns_148 : decode cX8_learns 148 = .ok (.iastore, 1) := dk_79 (dk_at dksX8_learns_6 7 rfl rfl)
theorem dX8_learns_149 : decode cX8_learns 149 = .ok (.iinc 6 1, 3) := dk_132 6 1 (dk_at dksX8_learns_6 8 rfl rfl)
theorem dX8_learns_152 : decode cX8_learns 152 = .ok (.goto (-23), 3) := dk_167 255 233 (dk_at dksX8_learns_6 11 rfl rfl)
theorem dX8_learns_155 : decode cX8_learns 155 = .ok (.aload 5, 2) := dk_25 5 (dk_at dksX8_learns_6 14 rfl rfl)
theorem dX8_learns_157 : decode cX8_learns 157 = .ok (.areturn, 1) := dk_176 (dk_at dksX8_learns_6 16 rfl rfl)
abbrev cX8_resolves : ByteArray := prog_7_method_8_code
def yX8_resolves : MethodName := ⟨RX8, "resolves", "(LLearntReasons$Clause;)I"⟩
def dkwX8_resolves_6 : List UInt8 := [180, 0, 145, 159, 0, 9, 132, 3, 255, 167, 255, 215, 42, 180, 0, 133, 29, 46, 184, 0, 136, 172]
abbrev dktX8_resolves_6 : List UInt8 := dkwX8_resolves_6 ++ []
def dkwX8_resolves_5 : List UInt8 := [184, 0, 136, 51, 153, 0, 24, 42, 180, 0, 130, 42, 180, 0, 133, 29, 46, 184, 0, 136, 46, 42]
abbrev dktX8_resolves_5 : List UInt8 := dkwX8_resolves_5 ++ dktX8_resolves_6
def dkwX8_resolves_4 : List UInt8 := [21, 4, 182, 0, 157, 4, 100, 96, 61, 167, 255, 184, 42, 180, 0, 35, 42, 180, 0, 133, 29, 46]
abbrev dktX8_resolves_4 : List UInt8 := dkwX8_resolves_4 ++ dktX8_resolves_5
def dkwX8_resolves_3 : List UInt8 := [159, 0, 6, 167, 255, 213, 42, 180, 0, 35, 21, 4, 3, 84, 28, 42, 42, 180, 0, 160, 21, 4, 50]
abbrev dktX8_resolves_3 : List UInt8 := dkwX8_resolves_3 ++ dktX8_resolves_4
def dkwX8_resolves_2 : List UInt8 := [132, 3, 255, 42, 180, 0, 35, 21, 4, 51, 153, 255, 230, 42, 180, 0, 130, 21, 4, 46, 42, 180, 0, 145]
abbrev dktX8_resolves_2 : List UInt8 := dkwX8_resolves_2 ++ dktX8_resolves_3
def dkwX8_resolves_1 : List UInt8 := [180, 0, 127, 4, 100, 62, 28, 4, 164, 0, 73, 42, 180, 0, 133, 29, 46, 184, 0, 136, 54, 4]
abbrev dktX8_resolves_1 : List UInt8 := dkwX8_resolves_1 ++ dktX8_resolves_2
def dkwX8_resolves_0 : List UInt8 := [42, 180, 0, 35, 3, 184, 0, 151, 42, 180, 0, 31, 3, 184, 0, 151, 42, 43, 2, 182, 0, 157, 61, 42]
abbrev dktX8_resolves_0 : List UInt8 := dkwX8_resolves_0 ++ dktX8_resolves_1
theorem dksX8_resolves_0 : cX8_resolves.data.toList.drop 0 = dktX8_resolves_0 := by decide +kernel
theorem dksX8_resolves_1 : cX8_resolves.data.toList.drop 24 = dktX8_resolves_1 := dk_seg dksX8_resolves_0 24 rfl rfl
theorem dksX8_resolves_2 : cX8_resolves.data.toList.drop 46 = dktX8_resolves_2 := dk_seg dksX8_resolves_1 22 rfl rfl
theorem dksX8_resolves_3 : cX8_resolves.data.toList.drop 70 = dktX8_resolves_3 := dk_seg dksX8_resolves_2 24 rfl rfl
theorem dksX8_resolves_4 : cX8_resolves.data.toList.drop 93 = dktX8_resolves_4 := dk_seg dksX8_resolves_3 23 rfl rfl
theorem dksX8_resolves_5 : cX8_resolves.data.toList.drop 115 = dktX8_resolves_5 := dk_seg dksX8_resolves_4 22 rfl rfl
theorem dksX8_resolves_6 : cX8_resolves.data.toList.drop 137 = dktX8_resolves_6 := dk_seg dksX8_resolves_5 22 rfl rfl
theorem dX8_resolves_0 : decode cX8_resolves 0 = .ok (.aload_n 0, 1) := dk_42 (dk_at dksX8_resolves_0 0 rfl rfl)
theorem dX8_resolves_1 : decode cX8_resolves 1 = .ok (.getfield 35, 3) := dk_180 0 35 (dk_at dksX8_resolves_0 1 rfl rfl)
theorem dX8_resolves_4 : decode cX8_resolves 4 = .ok (.iconst 0, 1) := dk_3 (dk_at dksX8_resolves_0 4 rfl rfl)
theorem dX8_resolves_5 : decode cX8_resolves 5 = .ok (.invokestatic 151, 3) := dk_184 0 151 (dk_at dksX8_resolves_0 5 rfl rfl)
theorem dX8_resolves_8 : decode cX8_resolves 8 = .ok (.aload_n 0, 1) := dk_42 (dk_at dksX8_resolves_0 8 rfl rfl)
theorem dX8_resolves_9 : decode cX8_resolves 9 = .ok (.getfield 31, 3) := dk_180 0 31 (dk_at dksX8_resolves_0 9 rfl rfl)
theorem dX8_resolves_12 : decode cX8_resolves 12 = .ok (.iconst 0, 1) := dk_3 (dk_at dksX8_resolves_0 12 rfl rfl)
theorem dX8_resolves_13 : decode cX8_resolves 13 = .ok (.invokestatic 151, 3) := dk_184 0 151 (dk_at dksX8_resolves_0 13 rfl rfl)
theorem dX8_resolves_16 : decode cX8_resolves 16 = .ok (.aload_n 0, 1) := dk_42 (dk_at dksX8_resolves_0 16 rfl rfl)
theorem dX8_resolves_17 : decode cX8_resolves 17 = .ok (.aload_n 1, 1) := dk_43 (dk_at dksX8_resolves_0 17 rfl rfl)
theorem dX8_resolves_18 : decode cX8_resolves 18 = .ok (.iconst (-1), 1) := dk_2 (dk_at dksX8_resolves_0 18 rfl rfl)
theorem dX8_resolves_19 : decode cX8_resolves 19 = .ok (.invokevirtual 157, 3) := dk_182 0 157 (dk_at dksX8_resolves_0 19 rfl rfl)
theorem dX8_resolves_22 : decode cX8_resolves 22 = .ok (.istore_n 2, 1) := dk_61 (dk_at dksX8_resolves_0 22 rfl rfl)
theorem dX8_resolves_23 : decode cX8_resolves 23 = .ok (.aload_n 0, 1) := dk_42 (dk_at dksX8_resolves_0 23 rfl rfl)
theorem dX8_resolves_24 : decode cX8_resolves 24 = .ok (.getfield 127, 3) := dk_180 0 127 (dk_at dksX8_resolves_1 0 rfl rfl)
theorem dX8_resolves_27 : decode cX8_resolves 27 = .ok (.iconst 1, 1) := dk_4 (dk_at dksX8_resolves_1 3 rfl rfl)
theorem dX8_resolves_28 : decode cX8_resolves 28 = .ok (.isub, 1) := dk_100 (dk_at dksX8_resolves_1 4 rfl rfl)
theorem dX8_resolves_29 : decode cX8_resolves 29 = .ok (.istore_n 3, 1) := dk_62 (dk_at dksX8_resolves_1 5 rfl rfl)
theorem dX8_resolves_30 : decode cX8_resolves 30 = .ok (.iload_n 2, 1) := dk_28 (dk_at dksX8_resolves_1 6 rfl rfl)
theorem dX8_resolves_31 : decode cX8_resolves 31 = .ok (.iconst 1, 1) := dk_4 (dk_at dksX8_resolves_1 7 rfl rfl)
theorem dX8_resolves_32 : decode cX8_resolves 32 = .ok (.if_icmp .le 73, 3) := dk_164 0 73 (dk_at dksX8_resolves_1 8 rfl rfl)
theorem dX8_resolves_35 : decode cX8_resolves 35 = .ok (.aload_n 0, 1) := dk_42 (dk_at dksX8_resolves_1 11 rfl rfl)
theorem dX8_resolves_36 : decode cX8_resolves 36 = .ok (.getfield 133, 3) := dk_180 0 133 (dk_at dksX8_resolves_1 12 rfl rfl)
theorem dX8_resolves_39 : decode cX8_resolves 39 = .ok (.iload_n 3, 1) := dk_29 (dk_at dksX8_resolves_1 15 rfl rfl)
theorem dX8_resolves_40 : decode cX8_resolves 40 = .ok (.iaload, 1) := dk_46 (dk_at dksX8_resolves_1 16 rfl rfl)
theorem dX8_resolves_41 : decode cX8_resolves 41 = .ok (.invokestatic 136, 3) := dk_184 0 136 (dk_at dksX8_resolves_1 17 rfl rfl)
theorem dX8_resolves_44 : decode cX8_resolves 44 = .ok (.istore 4, 2) := dk_54 4 (dk_at dksX8_resolves_1 20 rfl rfl)
theorem dX8_resolves_46 : decode cX8_resolves 46 = .ok (.iinc 3 (-1), 3) := dk_132 3 255 (dk_at dksX8_resolves_2 0 rfl rfl)
theorem dX8_resolves_49 : decode cX8_resolves 49 = .ok (.aload_n 0, 1) := dk_42 (dk_at dksX8_resolves_2 3 rfl rfl)
theorem dX8_resolves_50 : decode cX8_resolves 50 = .ok (.getfield 35, 3) := dk_180 0 35 (dk_at dksX8_resolves_2 4 rfl rfl)
theorem dX8_resolves_53 : decode cX8_resolves 53 = .ok (.iload 4, 2) := dk_21 4 (dk_at dksX8_resolves_2 7 rfl rfl)
theorem dX8_resolves_55 : decode cX8_resolves 55 = .ok (.baload, 1) := dk_51 (dk_at dksX8_resolves_2 9 rfl rfl)
theorem dX8_resolves_56 : decode cX8_resolves 56 = .ok (.ifCond .eq (-26), 3) := dk_153 255 230 (dk_at dksX8_resolves_2 10 rfl rfl)
theorem dX8_resolves_59 : decode cX8_resolves 59 = .ok (.aload_n 0, 1) := dk_42 (dk_at dksX8_resolves_2 13 rfl rfl)
theorem dX8_resolves_60 : decode cX8_resolves 60 = .ok (.getfield 130, 3) := dk_180 0 130 (dk_at dksX8_resolves_2 14 rfl rfl)
theorem dX8_resolves_63 : decode cX8_resolves 63 = .ok (.iload 4, 2) := dk_21 4 (dk_at dksX8_resolves_2 17 rfl rfl)
theorem dX8_resolves_65 : decode cX8_resolves 65 = .ok (.iaload, 1) := dk_46 (dk_at dksX8_resolves_2 19 rfl rfl)
theorem dX8_resolves_66 : decode cX8_resolves 66 = .ok (.aload_n 0, 1) := dk_42 (dk_at dksX8_resolves_2 20 rfl rfl)
theorem dX8_resolves_67 : decode cX8_resolves 67 = .ok (.getfield 145, 3) := dk_180 0 145 (dk_at dksX8_resolves_2 21 rfl rfl)
theorem dX8_resolves_70 : decode cX8_resolves 70 = .ok (.if_icmp .eq 6, 3) := dk_159 0 6 (dk_at dksX8_resolves_3 0 rfl rfl)
theorem dX8_resolves_73 : decode cX8_resolves 73 = .ok (.goto (-43), 3) := dk_167 255 213 (dk_at dksX8_resolves_3 3 rfl rfl)
theorem dX8_resolves_76 : decode cX8_resolves 76 = .ok (.aload_n 0, 1) := dk_42 (dk_at dksX8_resolves_3 6 rfl rfl)
theorem dX8_resolves_77 : decode cX8_resolves 77 = .ok (.getfield 35, 3) := dk_180 0 35 (dk_at dksX8_resolves_3 7 rfl rfl)
theorem dX8_resolves_80 : decode cX8_resolves 80 = .ok (.iload 4, 2) := dk_21 4 (dk_at dksX8_resolves_3 10 rfl rfl)
theorem dX8_resolves_82 : decode cX8_resolves 82 = .ok (.iconst 0, 1) := dk_3 (dk_at dksX8_resolves_3 12 rfl rfl)
theorem dX8_resolves_83 : decode cX8_resolves 83 = .ok (.bastore, 1) := dk_84 (dk_at dksX8_resolves_3 13 rfl rfl)
theorem dX8_resolves_84 : decode cX8_resolves 84 = .ok (.iload_n 2, 1) := dk_28 (dk_at dksX8_resolves_3 14 rfl rfl)
theorem dX8_resolves_85 : decode cX8_resolves 85 = .ok (.aload_n 0, 1) := dk_42 (dk_at dksX8_resolves_3 15 rfl rfl)
theorem dX8_resolves_86 : decode cX8_resolves 86 = .ok (.aload_n 0, 1) := dk_42 (dk_at dksX8_resolves_3 16 rfl rfl)
theorem dX8_resolves_87 : decode cX8_resolves 87 = .ok (.getfield 160, 3) := dk_180 0 160 (dk_at dksX8_resolves_3 17 rfl rfl)
theorem dX8_resolves_90 : decode cX8_resolves 90 = .ok (.iload 4, 2) := dk_21 4 (dk_at dksX8_resolves_3 20 rfl rfl)
theorem dX8_resolves_92 : decode cX8_resolves 92 = .ok (.aaload, 1) := dk_50 (dk_at dksX8_resolves_3 22 rfl rfl)
theorem dX8_resolves_93 : decode cX8_resolves 93 = .ok (.iload 4, 2) := dk_21 4 (dk_at dksX8_resolves_4 0 rfl rfl)
theorem dX8_resolves_95 : decode cX8_resolves 95 = .ok (.invokevirtual 157, 3) := dk_182 0 157 (dk_at dksX8_resolves_4 2 rfl rfl)
theorem dX8_resolves_98 : decode cX8_resolves 98 = .ok (.iconst 1, 1) := dk_4 (dk_at dksX8_resolves_4 5 rfl rfl)
theorem dX8_resolves_99 : decode cX8_resolves 99 = .ok (.isub, 1) := dk_100 (dk_at dksX8_resolves_4 6 rfl rfl)
theorem dX8_resolves_100 : decode cX8_resolves 100 = .ok (.iadd, 1) := dk_96 (dk_at dksX8_resolves_4 7 rfl rfl)
theorem dX8_resolves_101 : decode cX8_resolves 101 = .ok (.istore_n 2, 1) := dk_61 (dk_at dksX8_resolves_4 8 rfl rfl)
theorem dX8_resolves_102 : decode cX8_resolves 102 = .ok (.goto (-72), 3) := dk_167 255 184 (dk_at dksX8_resolves_4 9 rfl rfl)
theorem dX8_resolves_105 : decode cX8_resolves 105 = .ok (.aload_n 0, 1) := dk_42 (dk_at dksX8_resolves_4 12 rfl rfl)
theorem dX8_resolves_106 : decode cX8_resolves 106 = .ok (.getfield 35, 3) := dk_180 0 35 (dk_at dksX8_resolves_4 13 rfl rfl)
theorem dX8_resolves_109 : decode cX8_resolves 109 = .ok (.aload_n 0, 1) := dk_42 (dk_at dksX8_resolves_4 16 rfl rfl)
theorem dX8_resolves_110 : decode cX8_resolves 110 = .ok (.getfield 133, 3) := dk_180 0 133 (dk_at dksX8_resolves_4 17 rfl rfl)
theorem dX8_resolves_113 : decode cX8_resolves 113 = .ok (.iload_n 3, 1) := dk_29 (dk_at dksX8_resolves_4 20 rfl rfl)
theorem dX8_resolves_114 : decode cX8_resolves 114 = .ok (.iaload, 1) := dk_46 (dk_at dksX8_resolves_4 21 rfl rfl)
theorem dX8_resolves_115 : decode cX8_resolves 115 = .ok (.invokestatic 136, 3) := dk_184 0 136 (dk_at dksX8_resolves_5 0 rfl rfl)
theorem dX8_resolves_118 : decode cX8_resolves 118 = .ok (.baload, 1) := dk_51 (dk_at dksX8_resolves_5 3 rfl rfl)
theorem dX8_resolves_119 : decode cX8_resolves 119 = .ok (.ifCond .eq 24, 3) := dk_153 0 24 (dk_at dksX8_resolves_5 4 rfl rfl)
theorem dX8_resolves_122 : decode cX8_resolves 122 = .ok (.aload_n 0, 1) := dk_42 (dk_at dksX8_resolves_5 7 rfl rfl)
theorem dX8_resolves_123 : decode cX8_resolves 123 = .ok (.getfield 130, 3) := dk_180 0 130 (dk_at dksX8_resolves_5 8 rfl rfl)
theorem dX8_resolves_126 : decode cX8_resolves 126 = .ok (.aload_n 0, 1) := dk_42 (dk_at dksX8_resolves_5 11 rfl rfl)
theorem dX8_resolves_127 : decode cX8_resolves 127 = .ok (.getfield 133, 3) := dk_180 0 133 (dk_at dksX8_resolves_5 12 rfl rfl)
theorem dX8_resolves_130 : decode cX8_resolves 130 = .ok (.iload_n 3, 1) := dk_29 (dk_at dksX8_resolves_5 15 rfl rfl)
theorem dX8_resolves_131 : decode cX8_resolves 131 = .ok (.iaload, 1) := dk_46 (dk_at dksX8_resolves_5 16 rfl rfl)
theorem dX8_resolves_132 : decode cX8_resolves 132 = .ok (.invokestatic 136, 3) := dk_184 0 136 (dk_at dksX8_resolves_5 17 rfl rfl)
theorem dX8_resolves_135 : decode cX8_resolves 135 = .ok (.iaload, 1) := dk_46 (dk_at dksX8_resolves_5 20 rfl rfl)
theorem dX8_resolves_136 : decode cX8_resolves 136 = .ok (.aload_n 0, 1) := dk_42 (dk_at dksX8_resolves_5 21 rfl rfl)
theorem dX8_resolves_137 : decode cX8_resolves 137 = .ok (.getfield 145, 3) := dk_180 0 145 (dk_at dksX8_resolves_6 0 rfl rfl)
theorem dX8_resolves_140 : decode cX8_resolves 140 = .ok (.if_icmp .eq 9, 3) := dk_159 0 9 (dk_at dksX8_resolves_6 3 rfl rfl)
theorem dX8_resolves_143 : decode cX8_resolves 143 = .ok (.iinc 3 (-1), 3) := dk_132 3 255 (dk_at dksX8_resolves_6 6 rfl rfl)
theorem dX8_resolves_146 : decode cX8_resolves 146 = .ok (.goto (-41), 3) := dk_167 255 215 (dk_at dksX8_resolves_6 9 rfl rfl)
theorem dX8_resolves_149 : decode cX8_resolves 149 = .ok (.aload_n 0, 1) := dk_42 (dk_at dksX8_resolves_6 12 rfl rfl)
theorem dX8_resolves_150 : decode cX8_resolves 150 = .ok (.getfield 133, 3) := dk_180 0 133 (dk_at dksX8_resolves_6 13 rfl rfl)
theorem dX8_resolves_153 : decode cX8_resolves 153 = .ok (.iload_n 3, 1) := dk_29 (dk_at dksX8_resolves_6 16 rfl rfl)
theorem dX8_resolves_154 : decode cX8_resolves 154 = .ok (.iaload, 1) := dk_46 (dk_at dksX8_resolves_6 17 rfl rfl)
theorem dX8_resolves_155 : decode cX8_resolves 155 = .ok (.invokestatic 136, 3) := dk_184 0 136 (dk_at dksX8_resolves_6 18 rfl rfl)
theorem dX8_resolves_158 : decode cX8_resolves 158 = .ok (.ireturn, 1) := dk_172 (dk_at dksX8_resolves_6 21 rfl rfl)
abbrev cX8_brings : ByteArray := prog_7_method_7_code
def yX8_brings : MethodName := ⟨RX8, "brings", "(LLearntReasons$Clause;I)I"⟩
def dkwX8_brings_4 : List UInt8 := [160, 0, 7, 4, 167, 0, 4, 3, 96, 62, 132, 6, 1, 167, 255, 165, 29, 172]
abbrev dktX8_brings_4 : List UInt8 := dkwX8_brings_4 ++ []
def dkwX8_brings_3 : List UInt8 := [21, 8, 4, 84, 42, 180, 0, 31, 21, 8, 4, 84, 29, 42, 180, 0, 130, 21, 8, 46, 42, 180, 0, 145]
abbrev dktX8_brings_3 : List UInt8 := dkwX8_brings_3 ++ dktX8_brings_4
def dkwX8_brings_2 : List UInt8 := [21, 8, 46, 153, 0, 54, 42, 180, 0, 35, 21, 8, 51, 153, 0, 6, 167, 0, 41, 42, 180, 0, 35]
abbrev dktX8_brings_2 : List UInt8 := dkwX8_brings_2 ++ dktX8_brings_3
def dkwX8_brings_1 : List UInt8 := [25, 4, 21, 6, 46, 54, 7, 21, 7, 184, 0, 136, 54, 8, 21, 8, 28, 159, 0, 64, 42, 180, 0, 130]
abbrev dktX8_brings_1 : List UInt8 := dkwX8_brings_1 ++ dktX8_brings_2
def dkwX8_brings_0 : List UInt8 := [3, 62, 43, 180, 0, 78, 58, 4, 25, 4, 190, 54, 5, 3, 54, 6, 21, 6, 21, 5, 162, 0, 90]
abbrev dktX8_brings_0 : List UInt8 := dkwX8_brings_0 ++ dktX8_brings_1
theorem dksX8_brings_0 : cX8_brings.data.toList.drop 0 = dktX8_brings_0 := by decide +kernel
theorem dksX8_brings_1 : cX8_brings.data.toList.drop 23 = dktX8_brings_1 := dk_seg dksX8_brings_0 23 rfl rfl
theorem dksX8_brings_2 : cX8_brings.data.toList.drop 47 = dktX8_brings_2 := dk_seg dksX8_brings_1 24 rfl rfl
theorem dksX8_brings_3 : cX8_brings.data.toList.drop 70 = dktX8_brings_3 := dk_seg dksX8_brings_2 23 rfl rfl
theorem dksX8_brings_4 : cX8_brings.data.toList.drop 94 = dktX8_brings_4 := dk_seg dksX8_brings_3 24 rfl rfl
theorem dX8_brings_0 : decode cX8_brings 0 = .ok (.iconst 0, 1) := dk_3 (dk_at dksX8_brings_0 0 rfl rfl)
theorem dX8_brings_1 : decode cX8_brings 1 = .ok (.istore_n 3, 1) := dk_62 (dk_at dksX8_brings_0 1 rfl rfl)
theorem dX8_brings_2 : decode cX8_brings 2 = .ok (.aload_n 1, 1) := dk_43 (dk_at dksX8_brings_0 2 rfl rfl)
theorem dX8_brings_3 : decode cX8_brings 3 = .ok (.getfield 78, 3) := dk_180 0 78 (dk_at dksX8_brings_0 3 rfl rfl)
theorem dX8_brings_6 : decode cX8_brings 6 = .ok (.astore 4, 2) := dk_58 4 (dk_at dksX8_brings_0 6 rfl rfl)
theorem dX8_brings_8 : decode cX8_brings 8 = .ok (.aload 4, 2) := dk_25 4 (dk_at dksX8_brings_0 8 rfl rfl)
theorem dX8_brings_10 : decode cX8_brings 10 = .ok (.arraylength, 1) := dk_190 (dk_at dksX8_brings_0 10 rfl rfl)
theorem dX8_brings_11 : decode cX8_brings 11 = .ok (.istore 5, 2) := dk_54 5 (dk_at dksX8_brings_0 11 rfl rfl)
theorem dX8_brings_13 : decode cX8_brings 13 = .ok (.iconst 0, 1) := dk_3 (dk_at dksX8_brings_0 13 rfl rfl)
theorem dX8_brings_14 : decode cX8_brings 14 = .ok (.istore 6, 2) := dk_54 6 (dk_at dksX8_brings_0 14 rfl rfl)
theorem dX8_brings_16 : decode cX8_brings 16 = .ok (.iload 6, 2) := dk_21 6 (dk_at dksX8_brings_0 16 rfl rfl)
theorem dX8_brings_18 : decode cX8_brings 18 = .ok (.iload 5, 2) := dk_21 5 (dk_at dksX8_brings_0 18 rfl rfl)
theorem dX8_brings_20 : decode cX8_brings 20 = .ok (.if_icmp .ge 90, 3) := dk_162 0 90 (dk_at dksX8_brings_0 20 rfl rfl)
theorem dX8_brings_23 : decode cX8_brings 23 = .ok (.aload 4, 2) := dk_25 4 (dk_at dksX8_brings_1 0 rfl rfl)
theorem dX8_brings_25 : decode cX8_brings 25 = .ok (.iload 6, 2) := dk_21 6 (dk_at dksX8_brings_1 2 rfl rfl)
theorem dX8_brings_27 : decode cX8_brings 27 = .ok (.iaload, 1) := dk_46 (dk_at dksX8_brings_1 4 rfl rfl)
theorem dX8_brings_28 : decode cX8_brings 28 = .ok (.istore 7, 2) := dk_54 7 (dk_at dksX8_brings_1 5 rfl rfl)
theorem dX8_brings_30 : decode cX8_brings 30 = .ok (.iload 7, 2) := dk_21 7 (dk_at dksX8_brings_1 7 rfl rfl)
theorem dX8_brings_32 : decode cX8_brings 32 = .ok (.invokestatic 136, 3) := dk_184 0 136 (dk_at dksX8_brings_1 9 rfl rfl)
theorem dX8_brings_35 : decode cX8_brings 35 = .ok (.istore 8, 2) := dk_54 8 (dk_at dksX8_brings_1 12 rfl rfl)
theorem dX8_brings_37 : decode cX8_brings 37 = .ok (.iload 8, 2) := dk_21 8 (dk_at dksX8_brings_1 14 rfl rfl)
theorem dX8_brings_39 : decode cX8_brings 39 = .ok (.iload_n 2, 1) := dk_28 (dk_at dksX8_brings_1 16 rfl rfl)
theorem dX8_brings_40 : decode cX8_brings 40 = .ok (.if_icmp .eq 64, 3) := dk_159 0 64 (dk_at dksX8_brings_1 17 rfl rfl)
theorem dX8_brings_43 : decode cX8_brings 43 = .ok (.aload_n 0, 1) := dk_42 (dk_at dksX8_brings_1 20 rfl rfl)
theorem dX8_brings_44 : decode cX8_brings 44 = .ok (.getfield 130, 3) := dk_180 0 130 (dk_at dksX8_brings_1 21 rfl rfl)
theorem dX8_brings_47 : decode cX8_brings 47 = .ok (.iload 8, 2) := dk_21 8 (dk_at dksX8_brings_2 0 rfl rfl)
theorem dX8_brings_49 : decode cX8_brings 49 = .ok (.iaload, 1) := dk_46 (dk_at dksX8_brings_2 2 rfl rfl)
theorem dX8_brings_50 : decode cX8_brings 50 = .ok (.ifCond .eq 54, 3) := dk_153 0 54 (dk_at dksX8_brings_2 3 rfl rfl)
theorem dX8_brings_53 : decode cX8_brings 53 = .ok (.aload_n 0, 1) := dk_42 (dk_at dksX8_brings_2 6 rfl rfl)
theorem dX8_brings_54 : decode cX8_brings 54 = .ok (.getfield 35, 3) := dk_180 0 35 (dk_at dksX8_brings_2 7 rfl rfl)
theorem dX8_brings_57 : decode cX8_brings 57 = .ok (.iload 8, 2) := dk_21 8 (dk_at dksX8_brings_2 10 rfl rfl)
theorem dX8_brings_59 : decode cX8_brings 59 = .ok (.baload, 1) := dk_51 (dk_at dksX8_brings_2 12 rfl rfl)
theorem dX8_brings_60 : decode cX8_brings 60 = .ok (.ifCond .eq 6, 3) := dk_153 0 6 (dk_at dksX8_brings_2 13 rfl rfl)
theorem dX8_brings_63 : decode cX8_brings 63 = .ok (.goto 41, 3) := dk_167 0 41 (dk_at dksX8_brings_2 16 rfl rfl)
theorem dX8_brings_66 : decode cX8_brings 66 = .ok (.aload_n 0, 1) := dk_42 (dk_at dksX8_brings_2 19 rfl rfl)
theorem dX8_brings_67 : decode cX8_brings 67 = .ok (.getfield 35, 3) := dk_180 0 35 (dk_at dksX8_brings_2 20 rfl rfl)
theorem dX8_brings_70 : decode cX8_brings 70 = .ok (.iload 8, 2) := dk_21 8 (dk_at dksX8_brings_3 0 rfl rfl)
theorem dX8_brings_72 : decode cX8_brings 72 = .ok (.iconst 1, 1) := dk_4 (dk_at dksX8_brings_3 2 rfl rfl)
theorem dX8_brings_73 : decode cX8_brings 73 = .ok (.bastore, 1) := dk_84 (dk_at dksX8_brings_3 3 rfl rfl)
theorem dX8_brings_74 : decode cX8_brings 74 = .ok (.aload_n 0, 1) := dk_42 (dk_at dksX8_brings_3 4 rfl rfl)
theorem dX8_brings_75 : decode cX8_brings 75 = .ok (.getfield 31, 3) := dk_180 0 31 (dk_at dksX8_brings_3 5 rfl rfl)
theorem dX8_brings_78 : decode cX8_brings 78 = .ok (.iload 8, 2) := dk_21 8 (dk_at dksX8_brings_3 8 rfl rfl)
theorem dX8_brings_80 : decode cX8_brings 80 = .ok (.iconst 1, 1) := dk_4 (dk_at dksX8_brings_3 10 rfl rfl)
theorem dX8_brings_81 : decode cX8_brings 81 = .ok (.bastore, 1) := dk_84 (dk_at dksX8_brings_3 11 rfl rfl)
theorem dX8_brings_82 : decode cX8_brings 82 = .ok (.iload_n 3, 1) := dk_29 (dk_at dksX8_brings_3 12 rfl rfl)
theorem dX8_brings_83 : decode cX8_brings 83 = .ok (.aload_n 0, 1) := dk_42 (dk_at dksX8_brings_3 13 rfl rfl)
theorem dX8_brings_84 : decode cX8_brings 84 = .ok (.getfield 130, 3) := dk_180 0 130 (dk_at dksX8_brings_3 14 rfl rfl)
theorem dX8_brings_87 : decode cX8_brings 87 = .ok (.iload 8, 2) := dk_21 8 (dk_at dksX8_brings_3 17 rfl rfl)
theorem dX8_brings_89 : decode cX8_brings 89 = .ok (.iaload, 1) := dk_46 (dk_at dksX8_brings_3 19 rfl rfl)
theorem dX8_brings_90 : decode cX8_brings 90 = .ok (.aload_n 0, 1) := dk_42 (dk_at dksX8_brings_3 20 rfl rfl)
theorem dX8_brings_91 : decode cX8_brings 91 = .ok (.getfield 145, 3) := dk_180 0 145 (dk_at dksX8_brings_3 21 rfl rfl)
theorem dX8_brings_94 : decode cX8_brings 94 = .ok (.if_icmp .ne 7, 3) := dk_160 0 7 (dk_at dksX8_brings_4 0 rfl rfl)
theorem dX8_brings_97 : decode cX8_brings 97 = .ok (.iconst 1, 1) := dk_4 (dk_at dksX8_brings_4 3 rfl rfl)
theorem dX8_brings_98 : decode cX8_brings 98 = .ok (.goto 4, 3) := dk_167 0 4 (dk_at dksX8_brings_4 4 rfl rfl)
theorem dX8_brings_101 : decode cX8_brings 101 = .ok (.iconst 0, 1) := dk_3 (dk_at dksX8_brings_4 7 rfl rfl)
theorem dX8_brings_102 : decode cX8_brings 102 = .ok (.iadd, 1) := dk_96 (dk_at dksX8_brings_4 8 rfl rfl)
theorem dX8_brings_103 : decode cX8_brings 103 = .ok (.istore_n 3, 1) := dk_62 (dk_at dksX8_brings_4 9 rfl rfl)
theorem dX8_brings_104 : decode cX8_brings 104 = .ok (.iinc 6 1, 3) := dk_132 6 1 (dk_at dksX8_brings_4 10 rfl rfl)
theorem dX8_brings_107 : decode cX8_brings 107 = .ok (.goto (-91), 3) := dk_167 255 165 (dk_at dksX8_brings_4 13 rfl rfl)
theorem dX8_brings_110 : decode cX8_brings 110 = .ok (.iload_n 3, 1) := dk_29 (dk_at dksX8_brings_4 16 rfl rfl)
theorem dX8_brings_111 : decode cX8_brings 111 = .ok (.ireturn, 1) := dk_172 (dk_at dksX8_brings_4 17 rfl rfl)
abbrev cX8_isTrimmed : ByteArray := prog_7_method_9_code
def yX8_isTrimmed : MethodName := ⟨RX8, "isTrimmed", "(I)Z"⟩
def dkwX8_isTrimmed_3 : List UInt8 := [3, 172, 132, 5, 1, 167, 255, 205, 4, 172]
abbrev dktX8_isTrimmed_3 : List UInt8 := dkwX8_isTrimmed_3 ++ []
def dkwX8_isTrimmed_2 : List UInt8 := [27, 159, 0, 25, 42, 180, 0, 130, 21, 7, 46, 158, 0, 15, 42, 180, 0, 35, 21, 7, 51, 154, 0, 5]
abbrev dktX8_isTrimmed_2 : List UInt8 := dkwX8_isTrimmed_2 ++ dktX8_isTrimmed_3
def dkwX8_isTrimmed_1 : List UInt8 := [54, 5, 21, 5, 21, 4, 162, 0, 50, 45, 21, 5, 46, 54, 6, 21, 6, 184, 0, 136, 54, 7, 21, 7]
abbrev dktX8_isTrimmed_1 : List UInt8 := dkwX8_isTrimmed_1 ++ dktX8_isTrimmed_2
def dkwX8_isTrimmed_0 : List UInt8 := [42, 180, 0, 160, 27, 50, 77, 44, 199, 0, 5, 3, 172, 44, 180, 0, 78, 78, 45, 190, 54, 4, 3]
abbrev dktX8_isTrimmed_0 : List UInt8 := dkwX8_isTrimmed_0 ++ dktX8_isTrimmed_1
theorem dksX8_isTrimmed_0 : cX8_isTrimmed.data.toList.drop 0 = dktX8_isTrimmed_0 := by decide +kernel
theorem dksX8_isTrimmed_1 : cX8_isTrimmed.data.toList.drop 23 = dktX8_isTrimmed_1 := dk_seg dksX8_isTrimmed_0 23 rfl rfl
theorem dksX8_isTrimmed_2 : cX8_isTrimmed.data.toList.drop 47 = dktX8_isTrimmed_2 := dk_seg dksX8_isTrimmed_1 24 rfl rfl
theorem dksX8_isTrimmed_3 : cX8_isTrimmed.data.toList.drop 71 = dktX8_isTrimmed_3 := dk_seg dksX8_isTrimmed_2 24 rfl rfl
theorem dX8_isTrimmed_0 : decode cX8_isTrimmed 0 = .ok (.aload_n 0, 1) := dk_42 (dk_at dksX8_isTrimmed_0 0 rfl rfl)
theorem dX8_isTrimmed_1 : decode cX8_isTrimmed 1 = .ok (.getfield 160, 3) := dk_180 0 160 (dk_at dksX8_isTrimmed_0 1 rfl rfl)
theorem dX8_isTrimmed_4 : decode cX8_isTrimmed 4 = .ok (.iload_n 1, 1) := dk_27 (dk_at dksX8_isTrimmed_0 4 rfl rfl)
theorem dX8_isTrimmed_5 : decode cX8_isTrimmed 5 = .ok (.aaload, 1) := dk_50 (dk_at dksX8_isTrimmed_0 5 rfl rfl)
theorem dX8_isTrimmed_6 : decode cX8_isTrimmed 6 = .ok (.astore_n 2, 1) := dk_77 (dk_at dksX8_isTrimmed_0 6 rfl rfl)
theorem dX8_isTrimmed_7 : decode cX8_isTrimmed 7 = .ok (.aload_n 2, 1) := dk_44 (dk_at dksX8_isTrimmed_0 7 rfl rfl)
theorem dX8_isTrimmed_8 : decode cX8_isTrimmed 8 = .ok (.ifnonnull 5, 3) := dk_199 0 5 (dk_at dksX8_isTrimmed_0 8 rfl rfl)
theorem dX8_isTrimmed_11 : decode cX8_isTrimmed 11 = .ok (.iconst 0, 1) := dk_3 (dk_at dksX8_isTrimmed_0 11 rfl rfl)
theorem dX8_isTrimmed_12 : decode cX8_isTrimmed 12 = .ok (.ireturn, 1) := dk_172 (dk_at dksX8_isTrimmed_0 12 rfl rfl)
theorem dX8_isTrimmed_13 : decode cX8_isTrimmed 13 = .ok (.aload_n 2, 1) := dk_44 (dk_at dksX8_isTrimmed_0 13 rfl rfl)
theorem dX8_isTrimmed_14 : decode cX8_isTrimmed 14 = .ok (.getfield 78, 3) := dk_180 0 78 (dk_at dksX8_isTrimmed_0 14 rfl rfl)
theorem dX8_isTrimmed_17 : decode cX8_isTrimmed 17 = .ok (.astore_n 3, 1) := dk_78 (dk_at dksX8_isTrimmed_0 17 rfl rfl)
theorem dX8_isTrimmed_18 : decode cX8_isTrimmed 18 = .ok (.aload_n 3, 1) := dk_45 (dk_at dksX8_isTrimmed_0 18 rfl rfl)
theorem dX8_isTrimmed_19 : decode cX8_isTrimmed 19 = .ok (.arraylength, 1) := dk_190 (dk_at dksX8_isTrimmed_0 19 rfl rfl)
theorem dX8_isTrimmed_20 : decode cX8_isTrimmed 20 = .ok (.istore 4, 2) := dk_54 4 (dk_at dksX8_isTrimmed_0 20 rfl rfl)
theorem dX8_isTrimmed_22 : decode cX8_isTrimmed 22 = .ok (.iconst 0, 1) := dk_3 (dk_at dksX8_isTrimmed_0 22 rfl rfl)
theorem dX8_isTrimmed_23 : decode cX8_isTrimmed 23 = .ok (.istore 5, 2) := dk_54 5 (dk_at dksX8_isTrimmed_1 0 rfl rfl)
theorem dX8_isTrimmed_25 : decode cX8_isTrimmed 25 = .ok (.iload 5, 2) := dk_21 5 (dk_at dksX8_isTrimmed_1 2 rfl rfl)
theorem dX8_isTrimmed_27 : decode cX8_isTrimmed 27 = .ok (.iload 4, 2) := dk_21 4 (dk_at dksX8_isTrimmed_1 4 rfl rfl)
theorem dX8_isTrimmed_29 : decode cX8_isTrimmed 29 = .ok (.if_icmp .ge 50, 3) := dk_162 0 50 (dk_at dksX8_isTrimmed_1 6 rfl rfl)
theorem dX8_isTrimmed_32 : decode cX8_isTrimmed 32 = .ok (.aload_n 3, 1) := dk_45 (dk_at dksX8_isTrimmed_1 9 rfl rfl)
theorem dX8_isTrimmed_33 : decode cX8_isTrimmed 33 = .ok (.iload 5, 2) := dk_21 5 (dk_at dksX8_isTrimmed_1 10 rfl rfl)
theorem dX8_isTrimmed_35 : decode cX8_isTrimmed 35 = .ok (.iaload, 1) := dk_46 (dk_at dksX8_isTrimmed_1 12 rfl rfl)
theorem dX8_isTrimmed_36 : decode cX8_isTrimmed 36 = .ok (.istore 6, 2) := dk_54 6 (dk_at dksX8_isTrimmed_1 13 rfl rfl)
theorem dX8_isTrimmed_38 : decode cX8_isTrimmed 38 = .ok (.iload 6, 2) := dk_21 6 (dk_at dksX8_isTrimmed_1 15 rfl rfl)
theorem dX8_isTrimmed_40 : decode cX8_isTrimmed 40 = .ok (.invokestatic 136, 3) := dk_184 0 136 (dk_at dksX8_isTrimmed_1 17 rfl rfl)
theorem dX8_isTrimmed_43 : decode cX8_isTrimmed 43 = .ok (.istore 7, 2) := dk_54 7 (dk_at dksX8_isTrimmed_1 20 rfl rfl)
theorem dX8_isTrimmed_45 : decode cX8_isTrimmed 45 = .ok (.iload 7, 2) := dk_21 7 (dk_at dksX8_isTrimmed_1 22 rfl rfl)
theorem dX8_isTrimmed_47 : decode cX8_isTrimmed 47 = .ok (.iload_n 1, 1) := dk_27 (dk_at dksX8_isTrimmed_2 0 rfl rfl)
theorem dX8_isTrimmed_48 : decode cX8_isTrimmed 48 = .ok (.if_icmp .eq 25, 3) := dk_159 0 25 (dk_at dksX8_isTrimmed_2 1 rfl rfl)
theorem dX8_isTrimmed_51 : decode cX8_isTrimmed 51 = .ok (.aload_n 0, 1) := dk_42 (dk_at dksX8_isTrimmed_2 4 rfl rfl)
theorem dX8_isTrimmed_52 : decode cX8_isTrimmed 52 = .ok (.getfield 130, 3) := dk_180 0 130 (dk_at dksX8_isTrimmed_2 5 rfl rfl)
theorem dX8_isTrimmed_55 : decode cX8_isTrimmed 55 = .ok (.iload 7, 2) := dk_21 7 (dk_at dksX8_isTrimmed_2 8 rfl rfl)
theorem dX8_isTrimmed_57 : decode cX8_isTrimmed 57 = .ok (.iaload, 1) := dk_46 (dk_at dksX8_isTrimmed_2 10 rfl rfl)
theorem dX8_isTrimmed_58 : decode cX8_isTrimmed 58 = .ok (.ifCond .le 15, 3) := dk_158 0 15 (dk_at dksX8_isTrimmed_2 11 rfl rfl)
theorem dX8_isTrimmed_61 : decode cX8_isTrimmed 61 = .ok (.aload_n 0, 1) := dk_42 (dk_at dksX8_isTrimmed_2 14 rfl rfl)
theorem dX8_isTrimmed_62 : decode cX8_isTrimmed 62 = .ok (.getfield 35, 3) := dk_180 0 35 (dk_at dksX8_isTrimmed_2 15 rfl rfl)
theorem dX8_isTrimmed_65 : decode cX8_isTrimmed 65 = .ok (.iload 7, 2) := dk_21 7 (dk_at dksX8_isTrimmed_2 18 rfl rfl)
theorem dX8_isTrimmed_67 : decode cX8_isTrimmed 67 = .ok (.baload, 1) := dk_51 (dk_at dksX8_isTrimmed_2 20 rfl rfl)
theorem dX8_isTrimmed_68 : decode cX8_isTrimmed 68 = .ok (.ifCond .ne 5, 3) := dk_154 0 5 (dk_at dksX8_isTrimmed_2 21 rfl rfl)
theorem dX8_isTrimmed_71 : decode cX8_isTrimmed 71 = .ok (.iconst 0, 1) := dk_3 (dk_at dksX8_isTrimmed_3 0 rfl rfl)
theorem dX8_isTrimmed_72 : decode cX8_isTrimmed 72 = .ok (.ireturn, 1) := dk_172 (dk_at dksX8_isTrimmed_3 1 rfl rfl)
theorem dX8_isTrimmed_73 : decode cX8_isTrimmed 73 = .ok (.iinc 5 1, 3) := dk_132 5 1 (dk_at dksX8_isTrimmed_3 2 rfl rfl)
theorem dX8_isTrimmed_76 : decode cX8_isTrimmed 76 = .ok (.goto (-51), 3) := dk_167 255 205 (dk_at dksX8_isTrimmed_3 5 rfl rfl)
theorem dX8_isTrimmed_79 : decode cX8_isTrimmed 79 = .ok (.iconst 1, 1) := dk_4 (dk_at dksX8_isTrimmed_3 8 rfl rfl)
theorem dX8_isTrimmed_80 : decode cX8_isTrimmed 80 = .ok (.ireturn, 1) := dk_172 (dk_at dksX8_isTrimmed_3 9 rfl rfl)
abbrev cX8_isAhead : ByteArray := prog_7_method_10_code
def yX8_isAhead : MethodName := ⟨RX8, "isAhead", "(II)Z"⟩
def dkwX8_isAhead_2 : List UInt8 := [167, 0, 4, 3, 172]
abbrev dktX8_isAhead_2 : List UInt8 := dkwX8_isAhead_2 ++ []
def dkwX8_isAhead_1 : List UInt8 := [180, 0, 130, 28, 46, 164, 0, 7, 4, 167, 0, 17, 3, 167, 0, 13, 27, 28, 162, 0, 7, 4]
abbrev dktX8_isAhead_1 : List UInt8 := dkwX8_isAhead_1 ++ dktX8_isAhead_2
def dkwX8_isAhead_0 : List UInt8 := [42, 180, 0, 130, 27, 46, 42, 180, 0, 130, 28, 46, 159, 0, 26, 42, 180, 0, 130, 27, 46, 42]
abbrev dktX8_isAhead_0 : List UInt8 := dkwX8_isAhead_0 ++ dktX8_isAhead_1
theorem dksX8_isAhead_0 : cX8_isAhead.data.toList.drop 0 = dktX8_isAhead_0 := by decide +kernel
theorem dksX8_isAhead_1 : cX8_isAhead.data.toList.drop 22 = dktX8_isAhead_1 := dk_seg dksX8_isAhead_0 22 rfl rfl
theorem dksX8_isAhead_2 : cX8_isAhead.data.toList.drop 44 = dktX8_isAhead_2 := dk_seg dksX8_isAhead_1 22 rfl rfl
theorem dX8_isAhead_0 : decode cX8_isAhead 0 = .ok (.aload_n 0, 1) := dk_42 (dk_at dksX8_isAhead_0 0 rfl rfl)
theorem dX8_isAhead_1 : decode cX8_isAhead 1 = .ok (.getfield 130, 3) := dk_180 0 130 (dk_at dksX8_isAhead_0 1 rfl rfl)
theorem dX8_isAhead_4 : decode cX8_isAhead 4 = .ok (.iload_n 1, 1) := dk_27 (dk_at dksX8_isAhead_0 4 rfl rfl)
theorem dX8_isAhead_5 : decode cX8_isAhead 5 = .ok (.iaload, 1) := dk_46 (dk_at dksX8_isAhead_0 5 rfl rfl)
theorem dX8_isAhead_6 : decode cX8_isAhead 6 = .ok (.aload_n 0, 1) := dk_42 (dk_at dksX8_isAhead_0 6 rfl rfl)
theorem dX8_isAhead_7 : decode cX8_isAhead 7 = .ok (.getfield 130, 3) := dk_180 0 130 (dk_at dksX8_isAhead_0 7 rfl rfl)
theorem dX8_isAhead_10 : decode cX8_isAhead 10 = .ok (.iload_n 2, 1) := dk_28 (dk_at dksX8_isAhead_0 10 rfl rfl)
theorem dX8_isAhead_11 : decode cX8_isAhead 11 = .ok (.iaload, 1) := dk_46 (dk_at dksX8_isAhead_0 11 rfl rfl)
theorem dX8_isAhead_12 : decode cX8_isAhead 12 = .ok (.if_icmp .eq 26, 3) := dk_159 0 26 (dk_at dksX8_isAhead_0 12 rfl rfl)
theorem dX8_isAhead_15 : decode cX8_isAhead 15 = .ok (.aload_n 0, 1) := dk_42 (dk_at dksX8_isAhead_0 15 rfl rfl)
theorem dX8_isAhead_16 : decode cX8_isAhead 16 = .ok (.getfield 130, 3) := dk_180 0 130 (dk_at dksX8_isAhead_0 16 rfl rfl)
theorem dX8_isAhead_19 : decode cX8_isAhead 19 = .ok (.iload_n 1, 1) := dk_27 (dk_at dksX8_isAhead_0 19 rfl rfl)
theorem dX8_isAhead_20 : decode cX8_isAhead 20 = .ok (.iaload, 1) := dk_46 (dk_at dksX8_isAhead_0 20 rfl rfl)
theorem dX8_isAhead_21 : decode cX8_isAhead 21 = .ok (.aload_n 0, 1) := dk_42 (dk_at dksX8_isAhead_0 21 rfl rfl)
theorem dX8_isAhead_22 : decode cX8_isAhead 22 = .ok (.getfield 130, 3) := dk_180 0 130 (dk_at dksX8_isAhead_1 0 rfl rfl)
theorem dX8_isAhead_25 : decode cX8_isAhead 25 = .ok (.iload_n 2, 1) := dk_28 (dk_at dksX8_isAhead_1 3 rfl rfl)
theorem dX8_isAhead_26 : decode cX8_isAhead 26 = .ok (.iaload, 1) := dk_46 (dk_at dksX8_isAhead_1 4 rfl rfl)
theorem dX8_isAhead_27 : decode cX8_isAhead 27 = .ok (.if_icmp .le 7, 3) := dk_164 0 7 (dk_at dksX8_isAhead_1 5 rfl rfl)
theorem dX8_isAhead_30 : decode cX8_isAhead 30 = .ok (.iconst 1, 1) := dk_4 (dk_at dksX8_isAhead_1 8 rfl rfl)
theorem dX8_isAhead_31 : decode cX8_isAhead 31 = .ok (.goto 17, 3) := dk_167 0 17 (dk_at dksX8_isAhead_1 9 rfl rfl)
theorem dX8_isAhead_34 : decode cX8_isAhead 34 = .ok (.iconst 0, 1) := dk_3 (dk_at dksX8_isAhead_1 12 rfl rfl)
theorem dX8_isAhead_35 : decode cX8_isAhead 35 = .ok (.goto 13, 3) := dk_167 0 13 (dk_at dksX8_isAhead_1 13 rfl rfl)
theorem dX8_isAhead_38 : decode cX8_isAhead 38 = .ok (.iload_n 1, 1) := dk_27 (dk_at dksX8_isAhead_1 16 rfl rfl)
theorem dX8_isAhead_39 : decode cX8_isAhead 39 = .ok (.iload_n 2, 1) := dk_28 (dk_at dksX8_isAhead_1 17 rfl rfl)
theorem dX8_isAhead_40 : decode cX8_isAhead 40 = .ok (.if_icmp .ge 7, 3) := dk_162 0 7 (dk_at dksX8_isAhead_1 18 rfl rfl)
theorem dX8_isAhead_43 : decode cX8_isAhead 43 = .ok (.iconst 1, 1) := dk_4 (dk_at dksX8_isAhead_1 21 rfl rfl)
theorem dX8_isAhead_44 : decode cX8_isAhead 44 = .ok (.goto 4, 3) := dk_167 0 4 (dk_at dksX8_isAhead_2 0 rfl rfl)
theorem dX8_isAhead_47 : decode cX8_isAhead 47 = .ok (.iconst 0, 1) := dk_3 (dk_at dksX8_isAhead_2 3 rfl rfl)
theorem dX8_isAhead_48 : decode cX8_isAhead 48 = .ok (.ireturn, 1) := dk_172 (dk_at dksX8_isAhead_2 4 rfl rfl)
abbrev cX8_falseOf : ByteArray := prog_7_method_11_code
def yX8_falseOf : MethodName := ⟨RX8, "falseOf", "(I)I"⟩
def dkwX8_falseOf_0 : List UInt8 := [27, 116, 42, 180, 0, 164, 27, 51, 104, 172]
abbrev dktX8_falseOf_0 : List UInt8 := dkwX8_falseOf_0 ++ []
theorem dksX8_falseOf_0 : cX8_falseOf.data.toList.drop 0 = dktX8_falseOf_0 := by decide +kernel
theorem dX8_falseOf_0 : decode cX8_falseOf 0 = .ok (.iload_n 1, 1) := dk_27 (dk_at dksX8_falseOf_0 0 rfl rfl)
theorem dX8_falseOf_1 : decode cX8_falseOf 1 = .ok (.ineg, 1) := dk_116 (dk_at dksX8_falseOf_0 1 rfl rfl)
theorem dX8_falseOf_2 : decode cX8_falseOf 2 = .ok (.aload_n 0, 1) := dk_42 (dk_at dksX8_falseOf_0 2 rfl rfl)
theorem dX8_falseOf_3 : decode cX8_falseOf 3 = .ok (.getfield 164, 3) := dk_180 0 164 (dk_at dksX8_falseOf_0 3 rfl rfl)
theorem dX8_falseOf_6 : decode cX8_falseOf 6 = .ok (.iload_n 1, 1) := dk_27 (dk_at dksX8_falseOf_0 6 rfl rfl)
theorem dX8_falseOf_7 : decode cX8_falseOf 7 = .ok (.baload, 1) := dk_51 (dk_at dksX8_falseOf_0 7 rfl rfl)
theorem dX8_falseOf_8 : decode cX8_falseOf 8 = .ok (.imul, 1) := dk_104 (dk_at dksX8_falseOf_0 8 rfl rfl)
theorem dX8_falseOf_9 : decode cX8_falseOf 9 = .ok (.ireturn, 1) := dk_172 (dk_at dksX8_falseOf_0 9 rfl rfl)
abbrev cX8_scores : ByteArray := prog_7_method_13_code
def yX8_scores : MethodName := ⟨RX8, "scores", "()V"⟩
def dkwX8_scores_2 : List UInt8 := [180, 0, 3, 180, 0, 38, 180, 0, 186, 27, 28, 28, 16, 8, 108, 100, 79, 132, 1, 1, 167, 255, 192, 177]
abbrev dktX8_scores_2 : List UInt8 := dkwX8_scores_2 ++ []
def dkwX8_scores_1 : List UInt8 := [180, 0, 186, 27, 46, 42, 180, 0, 31, 27, 51, 153, 0, 8, 16, 16, 167, 0, 4, 3, 96, 61, 42]
abbrev dktX8_scores_1 : List UInt8 := dkwX8_scores_1 ++ dktX8_scores_2
def dkwX8_scores_0 : List UInt8 := [4, 60, 27, 42, 180, 0, 3, 180, 0, 38, 180, 0, 172, 163, 0, 56, 42, 180, 0, 3, 180, 0, 38]
abbrev dktX8_scores_0 : List UInt8 := dkwX8_scores_0 ++ dktX8_scores_1
theorem dksX8_scores_0 : cX8_scores.data.toList.drop 0 = dktX8_scores_0 := by decide +kernel
theorem dksX8_scores_1 : cX8_scores.data.toList.drop 23 = dktX8_scores_1 := dk_seg dksX8_scores_0 23 rfl rfl
theorem dksX8_scores_2 : cX8_scores.data.toList.drop 46 = dktX8_scores_2 := dk_seg dksX8_scores_1 23 rfl rfl
theorem dX8_scores_0 : decode cX8_scores 0 = .ok (.iconst 1, 1) := dk_4 (dk_at dksX8_scores_0 0 rfl rfl)
theorem dX8_scores_1 : decode cX8_scores 1 = .ok (.istore_n 1, 1) := dk_60 (dk_at dksX8_scores_0 1 rfl rfl)
theorem dX8_scores_2 : decode cX8_scores 2 = .ok (.iload_n 1, 1) := dk_27 (dk_at dksX8_scores_0 2 rfl rfl)
theorem dX8_scores_3 : decode cX8_scores 3 = .ok (.aload_n 0, 1) := dk_42 (dk_at dksX8_scores_0 3 rfl rfl)
theorem dX8_scores_4 : decode cX8_scores 4 = .ok (.getfield 3, 3) := dk_180 0 3 (dk_at dksX8_scores_0 4 rfl rfl)
theorem dX8_scores_7 : decode cX8_scores 7 = .ok (.getfield 38, 3) := dk_180 0 38 (dk_at dksX8_scores_0 7 rfl rfl)
theorem dX8_scores_10 : decode cX8_scores 10 = .ok (.getfield 172, 3) := dk_180 0 172 (dk_at dksX8_scores_0 10 rfl rfl)
theorem dX8_scores_13 : decode cX8_scores 13 = .ok (.if_icmp .gt 56, 3) := dk_163 0 56 (dk_at dksX8_scores_0 13 rfl rfl)
theorem dX8_scores_16 : decode cX8_scores 16 = .ok (.aload_n 0, 1) := dk_42 (dk_at dksX8_scores_0 16 rfl rfl)
theorem dX8_scores_17 : decode cX8_scores 17 = .ok (.getfield 3, 3) := dk_180 0 3 (dk_at dksX8_scores_0 17 rfl rfl)
theorem dX8_scores_20 : decode cX8_scores 20 = .ok (.getfield 38, 3) := dk_180 0 38 (dk_at dksX8_scores_0 20 rfl rfl)
theorem dX8_scores_23 : decode cX8_scores 23 = .ok (.getfield 186, 3) := dk_180 0 186 (dk_at dksX8_scores_1 0 rfl rfl)
theorem dX8_scores_26 : decode cX8_scores 26 = .ok (.iload_n 1, 1) := dk_27 (dk_at dksX8_scores_1 3 rfl rfl)
theorem dX8_scores_27 : decode cX8_scores 27 = .ok (.iaload, 1) := dk_46 (dk_at dksX8_scores_1 4 rfl rfl)
theorem dX8_scores_28 : decode cX8_scores 28 = .ok (.aload_n 0, 1) := dk_42 (dk_at dksX8_scores_1 5 rfl rfl)
theorem dX8_scores_29 : decode cX8_scores 29 = .ok (.getfield 31, 3) := dk_180 0 31 (dk_at dksX8_scores_1 6 rfl rfl)
theorem dX8_scores_32 : decode cX8_scores 32 = .ok (.iload_n 1, 1) := dk_27 (dk_at dksX8_scores_1 9 rfl rfl)
theorem dX8_scores_33 : decode cX8_scores 33 = .ok (.baload, 1) := dk_51 (dk_at dksX8_scores_1 10 rfl rfl)
theorem dX8_scores_34 : decode cX8_scores 34 = .ok (.ifCond .eq 8, 3) := dk_153 0 8 (dk_at dksX8_scores_1 11 rfl rfl)
theorem dX8_scores_37 : decode cX8_scores 37 = .ok (.bipush 16, 2) := dk_16 16 (dk_at dksX8_scores_1 14 rfl rfl)
theorem dX8_scores_39 : decode cX8_scores 39 = .ok (.goto 4, 3) := dk_167 0 4 (dk_at dksX8_scores_1 16 rfl rfl)
theorem dX8_scores_42 : decode cX8_scores 42 = .ok (.iconst 0, 1) := dk_3 (dk_at dksX8_scores_1 19 rfl rfl)
theorem dX8_scores_43 : decode cX8_scores 43 = .ok (.iadd, 1) := dk_96 (dk_at dksX8_scores_1 20 rfl rfl)
theorem dX8_scores_44 : decode cX8_scores 44 = .ok (.istore_n 2, 1) := dk_61 (dk_at dksX8_scores_1 21 rfl rfl)
theorem dX8_scores_45 : decode cX8_scores 45 = .ok (.aload_n 0, 1) := dk_42 (dk_at dksX8_scores_1 22 rfl rfl)
theorem dX8_scores_46 : decode cX8_scores 46 = .ok (.getfield 3, 3) := dk_180 0 3 (dk_at dksX8_scores_2 0 rfl rfl)
theorem dX8_scores_49 : decode cX8_scores 49 = .ok (.getfield 38, 3) := dk_180 0 38 (dk_at dksX8_scores_2 3 rfl rfl)
theorem dX8_scores_52 : decode cX8_scores 52 = .ok (.getfield 186, 3) := dk_180 0 186 (dk_at dksX8_scores_2 6 rfl rfl)
theorem dX8_scores_55 : decode cX8_scores 55 = .ok (.iload_n 1, 1) := dk_27 (dk_at dksX8_scores_2 9 rfl rfl)
theorem dX8_scores_56 : decode cX8_scores 56 = .ok (.iload_n 2, 1) := dk_28 (dk_at dksX8_scores_2 10 rfl rfl)
theorem dX8_scores_57 : decode cX8_scores 57 = .ok (.iload_n 2, 1) := dk_28 (dk_at dksX8_scores_2 11 rfl rfl)
theorem dX8_scores_58 : decode cX8_scores 58 = .ok (.bipush 8, 2) := dk_16 8 (dk_at dksX8_scores_2 12 rfl rfl)
theorem dX8_scores_60 : decode cX8_scores 60 = .ok (.idiv, 1) := dk_108 (dk_at dksX8_scores_2 14 rfl rfl)
theorem dX8_scores_61 : decode cX8_scores 61 = .ok (.isub, 1) := dk_100 (dk_at dksX8_scores_2 15 rfl rfl)
theorem dX8_scores_62 : decode cX8_scores 62 = .ok (.iastore, 1) := dk_79 (dk_at dksX8_scores_2 16 rfl rfl)
theorem dX8_scores_63 : decode cX8_scores 63 = .ok (.iinc 1 1, 3) := dk_132 1 1 (dk_at dksX8_scores_2 17 rfl rfl)
theorem dX8_scores_66 : decode cX8_scores 66 = .ok (.goto (-64), 3) := dk_167 255 192 (dk_at dksX8_scores_2 20 rfl rfl)
theorem dX8_scores_69 : decode cX8_scores 69 = .ok (.return_, 1) := dk_177 (dk_at dksX8_scores_2 23 rfl rfl)
abbrev cX8_leavesTo : ByteArray := prog_7_method_6_code
def yX8_leavesTo : MethodName := ⟨RX8, "leavesTo", "(I)V"⟩
def dkwX8_leavesTo_3 : List UInt8 := [42, 180, 0, 24, 182, 0, 148, 42, 180, 0, 28, 182, 0, 148, 42, 27, 181, 0, 145, 177]
abbrev dktX8_leavesTo_3 : List UInt8 := dkwX8_leavesTo_3 ++ []
def dkwX8_leavesTo_2 : List UInt8 := [184, 0, 136, 28, 158, 0, 7, 4, 167, 0, 4, 3, 84, 167, 255, 197, 42, 180, 0, 145, 27, 164, 0, 17]
abbrev dktX8_leavesTo_2 : List UInt8 := dkwX8_leavesTo_2 ++ dktX8_leavesTo_3
def dkwX8_leavesTo_1 : List UInt8 := [184, 0, 136, 46, 27, 164, 0, 35, 42, 182, 0, 139, 61, 42, 180, 0, 3, 180, 0, 38, 180, 0, 142, 28]
abbrev dktX8_leavesTo_1 : List UInt8 := dkwX8_leavesTo_1 ++ dktX8_leavesTo_2
def dkwX8_leavesTo_0 : List UInt8 := [42, 180, 0, 127, 158, 0, 58, 42, 180, 0, 130, 42, 180, 0, 133, 42, 180, 0, 127, 4, 100, 46]
abbrev dktX8_leavesTo_0 : List UInt8 := dkwX8_leavesTo_0 ++ dktX8_leavesTo_1
theorem dksX8_leavesTo_0 : cX8_leavesTo.data.toList.drop 0 = dktX8_leavesTo_0 := by decide +kernel
theorem dksX8_leavesTo_1 : cX8_leavesTo.data.toList.drop 22 = dktX8_leavesTo_1 := dk_seg dksX8_leavesTo_0 22 rfl rfl
theorem dksX8_leavesTo_2 : cX8_leavesTo.data.toList.drop 46 = dktX8_leavesTo_2 := dk_seg dksX8_leavesTo_1 24 rfl rfl
theorem dksX8_leavesTo_3 : cX8_leavesTo.data.toList.drop 70 = dktX8_leavesTo_3 := dk_seg dksX8_leavesTo_2 24 rfl rfl
theorem dX8_leavesTo_0 : decode cX8_leavesTo 0 = .ok (.aload_n 0, 1) := dk_42 (dk_at dksX8_leavesTo_0 0 rfl rfl)
theorem dX8_leavesTo_1 : decode cX8_leavesTo 1 = .ok (.getfield 127, 3) := dk_180 0 127 (dk_at dksX8_leavesTo_0 1 rfl rfl)
theorem dX8_leavesTo_4 : decode cX8_leavesTo 4 = .ok (.ifCond .le 58, 3) := dk_158 0 58 (dk_at dksX8_leavesTo_0 4 rfl rfl)
theorem dX8_leavesTo_7 : decode cX8_leavesTo 7 = .ok (.aload_n 0, 1) := dk_42 (dk_at dksX8_leavesTo_0 7 rfl rfl)
theorem dX8_leavesTo_8 : decode cX8_leavesTo 8 = .ok (.getfield 130, 3) := dk_180 0 130 (dk_at dksX8_leavesTo_0 8 rfl rfl)
theorem dX8_leavesTo_11 : decode cX8_leavesTo 11 = .ok (.aload_n 0, 1) := dk_42 (dk_at dksX8_leavesTo_0 11 rfl rfl)
theorem dX8_leavesTo_12 : decode cX8_leavesTo 12 = .ok (.getfield 133, 3) := dk_180 0 133 (dk_at dksX8_leavesTo_0 12 rfl rfl)
theorem dX8_leavesTo_15 : decode cX8_leavesTo 15 = .ok (.aload_n 0, 1) := dk_42 (dk_at dksX8_leavesTo_0 15 rfl rfl)
theorem dX8_leavesTo_16 : decode cX8_leavesTo 16 = .ok (.getfield 127, 3) := dk_180 0 127 (dk_at dksX8_leavesTo_0 16 rfl rfl)
theorem dX8_leavesTo_19 : decode cX8_leavesTo 19 = .ok (.iconst 1, 1) := dk_4 (dk_at dksX8_leavesTo_0 19 rfl rfl)
theorem dX8_leavesTo_20 : decode cX8_leavesTo 20 = .ok (.isub, 1) := dk_100 (dk_at dksX8_leavesTo_0 20 rfl rfl)
theorem dX8_leavesTo_21 : decode cX8_leavesTo 21 = .ok (.iaload, 1) := dk_46 (dk_at dksX8_leavesTo_0 21 rfl rfl)
theorem dX8_leavesTo_22 : decode cX8_leavesTo 22 = .ok (.invokestatic 136, 3) := dk_184 0 136 (dk_at dksX8_leavesTo_1 0 rfl rfl)
theorem dX8_leavesTo_25 : decode cX8_leavesTo 25 = .ok (.iaload, 1) := dk_46 (dk_at dksX8_leavesTo_1 3 rfl rfl)
theorem dX8_leavesTo_26 : decode cX8_leavesTo 26 = .ok (.iload_n 1, 1) := dk_27 (dk_at dksX8_leavesTo_1 4 rfl rfl)
theorem dX8_leavesTo_27 : decode cX8_leavesTo 27 = .ok (.if_icmp .le 35, 3) := dk_164 0 35 (dk_at dksX8_leavesTo_1 5 rfl rfl)
theorem dX8_leavesTo_30 : decode cX8_leavesTo 30 = .ok (.aload_n 0, 1) := dk_42 (dk_at dksX8_leavesTo_1 8 rfl rfl)
theorem dX8_leavesTo_31 : decode cX8_leavesTo 31 = .ok (.invokevirtual 139, 3) := dk_182 0 139 (dk_at dksX8_leavesTo_1 9 rfl rfl)
theorem dX8_leavesTo_34 : decode cX8_leavesTo 34 = .ok (.istore_n 2, 1) := dk_61 (dk_at dksX8_leavesTo_1 12 rfl rfl)
theorem dX8_leavesTo_35 : decode cX8_leavesTo 35 = .ok (.aload_n 0, 1) := dk_42 (dk_at dksX8_leavesTo_1 13 rfl rfl)
theorem dX8_leavesTo_36 : decode cX8_leavesTo 36 = .ok (.getfield 3, 3) := dk_180 0 3 (dk_at dksX8_leavesTo_1 14 rfl rfl)
theorem dX8_leavesTo_39 : decode cX8_leavesTo 39 = .ok (.getfield 38, 3) := dk_180 0 38 (dk_at dksX8_leavesTo_1 17 rfl rfl)
theorem dX8_leavesTo_42 : decode cX8_leavesTo 42 = .ok (.getfield 142, 3) := dk_180 0 142 (dk_at dksX8_leavesTo_1 20 rfl rfl)
theorem dX8_leavesTo_45 : decode cX8_leavesTo 45 = .ok (.iload_n 2, 1) := dk_28 (dk_at dksX8_leavesTo_1 23 rfl rfl)
theorem dX8_leavesTo_46 : decode cX8_leavesTo 46 = .ok (.invokestatic 136, 3) := dk_184 0 136 (dk_at dksX8_leavesTo_2 0 rfl rfl)
theorem dX8_leavesTo_49 : decode cX8_leavesTo 49 = .ok (.iload_n 2, 1) := dk_28 (dk_at dksX8_leavesTo_2 3 rfl rfl)
theorem dX8_leavesTo_50 : decode cX8_leavesTo 50 = .ok (.ifCond .le 7, 3) := dk_158 0 7 (dk_at dksX8_leavesTo_2 4 rfl rfl)
theorem dX8_leavesTo_53 : decode cX8_leavesTo 53 = .ok (.iconst 1, 1) := dk_4 (dk_at dksX8_leavesTo_2 7 rfl rfl)
theorem dX8_leavesTo_54 : decode cX8_leavesTo 54 = .ok (.goto 4, 3) := dk_167 0 4 (dk_at dksX8_leavesTo_2 8 rfl rfl)
theorem dX8_leavesTo_57 : decode cX8_leavesTo 57 = .ok (.iconst 0, 1) := dk_3 (dk_at dksX8_leavesTo_2 11 rfl rfl)
theorem dX8_leavesTo_58 : decode cX8_leavesTo 58 = .ok (.bastore, 1) := dk_84 (dk_at dksX8_leavesTo_2 12 rfl rfl)
theorem dX8_leavesTo_59 : decode cX8_leavesTo 59 = .ok (.goto (-59), 3) := dk_167 255 197 (dk_at dksX8_leavesTo_2 13 rfl rfl)
theorem dX8_leavesTo_62 : decode cX8_leavesTo 62 = .ok (.aload_n 0, 1) := dk_42 (dk_at dksX8_leavesTo_2 16 rfl rfl)
theorem dX8_leavesTo_63 : decode cX8_leavesTo 63 = .ok (.getfield 145, 3) := dk_180 0 145 (dk_at dksX8_leavesTo_2 17 rfl rfl)
theorem dX8_leavesTo_66 : decode cX8_leavesTo 66 = .ok (.iload_n 1, 1) := dk_27 (dk_at dksX8_leavesTo_2 20 rfl rfl)
theorem dX8_leavesTo_67 : decode cX8_leavesTo 67 = .ok (.if_icmp .le 17, 3) := dk_164 0 17 (dk_at dksX8_leavesTo_2 21 rfl rfl)
theorem dX8_leavesTo_70 : decode cX8_leavesTo 70 = .ok (.aload_n 0, 1) := dk_42 (dk_at dksX8_leavesTo_3 0 rfl rfl)
theorem dX8_leavesTo_71 : decode cX8_leavesTo 71 = .ok (.getfield 24, 3) := dk_180 0 24 (dk_at dksX8_leavesTo_3 1 rfl rfl)
theorem dX8_leavesTo_74 : decode cX8_leavesTo 74 = .ok (.invokevirtual 148, 3) := dk_182 0 148 (dk_at dksX8_leavesTo_3 4 rfl rfl)
theorem dX8_leavesTo_77 : decode cX8_leavesTo 77 = .ok (.aload_n 0, 1) := dk_42 (dk_at dksX8_leavesTo_3 7 rfl rfl)
theorem dX8_leavesTo_78 : decode cX8_leavesTo 78 = .ok (.getfield 28, 3) := dk_180 0 28 (dk_at dksX8_leavesTo_3 8 rfl rfl)
theorem dX8_leavesTo_81 : decode cX8_leavesTo 81 = .ok (.invokevirtual 148, 3) := dk_182 0 148 (dk_at dksX8_leavesTo_3 11 rfl rfl)
theorem dX8_leavesTo_84 : decode cX8_leavesTo 84 = .ok (.aload_n 0, 1) := dk_42 (dk_at dksX8_leavesTo_3 14 rfl rfl)
theorem dX8_leavesTo_85 : decode cX8_leavesTo 85 = .ok (.iload_n 1, 1) := dk_27 (dk_at dksX8_leavesTo_3 15 rfl rfl)
theorem dX8_leavesTo_86 : decode cX8_leavesTo 86 = .ok (.putfield 145, 3) := dk_181 0 145 (dk_at dksX8_leavesTo_3 16 rfl rfl)
theorem dX8_leavesTo_89 : decode cX8_leavesTo 89 = .ok (.return_, 1) := dk_177 (dk_at dksX8_leavesTo_3 19 rfl rfl)
abbrev cX8_comes : ByteArray := prog_7_method_4_code
def yX8_comes : MethodName := ⟨RX8, "comes", "(ILLearntReasons$Clause;)V"⟩
def dkwX8_comes_3 : List UInt8 := [21, 6, 25, 4, 83, 25, 5, 58, 4, 167, 255, 203, 177]
abbrev dktX8_comes_3 : List UInt8 := dkwX8_comes_3 ++ []
def dkwX8_comes_2 : List UInt8 := [182, 0, 120, 184, 0, 82, 54, 6, 25, 4, 42, 180, 0, 17, 21, 6, 50, 181, 0, 113, 42, 180, 0, 17]
abbrev dktX8_comes_2 : List UInt8 := dkwX8_comes_2 ++ dktX8_comes_3
def dkwX8_comes_1 : List UInt8 := [29, 1, 83, 25, 4, 198, 0, 54, 25, 4, 180, 0, 113, 58, 5, 42, 25, 4, 180, 0, 116, 27, 116]
abbrev dktX8_comes_1 : List UInt8 := dkwX8_comes_1 ++ dktX8_comes_2
def dkwX8_comes_0 : List UInt8 := [42, 27, 44, 183, 0, 109, 27, 116, 184, 0, 82, 62, 42, 180, 0, 17, 29, 50, 58, 4, 42, 180, 0, 17]
abbrev dktX8_comes_0 : List UInt8 := dkwX8_comes_0 ++ dktX8_comes_1
theorem dksX8_comes_0 : cX8_comes.data.toList.drop 0 = dktX8_comes_0 := by decide +kernel
theorem dksX8_comes_1 : cX8_comes.data.toList.drop 24 = dktX8_comes_1 := dk_seg dksX8_comes_0 24 rfl rfl
theorem dksX8_comes_2 : cX8_comes.data.toList.drop 47 = dktX8_comes_2 := dk_seg dksX8_comes_1 23 rfl rfl
theorem dksX8_comes_3 : cX8_comes.data.toList.drop 71 = dktX8_comes_3 := dk_seg dksX8_comes_2 24 rfl rfl
theorem dX8_comes_0 : decode cX8_comes 0 = .ok (.aload_n 0, 1) := dk_42 (dk_at dksX8_comes_0 0 rfl rfl)
theorem dX8_comes_1 : decode cX8_comes 1 = .ok (.iload_n 1, 1) := dk_27 (dk_at dksX8_comes_0 1 rfl rfl)
theorem dX8_comes_2 : decode cX8_comes 2 = .ok (.aload_n 2, 1) := dk_44 (dk_at dksX8_comes_0 2 rfl rfl)
theorem dX8_comes_3 : decode cX8_comes 3 = .ok (.invokespecial 109, 3) := dk_183 0 109 (dk_at dksX8_comes_0 3 rfl rfl)
theorem dX8_comes_6 : decode cX8_comes 6 = .ok (.iload_n 1, 1) := dk_27 (dk_at dksX8_comes_0 6 rfl rfl)
theorem dX8_comes_7 : decode cX8_comes 7 = .ok (.ineg, 1) := dk_116 (dk_at dksX8_comes_0 7 rfl rfl)
theorem dX8_comes_8 : decode cX8_comes 8 = .ok (.invokestatic 82, 3) := dk_184 0 82 (dk_at dksX8_comes_0 8 rfl rfl)
theorem dX8_comes_11 : decode cX8_comes 11 = .ok (.istore_n 3, 1) := dk_62 (dk_at dksX8_comes_0 11 rfl rfl)
theorem dX8_comes_12 : decode cX8_comes 12 = .ok (.aload_n 0, 1) := dk_42 (dk_at dksX8_comes_0 12 rfl rfl)
theorem dX8_comes_13 : decode cX8_comes 13 = .ok (.getfield 17, 3) := dk_180 0 17 (dk_at dksX8_comes_0 13 rfl rfl)
theorem dX8_comes_16 : decode cX8_comes 16 = .ok (.iload_n 3, 1) := dk_29 (dk_at dksX8_comes_0 16 rfl rfl)
theorem dX8_comes_17 : decode cX8_comes 17 = .ok (.aaload, 1) := dk_50 (dk_at dksX8_comes_0 17 rfl rfl)
theorem dX8_comes_18 : decode cX8_comes 18 = .ok (.astore 4, 2) := dk_58 4 (dk_at dksX8_comes_0 18 rfl rfl)
theorem dX8_comes_20 : decode cX8_comes 20 = .ok (.aload_n 0, 1) := dk_42 (dk_at dksX8_comes_0 20 rfl rfl)
theorem dX8_comes_21 : decode cX8_comes 21 = .ok (.getfield 17, 3) := dk_180 0 17 (dk_at dksX8_comes_0 21 rfl rfl)
theorem dX8_comes_24 : decode cX8_comes 24 = .ok (.iload_n 3, 1) := dk_29 (dk_at dksX8_comes_1 0 rfl rfl)
theorem dX8_comes_25 : decode cX8_comes 25 = .ok (.aconst_null, 1) := dk_1 (dk_at dksX8_comes_1 1 rfl rfl)
theorem dX8_comes_26 : decode cX8_comes 26 = .ok (.aastore, 1) := dk_83 (dk_at dksX8_comes_1 2 rfl rfl)
theorem dX8_comes_27 : decode cX8_comes 27 = .ok (.aload 4, 2) := dk_25 4 (dk_at dksX8_comes_1 3 rfl rfl)
theorem dX8_comes_29 : decode cX8_comes 29 = .ok (.ifnull 54, 3) := dk_198 0 54 (dk_at dksX8_comes_1 5 rfl rfl)
theorem dX8_comes_32 : decode cX8_comes 32 = .ok (.aload 4, 2) := dk_25 4 (dk_at dksX8_comes_1 8 rfl rfl)
theorem dX8_comes_34 : decode cX8_comes 34 = .ok (.getfield 113, 3) := dk_180 0 113 (dk_at dksX8_comes_1 10 rfl rfl)
theorem dX8_comes_37 : decode cX8_comes 37 = .ok (.astore 5, 2) := dk_58 5 (dk_at dksX8_comes_1 13 rfl rfl)
theorem dX8_comes_39 : decode cX8_comes 39 = .ok (.aload_n 0, 1) := dk_42 (dk_at dksX8_comes_1 15 rfl rfl)
theorem dX8_comes_40 : decode cX8_comes 40 = .ok (.aload 4, 2) := dk_25 4 (dk_at dksX8_comes_1 16 rfl rfl)
theorem dX8_comes_42 : decode cX8_comes 42 = .ok (.getfield 116, 3) := dk_180 0 116 (dk_at dksX8_comes_1 18 rfl rfl)
theorem dX8_comes_45 : decode cX8_comes 45 = .ok (.iload_n 1, 1) := dk_27 (dk_at dksX8_comes_1 21 rfl rfl)
theorem dX8_comes_46 : decode cX8_comes 46 = .ok (.ineg, 1) := dk_116 (dk_at dksX8_comes_1 22 rfl rfl)
theorem dX8_comes_47 : decode cX8_comes 47 = .ok (.invokevirtual 120, 3) := dk_182 0 120 (dk_at dksX8_comes_2 0 rfl rfl)
theorem dX8_comes_50 : decode cX8_comes 50 = .ok (.invokestatic 82, 3) := dk_184 0 82 (dk_at dksX8_comes_2 3 rfl rfl)
theorem dX8_comes_53 : decode cX8_comes 53 = .ok (.istore 6, 2) := dk_54 6 (dk_at dksX8_comes_2 6 rfl rfl)
theorem dX8_comes_55 : decode cX8_comes 55 = .ok (.aload 4, 2) := dk_25 4 (dk_at dksX8_comes_2 8 rfl rfl)
theorem dX8_comes_57 : decode cX8_comes 57 = .ok (.aload_n 0, 1) := dk_42 (dk_at dksX8_comes_2 10 rfl rfl)
theorem dX8_comes_58 : decode cX8_comes 58 = .ok (.getfield 17, 3) := dk_180 0 17 (dk_at dksX8_comes_2 11 rfl rfl)
theorem dX8_comes_61 : decode cX8_comes 61 = .ok (.iload 6, 2) := dk_21 6 (dk_at dksX8_comes_2 14 rfl rfl)
theorem dX8_comes_63 : decode cX8_comes 63 = .ok (.aaload, 1) := dk_50 (dk_at dksX8_comes_2 16 rfl rfl)
theorem dX8_comes_64 : decode cX8_comes 64 = .ok (.putfield 113, 3) := dk_181 0 113 (dk_at dksX8_comes_2 17 rfl rfl)
theorem dX8_comes_67 : decode cX8_comes 67 = .ok (.aload_n 0, 1) := dk_42 (dk_at dksX8_comes_2 20 rfl rfl)
theorem dX8_comes_68 : decode cX8_comes 68 = .ok (.getfield 17, 3) := dk_180 0 17 (dk_at dksX8_comes_2 21 rfl rfl)
theorem dX8_comes_71 : decode cX8_comes 71 = .ok (.iload 6, 2) := dk_21 6 (dk_at dksX8_comes_3 0 rfl rfl)
theorem dX8_comes_73 : decode cX8_comes 73 = .ok (.aload 4, 2) := dk_25 4 (dk_at dksX8_comes_3 2 rfl rfl)
theorem dX8_comes_75 : decode cX8_comes 75 = .ok (.aastore, 1) := dk_83 (dk_at dksX8_comes_3 4 rfl rfl)
theorem dX8_comes_76 : decode cX8_comes 76 = .ok (.aload 5, 2) := dk_25 5 (dk_at dksX8_comes_3 5 rfl rfl)
theorem dX8_comes_78 : decode cX8_comes 78 = .ok (.astore 4, 2) := dk_58 4 (dk_at dksX8_comes_3 7 rfl rfl)
theorem dX8_comes_80 : decode cX8_comes 80 = .ok (.goto (-53), 3) := dk_167 255 203 (dk_at dksX8_comes_3 9 rfl rfl)
theorem dX8_comes_83 : decode cX8_comes 83 = .ok (.return_, 1) := dk_177 (dk_at dksX8_comes_3 12 rfl rfl)
abbrev cX8_watchedNow : ByteArray := prog_7_method_5_code
def yX8_watchedNow : MethodName := ⟨RX8, "watchedNow", "(LLearntReasons$Clause;I)I"⟩
def dkwX8_watchedNow_8 : List UInt8 := [28, 172]
abbrev dktX8_watchedNow_8 : List UInt8 := dkwX8_watchedNow_8 ++ []
def dkwX8_watchedNow_7 : List UInt8 := [180, 0, 28, 43, 180, 0, 102, 182, 0, 105, 167, 0, 14, 42, 180, 0, 24, 43, 180, 0, 102, 182, 0, 105]
abbrev dktX8_watchedNow_7 : List UInt8 := dkwX8_watchedNow_7 ++ dktX8_watchedNow_8
def dkwX8_watchedNow_6 : List UInt8 := [182, 0, 92, 4, 159, 0, 19, 42, 43, 180, 0, 78, 43, 180, 0, 89, 46, 182, 0, 124, 156, 0, 17, 42]
abbrev dktX8_watchedNow_6 : List UInt8 := dkwX8_watchedNow_6 ++ dktX8_watchedNow_7
def dkwX8_watchedNow_5 : List UInt8 := [155, 0, 17, 43, 21, 4, 181, 0, 96, 43, 180, 0, 78, 21, 4, 46, 172, 132, 4, 1, 167, 255, 193, 43]
abbrev dktX8_watchedNow_5 : List UInt8 := dkwX8_watchedNow_5 ++ dktX8_watchedNow_6
def dkwX8_watchedNow_4 : List UInt8 := [180, 0, 89, 159, 0, 37, 21, 4, 29, 159, 0, 31, 42, 43, 180, 0, 78, 21, 4, 46, 182, 0, 124]
abbrev dktX8_watchedNow_4 : List UInt8 := dkwX8_watchedNow_4 ++ dktX8_watchedNow_5
def dkwX8_watchedNow_3 : List UInt8 := [54, 4, 21, 4, 43, 182, 0, 92, 162, 0, 60, 43, 182, 0, 92, 4, 164, 0, 52, 21, 4, 43]
abbrev dktX8_watchedNow_3 : List UInt8 := dkwX8_watchedNow_3 ++ dktX8_watchedNow_4
def dkwX8_watchedNow_2 : List UInt8 := [4, 164, 0, 21, 42, 43, 180, 0, 78, 43, 180, 0, 89, 46, 182, 0, 124, 158, 0, 5, 28, 172, 3]
abbrev dktX8_watchedNow_2 : List UInt8 := dkwX8_watchedNow_2 ++ dktX8_watchedNow_3
def dkwX8_watchedNow_1 : List UInt8 := [180, 0, 78, 29, 46, 28, 159, 0, 9, 132, 3, 1, 167, 255, 243, 43, 29, 181, 0, 96, 43, 182, 0, 92]
abbrev dktX8_watchedNow_1 : List UInt8 := dkwX8_watchedNow_1 ++ dktX8_watchedNow_2
def dkwX8_watchedNow_0 : List UInt8 := [43, 180, 0, 78, 43, 180, 0, 89, 46, 28, 160, 0, 11, 43, 43, 180, 0, 96, 181, 0, 89, 3, 62, 43]
abbrev dktX8_watchedNow_0 : List UInt8 := dkwX8_watchedNow_0 ++ dktX8_watchedNow_1
theorem dksX8_watchedNow_0 : cX8_watchedNow.data.toList.drop 0 = dktX8_watchedNow_0 := by decide +kernel
theorem dksX8_watchedNow_1 : cX8_watchedNow.data.toList.drop 24 = dktX8_watchedNow_1 := dk_seg dksX8_watchedNow_0 24 rfl rfl
theorem dksX8_watchedNow_2 : cX8_watchedNow.data.toList.drop 48 = dktX8_watchedNow_2 := dk_seg dksX8_watchedNow_1 24 rfl rfl
theorem dksX8_watchedNow_3 : cX8_watchedNow.data.toList.drop 71 = dktX8_watchedNow_3 := dk_seg dksX8_watchedNow_2 23 rfl rfl
theorem dksX8_watchedNow_4 : cX8_watchedNow.data.toList.drop 93 = dktX8_watchedNow_4 := dk_seg dksX8_watchedNow_3 22 rfl rfl
theorem dksX8_watchedNow_5 : cX8_watchedNow.data.toList.drop 116 = dktX8_watchedNow_5 := dk_seg dksX8_watchedNow_4 23 rfl rfl
theorem dksX8_watchedNow_6 : cX8_watchedNow.data.toList.drop 140 = dktX8_watchedNow_6 := dk_seg dksX8_watchedNow_5 24 rfl rfl
theorem dksX8_watchedNow_7 : cX8_watchedNow.data.toList.drop 164 = dktX8_watchedNow_7 := dk_seg dksX8_watchedNow_6 24 rfl rfl
theorem dksX8_watchedNow_8 : cX8_watchedNow.data.toList.drop 188 = dktX8_watchedNow_8 := dk_seg dksX8_watchedNow_7 24 rfl rfl
theorem dX8_watchedNow_0 : decode cX8_watchedNow 0 = .ok (.aload_n 1, 1) := dk_43 (dk_at dksX8_watchedNow_0 0 rfl rfl)
theorem dX8_watchedNow_1 : decode cX8_watchedNow 1 = .ok (.getfield 78, 3) := dk_180 0 78 (dk_at dksX8_watchedNow_0 1 rfl rfl)
theorem dX8_watchedNow_4 : decode cX8_watchedNow 4 = .ok (.aload_n 1, 1) := dk_43 (dk_at dksX8_watchedNow_0 4 rfl rfl)
theorem dX8_watchedNow_5 : decode cX8_watchedNow 5 = .ok (.getfield 89, 3) := dk_180 0 89 (dk_at dksX8_watchedNow_0 5 rfl rfl)
theorem dX8_watchedNow_8 : decode cX8_watchedNow 8 = .ok (.iaload, 1) := dk_46 (dk_at dksX8_watchedNow_0 8 rfl rfl)
theorem dX8_watchedNow_9 : decode cX8_watchedNow 9 = .ok (.iload_n 2, 1) := dk_28 (dk_at dksX8_watchedNow_0 9 rfl rfl)
theorem dX8_watchedNow_10 : decode cX8_watchedNow 10 = .ok (.if_icmp .ne 11, 3) := dk_160 0 11 (dk_at dksX8_watchedNow_0 10 rfl rfl)
theorem dX8_watchedNow_13 : decode cX8_watchedNow 13 = .ok (.aload_n 1, 1) := dk_43 (dk_at dksX8_watchedNow_0 13 rfl rfl)
theorem dX8_watchedNow_14 : decode cX8_watchedNow 14 = .ok (.aload_n 1, 1) := dk_43 (dk_at dksX8_watchedNow_0 14 rfl rfl)
theorem dX8_watchedNow_15 : decode cX8_watchedNow 15 = .ok (.getfield 96, 3) := dk_180 0 96 (dk_at dksX8_watchedNow_0 15 rfl rfl)
theorem dX8_watchedNow_18 : decode cX8_watchedNow 18 = .ok (.putfield 89, 3) := dk_181 0 89 (dk_at dksX8_watchedNow_0 18 rfl rfl)
theorem dX8_watchedNow_21 : decode cX8_watchedNow 21 = .ok (.iconst 0, 1) := dk_3 (dk_at dksX8_watchedNow_0 21 rfl rfl)
theorem dX8_watchedNow_22 : decode cX8_watchedNow 22 = .ok (.istore_n 3, 1) := dk_62 (dk_at dksX8_watchedNow_0 22 rfl rfl)
theorem dX8_watchedNow_23 : decode cX8_watchedNow 23 = .ok (.aload_n 1, 1) := dk_43 (dk_at dksX8_watchedNow_0 23 rfl rfl)
theorem dX8_watchedNow_24 : decode cX8_watchedNow 24 = .ok (.getfield 78, 3) := dk_180 0 78 (dk_at dksX8_watchedNow_1 0 rfl rfl)
theorem dX8_watchedNow_27 : decode cX8_watchedNow 27 = .ok (.iload_n 3, 1) := dk_29 (dk_at dksX8_watchedNow_1 3 rfl rfl)
theorem dX8_watchedNow_28 : decode cX8_watchedNow 28 = .ok (.iaload, 1) := dk_46 (dk_at dksX8_watchedNow_1 4 rfl rfl)
theorem dX8_watchedNow_29 : decode cX8_watchedNow 29 = .ok (.iload_n 2, 1) := dk_28 (dk_at dksX8_watchedNow_1 5 rfl rfl)
theorem dX8_watchedNow_30 : decode cX8_watchedNow 30 = .ok (.if_icmp .eq 9, 3) := dk_159 0 9 (dk_at dksX8_watchedNow_1 6 rfl rfl)
theorem dX8_watchedNow_33 : decode cX8_watchedNow 33 = .ok (.iinc 3 1, 3) := dk_132 3 1 (dk_at dksX8_watchedNow_1 9 rfl rfl)
theorem dX8_watchedNow_36 : decode cX8_watchedNow 36 = .ok (.goto (-13), 3) := dk_167 255 243 (dk_at dksX8_watchedNow_1 12 rfl rfl)
theorem dX8_watchedNow_39 : decode cX8_watchedNow 39 = .ok (.aload_n 1, 1) := dk_43 (dk_at dksX8_watchedNow_1 15 rfl rfl)
theorem dX8_watchedNow_40 : decode cX8_watchedNow 40 = .ok (.iload_n 3, 1) := dk_29 (dk_at dksX8_watchedNow_1 16 rfl rfl)
theorem dX8_watchedNow_41 : decode cX8_watchedNow 41 = .ok (.putfield 96, 3) := dk_181 0 96 (dk_at dksX8_watchedNow_1 17 rfl rfl)
theorem dX8_watchedNow_44 : decode cX8_watchedNow 44 = .ok (.aload_n 1, 1) := dk_43 (dk_at dksX8_watchedNow_1 20 rfl rfl)
theorem dX8_watchedNow_45 : decode cX8_watchedNow 45 = .ok (.invokevirtual 92, 3) := dk_182 0 92 (dk_at dksX8_watchedNow_1 21 rfl rfl)
theorem dX8_watchedNow_48 : decode cX8_watchedNow 48 = .ok (.iconst 1, 1) := dk_4 (dk_at dksX8_watchedNow_2 0 rfl rfl)
theorem dX8_watchedNow_49 : decode cX8_watchedNow 49 = .ok (.if_icmp .le 21, 3) := dk_164 0 21 (dk_at dksX8_watchedNow_2 1 rfl rfl)
theorem dX8_watchedNow_52 : decode cX8_watchedNow 52 = .ok (.aload_n 0, 1) := dk_42 (dk_at dksX8_watchedNow_2 4 rfl rfl)
theorem dX8_watchedNow_53 : decode cX8_watchedNow 53 = .ok (.aload_n 1, 1) := dk_43 (dk_at dksX8_watchedNow_2 5 rfl rfl)
theorem dX8_watchedNow_54 : decode cX8_watchedNow 54 = .ok (.getfield 78, 3) := dk_180 0 78 (dk_at dksX8_watchedNow_2 6 rfl rfl)
theorem dX8_watchedNow_57 : decode cX8_watchedNow 57 = .ok (.aload_n 1, 1) := dk_43 (dk_at dksX8_watchedNow_2 9 rfl rfl)
theorem dX8_watchedNow_58 : decode cX8_watchedNow 58 = .ok (.getfield 89, 3) := dk_180 0 89 (dk_at dksX8_watchedNow_2 10 rfl rfl)
theorem dX8_watchedNow_61 : decode cX8_watchedNow 61 = .ok (.iaload, 1) := dk_46 (dk_at dksX8_watchedNow_2 13 rfl rfl)
theorem dX8_watchedNow_62 : decode cX8_watchedNow 62 = .ok (.invokevirtual 124, 3) := dk_182 0 124 (dk_at dksX8_watchedNow_2 14 rfl rfl)
theorem dX8_watchedNow_65 : decode cX8_watchedNow 65 = .ok (.ifCond .le 5, 3) := dk_158 0 5 (dk_at dksX8_watchedNow_2 17 rfl rfl)
theorem dX8_watchedNow_68 : decode cX8_watchedNow 68 = .ok (.iload_n 2, 1) := dk_28 (dk_at dksX8_watchedNow_2 20 rfl rfl)
theorem dX8_watchedNow_69 : decode cX8_watchedNow 69 = .ok (.ireturn, 1) := dk_172 (dk_at dksX8_watchedNow_2 21 rfl rfl)
theorem dX8_watchedNow_70 : decode cX8_watchedNow 70 = .ok (.iconst 0, 1) := dk_3 (dk_at dksX8_watchedNow_2 22 rfl rfl)
theorem dX8_watchedNow_71 : decode cX8_watchedNow 71 = .ok (.istore 4, 2) := dk_54 4 (dk_at dksX8_watchedNow_3 0 rfl rfl)
theorem dX8_watchedNow_73 : decode cX8_watchedNow 73 = .ok (.iload 4, 2) := dk_21 4 (dk_at dksX8_watchedNow_3 2 rfl rfl)
theorem dX8_watchedNow_75 : decode cX8_watchedNow 75 = .ok (.aload_n 1, 1) := dk_43 (dk_at dksX8_watchedNow_3 4 rfl rfl)
theorem dX8_watchedNow_76 : decode cX8_watchedNow 76 = .ok (.invokevirtual 92, 3) := dk_182 0 92 (dk_at dksX8_watchedNow_3 5 rfl rfl)
theorem dX8_watchedNow_79 : decode cX8_watchedNow 79 = .ok (.if_icmp .ge 60, 3) := dk_162 0 60 (dk_at dksX8_watchedNow_3 8 rfl rfl)
theorem dX8_watchedNow_82 : decode cX8_watchedNow 82 = .ok (.aload_n 1, 1) := dk_43 (dk_at dksX8_watchedNow_3 11 rfl rfl)
theorem dX8_watchedNow_83 : decode cX8_watchedNow 83 = .ok (.invokevirtual 92, 3) := dk_182 0 92 (dk_at dksX8_watchedNow_3 12 rfl rfl)
theorem dX8_watchedNow_86 : decode cX8_watchedNow 86 = .ok (.iconst 1, 1) := dk_4 (dk_at dksX8_watchedNow_3 15 rfl rfl)
theorem dX8_watchedNow_87 : decode cX8_watchedNow 87 = .ok (.if_icmp .le 52, 3) := dk_164 0 52 (dk_at dksX8_watchedNow_3 16 rfl rfl)
theorem dX8_watchedNow_90 : decode cX8_watchedNow 90 = .ok (.iload 4, 2) := dk_21 4 (dk_at dksX8_watchedNow_3 19 rfl rfl)
theorem dX8_watchedNow_92 : decode cX8_watchedNow 92 = .ok (.aload_n 1, 1) := dk_43 (dk_at dksX8_watchedNow_3 21 rfl rfl)
theorem dX8_watchedNow_93 : decode cX8_watchedNow 93 = .ok (.getfield 89, 3) := dk_180 0 89 (dk_at dksX8_watchedNow_4 0 rfl rfl)
theorem dX8_watchedNow_96 : decode cX8_watchedNow 96 = .ok (.if_icmp .eq 37, 3) := dk_159 0 37 (dk_at dksX8_watchedNow_4 3 rfl rfl)
theorem dX8_watchedNow_99 : decode cX8_watchedNow 99 = .ok (.iload 4, 2) := dk_21 4 (dk_at dksX8_watchedNow_4 6 rfl rfl)
theorem dX8_watchedNow_101 : decode cX8_watchedNow 101 = .ok (.iload_n 3, 1) := dk_29 (dk_at dksX8_watchedNow_4 8 rfl rfl)
theorem dX8_watchedNow_102 : decode cX8_watchedNow 102 = .ok (.if_icmp .eq 31, 3) := dk_159 0 31 (dk_at dksX8_watchedNow_4 9 rfl rfl)
theorem dX8_watchedNow_105 : decode cX8_watchedNow 105 = .ok (.aload_n 0, 1) := dk_42 (dk_at dksX8_watchedNow_4 12 rfl rfl)
theorem dX8_watchedNow_106 : decode cX8_watchedNow 106 = .ok (.aload_n 1, 1) := dk_43 (dk_at dksX8_watchedNow_4 13 rfl rfl)
theorem dX8_watchedNow_107 : decode cX8_watchedNow 107 = .ok (.getfield 78, 3) := dk_180 0 78 (dk_at dksX8_watchedNow_4 14 rfl rfl)
theorem dX8_watchedNow_110 : decode cX8_watchedNow 110 = .ok (.iload 4, 2) := dk_21 4 (dk_at dksX8_watchedNow_4 17 rfl rfl)
theorem dX8_watchedNow_112 : decode cX8_watchedNow 112 = .ok (.iaload, 1) := dk_46 (dk_at dksX8_watchedNow_4 19 rfl rfl)
theorem dX8_watchedNow_113 : decode cX8_watchedNow 113 = .ok (.invokevirtual 124, 3) := dk_182 0 124 (dk_at dksX8_watchedNow_4 20 rfl rfl)
theorem dX8_watchedNow_116 : decode cX8_watchedNow 116 = .ok (.ifCond .lt 17, 3) := dk_155 0 17 (dk_at dksX8_watchedNow_5 0 rfl rfl)
theorem dX8_watchedNow_119 : decode cX8_watchedNow 119 = .ok (.aload_n 1, 1) := dk_43 (dk_at dksX8_watchedNow_5 3 rfl rfl)
theorem dX8_watchedNow_120 : decode cX8_watchedNow 120 = .ok (.iload 4, 2) := dk_21 4 (dk_at dksX8_watchedNow_5 4 rfl rfl)
theorem dX8_watchedNow_122 : decode cX8_watchedNow 122 = .ok (.putfield 96, 3) := dk_181 0 96 (dk_at dksX8_watchedNow_5 6 rfl rfl)
theorem dX8_watchedNow_125 : decode cX8_watchedNow 125 = .ok (.aload_n 1, 1) := dk_43 (dk_at dksX8_watchedNow_5 9 rfl rfl)
theorem dX8_watchedNow_126 : decode cX8_watchedNow 126 = .ok (.getfield 78, 3) := dk_180 0 78 (dk_at dksX8_watchedNow_5 10 rfl rfl)
theorem dX8_watchedNow_129 : decode cX8_watchedNow 129 = .ok (.iload 4, 2) := dk_21 4 (dk_at dksX8_watchedNow_5 13 rfl rfl)
theorem dX8_watchedNow_131 : decode cX8_watchedNow 131 = .ok (.iaload, 1) := dk_46 (dk_at dksX8_watchedNow_5 15 rfl rfl)
theorem dX8_watchedNow_132 : decode cX8_watchedNow 132 = .ok (.ireturn, 1) := dk_172 (dk_at dksX8_watchedNow_5 16 rfl rfl)
theorem dX8_watchedNow_133 : decode cX8_watchedNow 133 = .ok (.iinc 4 1, 3) := dk_132 4 1 (dk_at dksX8_watchedNow_5 17 rfl rfl)
theorem dX8_watchedNow_136 : decode cX8_watchedNow 136 = .ok (.goto (-63), 3) := dk_167 255 193 (dk_at dksX8_watchedNow_5 20 rfl rfl)
theorem dX8_watchedNow_139 : decode cX8_watchedNow 139 = .ok (.aload_n 1, 1) := dk_43 (dk_at dksX8_watchedNow_5 23 rfl rfl)
theorem dX8_watchedNow_140 : decode cX8_watchedNow 140 = .ok (.invokevirtual 92, 3) := dk_182 0 92 (dk_at dksX8_watchedNow_6 0 rfl rfl)
theorem dX8_watchedNow_143 : decode cX8_watchedNow 143 = .ok (.iconst 1, 1) := dk_4 (dk_at dksX8_watchedNow_6 3 rfl rfl)
theorem dX8_watchedNow_144 : decode cX8_watchedNow 144 = .ok (.if_icmp .eq 19, 3) := dk_159 0 19 (dk_at dksX8_watchedNow_6 4 rfl rfl)
theorem dX8_watchedNow_147 : decode cX8_watchedNow 147 = .ok (.aload_n 0, 1) := dk_42 (dk_at dksX8_watchedNow_6 7 rfl rfl)
theorem dX8_watchedNow_148 : decode cX8_watchedNow 148 = .ok (.aload_n 1, 1) := dk_43 (dk_at dksX8_watchedNow_6 8 rfl rfl)
theorem dX8_watchedNow_149 : decode cX8_watchedNow 149 = .ok (.getfield 78, 3) := dk_180 0 78 (dk_at dksX8_watchedNow_6 9 rfl rfl)
theorem dX8_watchedNow_152 : decode cX8_watchedNow 152 = .ok (.aload_n 1, 1) := dk_43 (dk_at dksX8_watchedNow_6 12 rfl rfl)
theorem dX8_watchedNow_153 : decode cX8_watchedNow 153 = .ok (.getfield 89, 3) := dk_180 0 89 (dk_at dksX8_watchedNow_6 13 rfl rfl)
theorem dX8_watchedNow_156 : decode cX8_watchedNow 156 = .ok (.iaload, 1) := dk_46 (dk_at dksX8_watchedNow_6 16 rfl rfl)
theorem dX8_watchedNow_157 : decode cX8_watchedNow 157 = .ok (.invokevirtual 124, 3) := dk_182 0 124 (dk_at dksX8_watchedNow_6 17 rfl rfl)
theorem dX8_watchedNow_160 : decode cX8_watchedNow 160 = .ok (.ifCond .ge 17, 3) := dk_156 0 17 (dk_at dksX8_watchedNow_6 20 rfl rfl)
theorem dX8_watchedNow_163 : decode cX8_watchedNow 163 = .ok (.aload_n 0, 1) := dk_42 (dk_at dksX8_watchedNow_6 23 rfl rfl)
theorem dX8_watchedNow_164 : decode cX8_watchedNow 164 = .ok (.getfield 28, 3) := dk_180 0 28 (dk_at dksX8_watchedNow_7 0 rfl rfl)
theorem dX8_watchedNow_167 : decode cX8_watchedNow 167 = .ok (.aload_n 1, 1) := dk_43 (dk_at dksX8_watchedNow_7 3 rfl rfl)
theorem dX8_watchedNow_168 : decode cX8_watchedNow 168 = .ok (.getfield 102, 3) := dk_180 0 102 (dk_at dksX8_watchedNow_7 4 rfl rfl)
theorem dX8_watchedNow_171 : decode cX8_watchedNow 171 = .ok (.invokevirtual 105, 3) := dk_182 0 105 (dk_at dksX8_watchedNow_7 7 rfl rfl)
theorem dX8_watchedNow_174 : decode cX8_watchedNow 174 = .ok (.goto 14, 3) := dk_167 0 14 (dk_at dksX8_watchedNow_7 10 rfl rfl)
theorem dX8_watchedNow_177 : decode cX8_watchedNow 177 = .ok (.aload_n 0, 1) := dk_42 (dk_at dksX8_watchedNow_7 13 rfl rfl)
theorem dX8_watchedNow_178 : decode cX8_watchedNow 178 = .ok (.getfield 24, 3) := dk_180 0 24 (dk_at dksX8_watchedNow_7 14 rfl rfl)
theorem dX8_watchedNow_181 : decode cX8_watchedNow 181 = .ok (.aload_n 1, 1) := dk_43 (dk_at dksX8_watchedNow_7 17 rfl rfl)
theorem dX8_watchedNow_182 : decode cX8_watchedNow 182 = .ok (.getfield 102, 3) := dk_180 0 102 (dk_at dksX8_watchedNow_7 18 rfl rfl)
theorem dX8_watchedNow_185 : decode cX8_watchedNow 185 = .ok (.invokevirtual 105, 3) := dk_182 0 105 (dk_at dksX8_watchedNow_7 21 rfl rfl)
theorem dX8_watchedNow_188 : decode cX8_watchedNow 188 = .ok (.iload_n 2, 1) := dk_28 (dk_at dksX8_watchedNow_8 0 rfl rfl)
theorem dX8_watchedNow_189 : decode cX8_watchedNow 189 = .ok (.ireturn, 1) := dk_172 (dk_at dksX8_watchedNow_8 1 rfl rfl)
abbrev cX8_luby : ByteArray := prog_7_method_15_code
def yX8_luby : MethodName := ⟨RX8, "luby", "(I)I"⟩
def dkwX8_luby_1 : List UInt8 := [28, 4, 96, 5, 108, 172]
abbrev dktX8_luby_1 : List UInt8 := dkwX8_luby_1 ++ []
def dkwX8_luby_0 : List UInt8 := [27, 61, 28, 28, 4, 96, 126, 153, 0, 17, 28, 28, 4, 96, 184, 0, 232, 4, 100, 100, 61, 167, 255, 237]
abbrev dktX8_luby_0 : List UInt8 := dkwX8_luby_0 ++ dktX8_luby_1
theorem dksX8_luby_0 : cX8_luby.data.toList.drop 0 = dktX8_luby_0 := by decide +kernel
theorem dksX8_luby_1 : cX8_luby.data.toList.drop 24 = dktX8_luby_1 := dk_seg dksX8_luby_0 24 rfl rfl
theorem dX8_luby_0 : decode cX8_luby 0 = .ok (.iload_n 1, 1) := dk_27 (dk_at dksX8_luby_0 0 rfl rfl)
theorem dX8_luby_1 : decode cX8_luby 1 = .ok (.istore_n 2, 1) := dk_61 (dk_at dksX8_luby_0 1 rfl rfl)
theorem dX8_luby_2 : decode cX8_luby 2 = .ok (.iload_n 2, 1) := dk_28 (dk_at dksX8_luby_0 2 rfl rfl)
theorem dX8_luby_3 : decode cX8_luby 3 = .ok (.iload_n 2, 1) := dk_28 (dk_at dksX8_luby_0 3 rfl rfl)
theorem dX8_luby_4 : decode cX8_luby 4 = .ok (.iconst 1, 1) := dk_4 (dk_at dksX8_luby_0 4 rfl rfl)
theorem dX8_luby_5 : decode cX8_luby 5 = .ok (.iadd, 1) := dk_96 (dk_at dksX8_luby_0 5 rfl rfl)
theorem dX8_luby_6 : decode cX8_luby 6 = .ok (.iand, 1) := dk_126 (dk_at dksX8_luby_0 6 rfl rfl)
theorem dX8_luby_7 : decode cX8_luby 7 = .ok (.ifCond .eq 17, 3) := dk_153 0 17 (dk_at dksX8_luby_0 7 rfl rfl)
theorem dX8_luby_10 : decode cX8_luby 10 = .ok (.iload_n 2, 1) := dk_28 (dk_at dksX8_luby_0 10 rfl rfl)
theorem dX8_luby_11 : decode cX8_luby 11 = .ok (.iload_n 2, 1) := dk_28 (dk_at dksX8_luby_0 11 rfl rfl)
theorem dX8_luby_12 : decode cX8_luby 12 = .ok (.iconst 1, 1) := dk_4 (dk_at dksX8_luby_0 12 rfl rfl)
theorem dX8_luby_13 : decode cX8_luby 13 = .ok (.iadd, 1) := dk_96 (dk_at dksX8_luby_0 13 rfl rfl)
theorem dX8_luby_14 : decode cX8_luby 14 = .ok (.invokestatic 232, 3) := dk_184 0 232 (dk_at dksX8_luby_0 14 rfl rfl)
theorem dX8_luby_17 : decode cX8_luby 17 = .ok (.iconst 1, 1) := dk_4 (dk_at dksX8_luby_0 17 rfl rfl)
theorem dX8_luby_18 : decode cX8_luby 18 = .ok (.isub, 1) := dk_100 (dk_at dksX8_luby_0 18 rfl rfl)
theorem dX8_luby_19 : decode cX8_luby 19 = .ok (.isub, 1) := dk_100 (dk_at dksX8_luby_0 19 rfl rfl)
theorem dX8_luby_20 : decode cX8_luby 20 = .ok (.istore_n 2, 1) := dk_61 (dk_at dksX8_luby_0 20 rfl rfl)
theorem dX8_luby_21 : decode cX8_luby 21 = .ok (.goto (-19), 3) := dk_167 255 237 (dk_at dksX8_luby_0 21 rfl rfl)
theorem dX8_luby_24 : decode cX8_luby 24 = .ok (.iload_n 2, 1) := dk_28 (dk_at dksX8_luby_1 0 rfl rfl)
theorem dX8_luby_25 : decode cX8_luby 25 = .ok (.iconst 1, 1) := dk_4 (dk_at dksX8_luby_1 1 rfl rfl)
theorem dX8_luby_26 : decode cX8_luby 26 = .ok (.iadd, 1) := dk_96 (dk_at dksX8_luby_1 2 rfl rfl)
theorem dX8_luby_27 : decode cX8_luby 27 = .ok (.iconst 2, 1) := dk_5 (dk_at dksX8_luby_1 3 rfl rfl)
theorem dX8_luby_28 : decode cX8_luby 28 = .ok (.idiv, 1) := dk_108 (dk_at dksX8_luby_1 4 rfl rfl)
theorem dX8_luby_29 : decode cX8_luby 29 = .ok (.ireturn, 1) := dk_172 (dk_at dksX8_luby_1 5 rfl rfl)
abbrev cX8_unitNext : ByteArray := prog_7_method_16_code
def yX8_unitNext : MethodName := ⟨RX8, "unitNext", "()LLearntReasons$Clause;"⟩
def dkwX8_unitNext_3 : List UInt8 := [180, 0, 3, 180, 0, 38, 180, 0, 42, 27, 185, 0, 240, 2, 0, 192, 0, 64, 176]
abbrev dktX8_unitNext_3 : List UInt8 := dkwX8_unitNext_3 ++ []
def dkwX8_unitNext_2 : List UInt8 := [182, 0, 211, 42, 180, 0, 24, 27, 182, 0, 237, 60, 167, 255, 206, 27, 156, 0, 7, 1, 167, 0, 22, 42]
abbrev dktX8_unitNext_2 : List UInt8 := dkwX8_unitNext_2 ++ dktX8_unitNext_3
def dkwX8_unitNext_1 : List UInt8 := [27, 185, 0, 240, 2, 0, 192, 0, 64, 180, 0, 78, 182, 0, 244, 154, 0, 23, 42, 180, 0, 24, 27]
abbrev dktX8_unitNext_1 : List UInt8 := dkwX8_unitNext_1 ++ dktX8_unitNext_2
def dkwX8_unitNext_0 : List UInt8 := [42, 180, 0, 24, 3, 182, 0, 237, 60, 27, 155, 0, 52, 42, 42, 180, 0, 3, 180, 0, 38, 180, 0, 42]
abbrev dktX8_unitNext_0 : List UInt8 := dkwX8_unitNext_0 ++ dktX8_unitNext_1
theorem dksX8_unitNext_0 : cX8_unitNext.data.toList.drop 0 = dktX8_unitNext_0 := by decide +kernel
theorem dksX8_unitNext_1 : cX8_unitNext.data.toList.drop 24 = dktX8_unitNext_1 := dk_seg dksX8_unitNext_0 24 rfl rfl
theorem dksX8_unitNext_2 : cX8_unitNext.data.toList.drop 47 = dktX8_unitNext_2 := dk_seg dksX8_unitNext_1 23 rfl rfl
theorem dksX8_unitNext_3 : cX8_unitNext.data.toList.drop 71 = dktX8_unitNext_3 := dk_seg dksX8_unitNext_2 24 rfl rfl
theorem dX8_unitNext_0 : decode cX8_unitNext 0 = .ok (.aload_n 0, 1) := dk_42 (dk_at dksX8_unitNext_0 0 rfl rfl)
theorem dX8_unitNext_1 : decode cX8_unitNext 1 = .ok (.getfield 24, 3) := dk_180 0 24 (dk_at dksX8_unitNext_0 1 rfl rfl)
theorem dX8_unitNext_4 : decode cX8_unitNext 4 = .ok (.iconst 0, 1) := dk_3 (dk_at dksX8_unitNext_0 4 rfl rfl)
theorem dX8_unitNext_5 : decode cX8_unitNext 5 = .ok (.invokevirtual 237, 3) := dk_182 0 237 (dk_at dksX8_unitNext_0 5 rfl rfl)
theorem dX8_unitNext_8 : decode cX8_unitNext 8 = .ok (.istore_n 1, 1) := dk_60 (dk_at dksX8_unitNext_0 8 rfl rfl)
theorem dX8_unitNext_9 : decode cX8_unitNext 9 = .ok (.iload_n 1, 1) := dk_27 (dk_at dksX8_unitNext_0 9 rfl rfl)
theorem dX8_unitNext_10 : decode cX8_unitNext 10 = .ok (.ifCond .lt 52, 3) := dk_155 0 52 (dk_at dksX8_unitNext_0 10 rfl rfl)
theorem dX8_unitNext_13 : decode cX8_unitNext 13 = .ok (.aload_n 0, 1) := dk_42 (dk_at dksX8_unitNext_0 13 rfl rfl)
theorem dX8_unitNext_14 : decode cX8_unitNext 14 = .ok (.aload_n 0, 1) := dk_42 (dk_at dksX8_unitNext_0 14 rfl rfl)
theorem dX8_unitNext_15 : decode cX8_unitNext 15 = .ok (.getfield 3, 3) := dk_180 0 3 (dk_at dksX8_unitNext_0 15 rfl rfl)
theorem dX8_unitNext_18 : decode cX8_unitNext 18 = .ok (.getfield 38, 3) := dk_180 0 38 (dk_at dksX8_unitNext_0 18 rfl rfl)
theorem dX8_unitNext_21 : decode cX8_unitNext 21 = .ok (.getfield 42, 3) := dk_180 0 42 (dk_at dksX8_unitNext_0 21 rfl rfl)
theorem dX8_unitNext_24 : decode cX8_unitNext 24 = .ok (.iload_n 1, 1) := dk_27 (dk_at dksX8_unitNext_1 0 rfl rfl)
theorem dX8_unitNext_25 : decode cX8_unitNext 25 = .ok (.invokeinterface 240 2, 5) := by decide +kernel
theorem dX8_unitNext_30 : decode cX8_unitNext 30 = .ok (.checkcast 64, 3) := dk_192 0 64 (dk_at dksX8_unitNext_1 6 rfl rfl)
theorem dX8_unitNext_33 : decode cX8_unitNext 33 = .ok (.getfield 78, 3) := dk_180 0 78 (dk_at dksX8_unitNext_1 9 rfl rfl)
theorem dX8_unitNext_36 : decode cX8_unitNext 36 = .ok (.invokevirtual 244, 3) := dk_182 0 244 (dk_at dksX8_unitNext_1 12 rfl rfl)
theorem dX8_unitNext_39 : decode cX8_unitNext 39 = .ok (.ifCond .ne 23, 3) := dk_154 0 23 (dk_at dksX8_unitNext_1 15 rfl rfl)
theorem dX8_unitNext_42 : decode cX8_unitNext 42 = .ok (.aload_n 0, 1) := dk_42 (dk_at dksX8_unitNext_1 18 rfl rfl)
theorem dX8_unitNext_43 : decode cX8_unitNext 43 = .ok (.getfield 24, 3) := dk_180 0 24 (dk_at dksX8_unitNext_1 19 rfl rfl)
theorem dX8_unitNext_46 : decode cX8_unitNext 46 = .ok (.iload_n 1, 1) := dk_27 (dk_at dksX8_unitNext_1 22 rfl rfl)
theorem dX8_unitNext_47 : decode cX8_unitNext 47 = .ok (.invokevirtual 211, 3) := dk_182 0 211 (dk_at dksX8_unitNext_2 0 rfl rfl)
theorem dX8_unitNext_50 : decode cX8_unitNext 50 = .ok (.aload_n 0, 1) := dk_42 (dk_at dksX8_unitNext_2 3 rfl rfl)
theorem dX8_unitNext_51 : decode cX8_unitNext 51 = .ok (.getfield 24, 3) := dk_180 0 24 (dk_at dksX8_unitNext_2 4 rfl rfl)
theorem dX8_unitNext_54 : decode cX8_unitNext 54 = .ok (.iload_n 1, 1) := dk_27 (dk_at dksX8_unitNext_2 7 rfl rfl)
theorem dX8_unitNext_55 : decode cX8_unitNext 55 = .ok (.invokevirtual 237, 3) := dk_182 0 237 (dk_at dksX8_unitNext_2 8 rfl rfl)
theorem dX8_unitNext_58 : decode cX8_unitNext 58 = .ok (.istore_n 1, 1) := dk_60 (dk_at dksX8_unitNext_2 11 rfl rfl)
theorem dX8_unitNext_59 : decode cX8_unitNext 59 = .ok (.goto (-50), 3) := dk_167 255 206 (dk_at dksX8_unitNext_2 12 rfl rfl)
theorem dX8_unitNext_62 : decode cX8_unitNext 62 = .ok (.iload_n 1, 1) := dk_27 (dk_at dksX8_unitNext_2 15 rfl rfl)
theorem dX8_unitNext_63 : decode cX8_unitNext 63 = .ok (.ifCond .ge 7, 3) := dk_156 0 7 (dk_at dksX8_unitNext_2 16 rfl rfl)
theorem dX8_unitNext_66 : decode cX8_unitNext 66 = .ok (.aconst_null, 1) := dk_1 (dk_at dksX8_unitNext_2 19 rfl rfl)
theorem dX8_unitNext_67 : decode cX8_unitNext 67 = .ok (.goto 22, 3) := dk_167 0 22 (dk_at dksX8_unitNext_2 20 rfl rfl)
theorem dX8_unitNext_70 : decode cX8_unitNext 70 = .ok (.aload_n 0, 1) := dk_42 (dk_at dksX8_unitNext_2 23 rfl rfl)
theorem dX8_unitNext_71 : decode cX8_unitNext 71 = .ok (.getfield 3, 3) := dk_180 0 3 (dk_at dksX8_unitNext_3 0 rfl rfl)
theorem dX8_unitNext_74 : decode cX8_unitNext 74 = .ok (.getfield 38, 3) := dk_180 0 38 (dk_at dksX8_unitNext_3 3 rfl rfl)
theorem dX8_unitNext_77 : decode cX8_unitNext 77 = .ok (.getfield 42, 3) := dk_180 0 42 (dk_at dksX8_unitNext_3 6 rfl rfl)
theorem dX8_unitNext_80 : decode cX8_unitNext 80 = .ok (.iload_n 1, 1) := dk_27 (dk_at dksX8_unitNext_3 9 rfl rfl)
theorem dX8_unitNext_81 : decode cX8_unitNext 81 = .ok (.invokeinterface 240 2, 5) := by decide +kernel
theorem dX8_unitNext_86 : decode cX8_unitNext 86 = .ok (.checkcast 64, 3) := dk_192 0 64 (dk_at dksX8_unitNext_3 15 rfl rfl)
theorem dX8_unitNext_89 : decode cX8_unitNext 89 = .ok (.areturn, 1) := dk_176 (dk_at dksX8_unitNext_3 18 rfl rfl)
abbrev cX8_assumptionNext : ByteArray := prog_7_method_17_code
def yX8_assumptionNext : MethodName := ⟨RX8, "assumptionNext", "()I"⟩
def dkwX8_assumptionNext_1 : List UInt8 := [180, 0, 250, 27, 46, 182, 0, 124, 157, 0, 5, 27, 172, 132, 1, 1, 167, 255, 218, 2, 172]
abbrev dktX8_assumptionNext_1 : List UInt8 := dkwX8_assumptionNext_1 ++ []
def dkwX8_assumptionNext_0 : List UInt8 := [3, 60, 27, 42, 180, 0, 3, 180, 0, 38, 180, 0, 247, 162, 0, 30, 42, 42, 180, 0, 3, 180, 0, 38]
abbrev dktX8_assumptionNext_0 : List UInt8 := dkwX8_assumptionNext_0 ++ dktX8_assumptionNext_1
theorem dksX8_assumptionNext_0 : cX8_assumptionNext.data.toList.drop 0 = dktX8_assumptionNext_0 := by decide +kernel
theorem dksX8_assumptionNext_1 : cX8_assumptionNext.data.toList.drop 24 = dktX8_assumptionNext_1 := dk_seg dksX8_assumptionNext_0 24 rfl rfl
theorem dX8_assumptionNext_0 : decode cX8_assumptionNext 0 = .ok (.iconst 0, 1) := dk_3 (dk_at dksX8_assumptionNext_0 0 rfl rfl)
theorem dX8_assumptionNext_1 : decode cX8_assumptionNext 1 = .ok (.istore_n 1, 1) := dk_60 (dk_at dksX8_assumptionNext_0 1 rfl rfl)
theorem dX8_assumptionNext_2 : decode cX8_assumptionNext 2 = .ok (.iload_n 1, 1) := dk_27 (dk_at dksX8_assumptionNext_0 2 rfl rfl)
theorem dX8_assumptionNext_3 : decode cX8_assumptionNext 3 = .ok (.aload_n 0, 1) := dk_42 (dk_at dksX8_assumptionNext_0 3 rfl rfl)
theorem dX8_assumptionNext_4 : decode cX8_assumptionNext 4 = .ok (.getfield 3, 3) := dk_180 0 3 (dk_at dksX8_assumptionNext_0 4 rfl rfl)
theorem dX8_assumptionNext_7 : decode cX8_assumptionNext 7 = .ok (.getfield 38, 3) := dk_180 0 38 (dk_at dksX8_assumptionNext_0 7 rfl rfl)
theorem dX8_assumptionNext_10 : decode cX8_assumptionNext 10 = .ok (.getfield 247, 3) := dk_180 0 247 (dk_at dksX8_assumptionNext_0 10 rfl rfl)
theorem dX8_assumptionNext_13 : decode cX8_assumptionNext 13 = .ok (.if_icmp .ge 30, 3) := dk_162 0 30 (dk_at dksX8_assumptionNext_0 13 rfl rfl)
theorem dX8_assumptionNext_16 : decode cX8_assumptionNext 16 = .ok (.aload_n 0, 1) := dk_42 (dk_at dksX8_assumptionNext_0 16 rfl rfl)
theorem dX8_assumptionNext_17 : decode cX8_assumptionNext 17 = .ok (.aload_n 0, 1) := dk_42 (dk_at dksX8_assumptionNext_0 17 rfl rfl)
theorem dX8_assumptionNext_18 : decode cX8_assumptionNext 18 = .ok (.getfield 3, 3) := dk_180 0 3 (dk_at dksX8_assumptionNext_0 18 rfl rfl)
theorem dX8_assumptionNext_21 : decode cX8_assumptionNext 21 = .ok (.getfield 38, 3) := dk_180 0 38 (dk_at dksX8_assumptionNext_0 21 rfl rfl)
theorem dX8_assumptionNext_24 : decode cX8_assumptionNext 24 = .ok (.getfield 250, 3) := dk_180 0 250 (dk_at dksX8_assumptionNext_1 0 rfl rfl)
theorem dX8_assumptionNext_27 : decode cX8_assumptionNext 27 = .ok (.iload_n 1, 1) := dk_27 (dk_at dksX8_assumptionNext_1 3 rfl rfl)
theorem dX8_assumptionNext_28 : decode cX8_assumptionNext 28 = .ok (.iaload, 1) := dk_46 (dk_at dksX8_assumptionNext_1 4 rfl rfl)
theorem dX8_assumptionNext_29 : decode cX8_assumptionNext 29 = .ok (.invokevirtual 124, 3) := dk_182 0 124 (dk_at dksX8_assumptionNext_1 5 rfl rfl)
theorem dX8_assumptionNext_32 : decode cX8_assumptionNext 32 = .ok (.ifCond .gt 5, 3) := dk_157 0 5 (dk_at dksX8_assumptionNext_1 8 rfl rfl)
theorem dX8_assumptionNext_35 : decode cX8_assumptionNext 35 = .ok (.iload_n 1, 1) := dk_27 (dk_at dksX8_assumptionNext_1 11 rfl rfl)
theorem dX8_assumptionNext_36 : decode cX8_assumptionNext 36 = .ok (.ireturn, 1) := dk_172 (dk_at dksX8_assumptionNext_1 12 rfl rfl)
theorem dX8_assumptionNext_37 : decode cX8_assumptionNext 37 = .ok (.iinc 1 1, 3) := dk_132 1 1 (dk_at dksX8_assumptionNext_1 13 rfl rfl)
theorem dX8_assumptionNext_40 : decode cX8_assumptionNext 40 = .ok (.goto (-38), 3) := dk_167 255 218 (dk_at dksX8_assumptionNext_1 16 rfl rfl)
theorem dX8_assumptionNext_43 : decode cX8_assumptionNext 43 = .ok (.iconst (-1), 1) := dk_2 (dk_at dksX8_assumptionNext_1 19 rfl rfl)
theorem dX8_assumptionNext_44 : decode cX8_assumptionNext 44 = .ok (.ireturn, 1) := dk_172 (dk_at dksX8_assumptionNext_1 20 rfl rfl)
abbrev cX8_laysCore : ByteArray := prog_7_method_20_code
def yX8_laysCore : MethodName := ⟨RX8, "laysCore", "(I)V"⟩
def dkwX8_laysCore_6 : List UInt8 := [21, 8, 184, 0, 136, 4, 84, 132, 7, 1, 167, 255, 231, 132, 3, 255, 167, 255, 138, 177]
abbrev dktX8_laysCore_6 : List UInt8 := dkwX8_laysCore_6 ++ []
def dkwX8_laysCore_5 : List UInt8 := [25, 5, 190, 54, 6, 3, 54, 7, 21, 7, 21, 6, 162, 0, 24, 25, 5, 21, 7, 46, 54, 8, 44]
abbrev dktX8_laysCore_5 : List UInt8 := dkwX8_laysCore_5 ++ dktX8_laysCore_6
def dkwX8_laysCore_4 : List UInt8 := [46, 182, 1, 0, 128, 181, 0, 253, 167, 0, 51, 42, 180, 0, 160, 21, 4, 50, 180, 0, 78, 58, 5]
abbrev dktX8_laysCore_4 : List UInt8 := dkwX8_laysCore_4 ++ dktX8_laysCore_5
def dkwX8_laysCore_3 : List UInt8 := [167, 0, 83, 42, 180, 0, 160, 21, 4, 50, 199, 0, 25, 42, 89, 180, 0, 253, 42, 42, 180, 0, 133, 29]
abbrev dktX8_laysCore_3 : List UInt8 := dkwX8_laysCore_3 ++ dktX8_laysCore_4
def dkwX8_laysCore_2 : List UInt8 := [184, 0, 136, 54, 4, 44, 21, 4, 51, 153, 0, 96, 42, 180, 0, 130, 21, 4, 46, 154, 0, 6]
abbrev dktX8_laysCore_2 : List UInt8 := dkwX8_laysCore_2 ++ dktX8_laysCore_3
def dkwX8_laysCore_1 : List UInt8 := [46, 184, 0, 136, 4, 84, 42, 180, 0, 127, 4, 100, 62, 29, 155, 0, 120, 42, 180, 0, 133, 29, 46]
abbrev dktX8_laysCore_1 : List UInt8 := dkwX8_laysCore_1 ++ dktX8_laysCore_2
def dkwX8_laysCore_0 : List UInt8 := [42, 4, 27, 120, 181, 0, 253, 16, 31, 188, 4, 77, 44, 42, 180, 0, 3, 180, 0, 38, 180, 0, 250, 27]
abbrev dktX8_laysCore_0 : List UInt8 := dkwX8_laysCore_0 ++ dktX8_laysCore_1
theorem dksX8_laysCore_0 : cX8_laysCore.data.toList.drop 0 = dktX8_laysCore_0 := by decide +kernel
theorem dksX8_laysCore_1 : cX8_laysCore.data.toList.drop 24 = dktX8_laysCore_1 := dk_seg dksX8_laysCore_0 24 rfl rfl
theorem dksX8_laysCore_2 : cX8_laysCore.data.toList.drop 47 = dktX8_laysCore_2 := dk_seg dksX8_laysCore_1 23 rfl rfl
theorem dksX8_laysCore_3 : cX8_laysCore.data.toList.drop 69 = dktX8_laysCore_3 := dk_seg dksX8_laysCore_2 22 rfl rfl
theorem dksX8_laysCore_4 : cX8_laysCore.data.toList.drop 93 = dktX8_laysCore_4 := dk_seg dksX8_laysCore_3 24 rfl rfl
theorem dksX8_laysCore_5 : cX8_laysCore.data.toList.drop 116 = dktX8_laysCore_5 := dk_seg dksX8_laysCore_4 23 rfl rfl
theorem dksX8_laysCore_6 : cX8_laysCore.data.toList.drop 139 = dktX8_laysCore_6 := dk_seg dksX8_laysCore_5 23 rfl rfl
theorem dX8_laysCore_0 : decode cX8_laysCore 0 = .ok (.aload_n 0, 1) := dk_42 (dk_at dksX8_laysCore_0 0 rfl rfl)
theorem dX8_laysCore_1 : decode cX8_laysCore 1 = .ok (.iconst 1, 1) := dk_4 (dk_at dksX8_laysCore_0 1 rfl rfl)
theorem dX8_laysCore_2 : decode cX8_laysCore 2 = .ok (.iload_n 1, 1) := dk_27 (dk_at dksX8_laysCore_0 2 rfl rfl)
theorem dX8_laysCore_3 : decode cX8_laysCore 3 = .ok (.ishl, 1) := dk_120 (dk_at dksX8_laysCore_0 3 rfl rfl)
theorem dX8_laysCore_4 : decode cX8_laysCore 4 = .ok (.putfield 253, 3) := dk_181 0 253 (dk_at dksX8_laysCore_0 4 rfl rfl)
theorem dX8_laysCore_7 : decode cX8_laysCore 7 = .ok (.bipush 31, 2) := dk_16 31 (dk_at dksX8_laysCore_0 7 rfl rfl)
theorem dX8_laysCore_9 : decode cX8_laysCore 9 = .ok (.newarray .boolean, 2) := dk_188_4 (dk_at dksX8_laysCore_0 9 rfl rfl)
theorem dX8_laysCore_11 : decode cX8_laysCore 11 = .ok (.astore_n 2, 1) := dk_77 (dk_at dksX8_laysCore_0 11 rfl rfl)
theorem dX8_laysCore_12 : decode cX8_laysCore 12 = .ok (.aload_n 2, 1) := dk_44 (dk_at dksX8_laysCore_0 12 rfl rfl)
theorem dX8_laysCore_13 : decode cX8_laysCore 13 = .ok (.aload_n 0, 1) := dk_42 (dk_at dksX8_laysCore_0 13 rfl rfl)
theorem dX8_laysCore_14 : decode cX8_laysCore 14 = .ok (.getfield 3, 3) := dk_180 0 3 (dk_at dksX8_laysCore_0 14 rfl rfl)
theorem dX8_laysCore_17 : decode cX8_laysCore 17 = .ok (.getfield 38, 3) := dk_180 0 38 (dk_at dksX8_laysCore_0 17 rfl rfl)
theorem dX8_laysCore_20 : decode cX8_laysCore 20 = .ok (.getfield 250, 3) := dk_180 0 250 (dk_at dksX8_laysCore_0 20 rfl rfl)
theorem dX8_laysCore_23 : decode cX8_laysCore 23 = .ok (.iload_n 1, 1) := dk_27 (dk_at dksX8_laysCore_0 23 rfl rfl)
theorem dX8_laysCore_24 : decode cX8_laysCore 24 = .ok (.iaload, 1) := dk_46 (dk_at dksX8_laysCore_1 0 rfl rfl)
theorem dX8_laysCore_25 : decode cX8_laysCore 25 = .ok (.invokestatic 136, 3) := dk_184 0 136 (dk_at dksX8_laysCore_1 1 rfl rfl)
theorem dX8_laysCore_28 : decode cX8_laysCore 28 = .ok (.iconst 1, 1) := dk_4 (dk_at dksX8_laysCore_1 4 rfl rfl)
theorem dX8_laysCore_29 : decode cX8_laysCore 29 = .ok (.bastore, 1) := dk_84 (dk_at dksX8_laysCore_1 5 rfl rfl)
theorem dX8_laysCore_30 : decode cX8_laysCore 30 = .ok (.aload_n 0, 1) := dk_42 (dk_at dksX8_laysCore_1 6 rfl rfl)
theorem dX8_laysCore_31 : decode cX8_laysCore 31 = .ok (.getfield 127, 3) := dk_180 0 127 (dk_at dksX8_laysCore_1 7 rfl rfl)
theorem dX8_laysCore_34 : decode cX8_laysCore 34 = .ok (.iconst 1, 1) := dk_4 (dk_at dksX8_laysCore_1 10 rfl rfl)
theorem dX8_laysCore_35 : decode cX8_laysCore 35 = .ok (.isub, 1) := dk_100 (dk_at dksX8_laysCore_1 11 rfl rfl)
theorem dX8_laysCore_36 : decode cX8_laysCore 36 = .ok (.istore_n 3, 1) := dk_62 (dk_at dksX8_laysCore_1 12 rfl rfl)
theorem dX8_laysCore_37 : decode cX8_laysCore 37 = .ok (.iload_n 3, 1) := dk_29 (dk_at dksX8_laysCore_1 13 rfl rfl)
theorem dX8_laysCore_38 : decode cX8_laysCore 38 = .ok (.ifCond .lt 120, 3) := dk_155 0 120 (dk_at dksX8_laysCore_1 14 rfl rfl)
theorem dX8_laysCore_41 : decode cX8_laysCore 41 = .ok (.aload_n 0, 1) := dk_42 (dk_at dksX8_laysCore_1 17 rfl rfl)
theorem dX8_laysCore_42 : decode cX8_laysCore 42 = .ok (.getfield 133, 3) := dk_180 0 133 (dk_at dksX8_laysCore_1 18 rfl rfl)
theorem dX8_laysCore_45 : decode cX8_laysCore 45 = .ok (.iload_n 3, 1) := dk_29 (dk_at dksX8_laysCore_1 21 rfl rfl)
theorem dX8_laysCore_46 : decode cX8_laysCore 46 = .ok (.iaload, 1) := dk_46 (dk_at dksX8_laysCore_1 22 rfl rfl)
theorem dX8_laysCore_47 : decode cX8_laysCore 47 = .ok (.invokestatic 136, 3) := dk_184 0 136 (dk_at dksX8_laysCore_2 0 rfl rfl)
theorem dX8_laysCore_50 : decode cX8_laysCore 50 = .ok (.istore 4, 2) := dk_54 4 (dk_at dksX8_laysCore_2 3 rfl rfl)
theorem dX8_laysCore_52 : decode cX8_laysCore 52 = .ok (.aload_n 2, 1) := dk_44 (dk_at dksX8_laysCore_2 5 rfl rfl)
theorem dX8_laysCore_53 : decode cX8_laysCore 53 = .ok (.iload 4, 2) := dk_21 4 (dk_at dksX8_laysCore_2 6 rfl rfl)
theorem dX8_laysCore_55 : decode cX8_laysCore 55 = .ok (.baload, 1) := dk_51 (dk_at dksX8_laysCore_2 8 rfl rfl)
theorem dX8_laysCore_56 : decode cX8_laysCore 56 = .ok (.ifCond .eq 96, 3) := dk_153 0 96 (dk_at dksX8_laysCore_2 9 rfl rfl)
theorem dX8_laysCore_59 : decode cX8_laysCore 59 = .ok (.aload_n 0, 1) := dk_42 (dk_at dksX8_laysCore_2 12 rfl rfl)
theorem dX8_laysCore_60 : decode cX8_laysCore 60 = .ok (.getfield 130, 3) := dk_180 0 130 (dk_at dksX8_laysCore_2 13 rfl rfl)
theorem dX8_laysCore_63 : decode cX8_laysCore 63 = .ok (.iload 4, 2) := dk_21 4 (dk_at dksX8_laysCore_2 16 rfl rfl)
theorem dX8_laysCore_65 : decode cX8_laysCore 65 = .ok (.iaload, 1) := dk_46 (dk_at dksX8_laysCore_2 18 rfl rfl)
theorem dX8_laysCore_66 : decode cX8_laysCore 66 = .ok (.ifCond .ne 6, 3) := dk_154 0 6 (dk_at dksX8_laysCore_2 19 rfl rfl)
theorem dX8_laysCore_69 : decode cX8_laysCore 69 = .ok (.goto 83, 3) := dk_167 0 83 (dk_at dksX8_laysCore_3 0 rfl rfl)
theorem dX8_laysCore_72 : decode cX8_laysCore 72 = .ok (.aload_n 0, 1) := dk_42 (dk_at dksX8_laysCore_3 3 rfl rfl)
theorem dX8_laysCore_73 : decode cX8_laysCore 73 = .ok (.getfield 160, 3) := dk_180 0 160 (dk_at dksX8_laysCore_3 4 rfl rfl)
theorem dX8_laysCore_76 : decode cX8_laysCore 76 = .ok (.iload 4, 2) := dk_21 4 (dk_at dksX8_laysCore_3 7 rfl rfl)
theorem dX8_laysCore_78 : decode cX8_laysCore 78 = .ok (.aaload, 1) := dk_50 (dk_at dksX8_laysCore_3 9 rfl rfl)
theorem dX8_laysCore_79 : decode cX8_laysCore 79 = .ok (.ifnonnull 25, 3) := dk_199 0 25 (dk_at dksX8_laysCore_3 10 rfl rfl)
theorem dX8_laysCore_82 : decode cX8_laysCore 82 = .ok (.aload_n 0, 1) := dk_42 (dk_at dksX8_laysCore_3 13 rfl rfl)
theorem dX8_laysCore_83 : decode cX8_laysCore 83 = .ok (.dup, 1) := dk_89 (dk_at dksX8_laysCore_3 14 rfl rfl)
theorem dX8_laysCore_84 : decode cX8_laysCore 84 = .ok (.getfield 253, 3) := dk_180 0 253 (dk_at dksX8_laysCore_3 15 rfl rfl)
theorem dX8_laysCore_87 : decode cX8_laysCore 87 = .ok (.aload_n 0, 1) := dk_42 (dk_at dksX8_laysCore_3 18 rfl rfl)
theorem dX8_laysCore_88 : decode cX8_laysCore 88 = .ok (.aload_n 0, 1) := dk_42 (dk_at dksX8_laysCore_3 19 rfl rfl)
theorem dX8_laysCore_89 : decode cX8_laysCore 89 = .ok (.getfield 133, 3) := dk_180 0 133 (dk_at dksX8_laysCore_3 20 rfl rfl)
theorem dX8_laysCore_92 : decode cX8_laysCore 92 = .ok (.iload_n 3, 1) := dk_29 (dk_at dksX8_laysCore_3 23 rfl rfl)
theorem dX8_laysCore_93 : decode cX8_laysCore 93 = .ok (.iaload, 1) := dk_46 (dk_at dksX8_laysCore_4 0 rfl rfl)
theorem dX8_laysCore_94 : decode cX8_laysCore 94 = .ok (.invokevirtual 256, 3) := dk_182 1 0 (dk_at dksX8_laysCore_4 1 rfl rfl)
theorem dX8_laysCore_97 : decode cX8_laysCore 97 = .ok (.ior, 1) := dk_128 (dk_at dksX8_laysCore_4 4 rfl rfl)
theorem dX8_laysCore_98 : decode cX8_laysCore 98 = .ok (.putfield 253, 3) := dk_181 0 253 (dk_at dksX8_laysCore_4 5 rfl rfl)
theorem dX8_laysCore_101 : decode cX8_laysCore 101 = .ok (.goto 51, 3) := dk_167 0 51 (dk_at dksX8_laysCore_4 8 rfl rfl)
theorem dX8_laysCore_104 : decode cX8_laysCore 104 = .ok (.aload_n 0, 1) := dk_42 (dk_at dksX8_laysCore_4 11 rfl rfl)
theorem dX8_laysCore_105 : decode cX8_laysCore 105 = .ok (.getfield 160, 3) := dk_180 0 160 (dk_at dksX8_laysCore_4 12 rfl rfl)
theorem dX8_laysCore_108 : decode cX8_laysCore 108 = .ok (.iload 4, 2) := dk_21 4 (dk_at dksX8_laysCore_4 15 rfl rfl)
theorem dX8_laysCore_110 : decode cX8_laysCore 110 = .ok (.aaload, 1) := dk_50 (dk_at dksX8_laysCore_4 17 rfl rfl)
theorem dX8_laysCore_111 : decode cX8_laysCore 111 = .ok (.getfield 78, 3) := dk_180 0 78 (dk_at dksX8_laysCore_4 18 rfl rfl)
theorem dX8_laysCore_114 : decode cX8_laysCore 114 = .ok (.astore 5, 2) := dk_58 5 (dk_at dksX8_laysCore_4 21 rfl rfl)
theorem dX8_laysCore_116 : decode cX8_laysCore 116 = .ok (.aload 5, 2) := dk_25 5 (dk_at dksX8_laysCore_5 0 rfl rfl)
theorem dX8_laysCore_118 : decode cX8_laysCore 118 = .ok (.arraylength, 1) := dk_190 (dk_at dksX8_laysCore_5 2 rfl rfl)
theorem dX8_laysCore_119 : decode cX8_laysCore 119 = .ok (.istore 6, 2) := dk_54 6 (dk_at dksX8_laysCore_5 3 rfl rfl)
theorem dX8_laysCore_121 : decode cX8_laysCore 121 = .ok (.iconst 0, 1) := dk_3 (dk_at dksX8_laysCore_5 5 rfl rfl)
theorem dX8_laysCore_122 : decode cX8_laysCore 122 = .ok (.istore 7, 2) := dk_54 7 (dk_at dksX8_laysCore_5 6 rfl rfl)
theorem dX8_laysCore_124 : decode cX8_laysCore 124 = .ok (.iload 7, 2) := dk_21 7 (dk_at dksX8_laysCore_5 8 rfl rfl)
theorem dX8_laysCore_126 : decode cX8_laysCore 126 = .ok (.iload 6, 2) := dk_21 6 (dk_at dksX8_laysCore_5 10 rfl rfl)
theorem dX8_laysCore_128 : decode cX8_laysCore 128 = .ok (.if_icmp .ge 24, 3) := dk_162 0 24 (dk_at dksX8_laysCore_5 12 rfl rfl)
theorem dX8_laysCore_131 : decode cX8_laysCore 131 = .ok (.aload 5, 2) := dk_25 5 (dk_at dksX8_laysCore_5 15 rfl rfl)
theorem dX8_laysCore_133 : decode cX8_laysCore 133 = .ok (.iload 7, 2) := dk_21 7 (dk_at dksX8_laysCore_5 17 rfl rfl)
theorem dX8_laysCore_135 : decode cX8_laysCore 135 = .ok (.iaload, 1) := dk_46 (dk_at dksX8_laysCore_5 19 rfl rfl)
theorem dX8_laysCore_136 : decode cX8_laysCore 136 = .ok (.istore 8, 2) := dk_54 8 (dk_at dksX8_laysCore_5 20 rfl rfl)
theorem dX8_laysCore_138 : decode cX8_laysCore 138 = .ok (.aload_n 2, 1) := dk_44 (dk_at dksX8_laysCore_5 22 rfl rfl)
theorem dX8_laysCore_139 : decode cX8_laysCore 139 = .ok (.iload 8, 2) := dk_21 8 (dk_at dksX8_laysCore_6 0 rfl rfl)
theorem dX8_laysCore_141 : decode cX8_laysCore 141 = .ok (.invokestatic 136, 3) := dk_184 0 136 (dk_at dksX8_laysCore_6 2 rfl rfl)
theorem dX8_laysCore_144 : decode cX8_laysCore 144 = .ok (.iconst 1, 1) := dk_4 (dk_at dksX8_laysCore_6 5 rfl rfl)
theorem dX8_laysCore_145 : decode cX8_laysCore 145 = .ok (.bastore, 1) := dk_84 (dk_at dksX8_laysCore_6 6 rfl rfl)
theorem dX8_laysCore_146 : decode cX8_laysCore 146 = .ok (.iinc 7 1, 3) := dk_132 7 1 (dk_at dksX8_laysCore_6 7 rfl rfl)
theorem dX8_laysCore_149 : decode cX8_laysCore 149 = .ok (.goto (-25), 3) := dk_167 255 231 (dk_at dksX8_laysCore_6 10 rfl rfl)
theorem dX8_laysCore_152 : decode cX8_laysCore 152 = .ok (.iinc 3 (-1), 3) := dk_132 3 255 (dk_at dksX8_laysCore_6 13 rfl rfl)
theorem dX8_laysCore_155 : decode cX8_laysCore 155 = .ok (.goto (-118), 3) := dk_167 255 138 (dk_at dksX8_laysCore_6 16 rfl rfl)
theorem dX8_laysCore_158 : decode cX8_laysCore 158 = .ok (.return_, 1) := dk_177 (dk_at dksX8_laysCore_6 19 rfl rfl)
abbrev cX8_bitOf : ByteArray := prog_7_method_19_code
def yX8_bitOf : MethodName := ⟨RX8, "bitOf", "(I)I"⟩
def dkwX8_bitOf_1 : List UInt8 := [180, 0, 250, 28, 46, 27, 160, 0, 7, 4, 28, 120, 172, 132, 2, 1, 167, 255, 219, 3, 172]
abbrev dktX8_bitOf_1 : List UInt8 := dkwX8_bitOf_1 ++ []
def dkwX8_bitOf_0 : List UInt8 := [3, 61, 28, 42, 180, 0, 3, 180, 0, 38, 180, 0, 247, 162, 0, 29, 42, 180, 0, 3, 180, 0, 38]
abbrev dktX8_bitOf_0 : List UInt8 := dkwX8_bitOf_0 ++ dktX8_bitOf_1
theorem dksX8_bitOf_0 : cX8_bitOf.data.toList.drop 0 = dktX8_bitOf_0 := by decide +kernel
theorem dksX8_bitOf_1 : cX8_bitOf.data.toList.drop 23 = dktX8_bitOf_1 := dk_seg dksX8_bitOf_0 23 rfl rfl
theorem dX8_bitOf_0 : decode cX8_bitOf 0 = .ok (.iconst 0, 1) := dk_3 (dk_at dksX8_bitOf_0 0 rfl rfl)
theorem dX8_bitOf_1 : decode cX8_bitOf 1 = .ok (.istore_n 2, 1) := dk_61 (dk_at dksX8_bitOf_0 1 rfl rfl)
theorem dX8_bitOf_2 : decode cX8_bitOf 2 = .ok (.iload_n 2, 1) := dk_28 (dk_at dksX8_bitOf_0 2 rfl rfl)
theorem dX8_bitOf_3 : decode cX8_bitOf 3 = .ok (.aload_n 0, 1) := dk_42 (dk_at dksX8_bitOf_0 3 rfl rfl)
theorem dX8_bitOf_4 : decode cX8_bitOf 4 = .ok (.getfield 3, 3) := dk_180 0 3 (dk_at dksX8_bitOf_0 4 rfl rfl)
theorem dX8_bitOf_7 : decode cX8_bitOf 7 = .ok (.getfield 38, 3) := dk_180 0 38 (dk_at dksX8_bitOf_0 7 rfl rfl)
theorem dX8_bitOf_10 : decode cX8_bitOf 10 = .ok (.getfield 247, 3) := dk_180 0 247 (dk_at dksX8_bitOf_0 10 rfl rfl)
theorem dX8_bitOf_13 : decode cX8_bitOf 13 = .ok (.if_icmp .ge 29, 3) := dk_162 0 29 (dk_at dksX8_bitOf_0 13 rfl rfl)
theorem dX8_bitOf_16 : decode cX8_bitOf 16 = .ok (.aload_n 0, 1) := dk_42 (dk_at dksX8_bitOf_0 16 rfl rfl)
theorem dX8_bitOf_17 : decode cX8_bitOf 17 = .ok (.getfield 3, 3) := dk_180 0 3 (dk_at dksX8_bitOf_0 17 rfl rfl)
theorem dX8_bitOf_20 : decode cX8_bitOf 20 = .ok (.getfield 38, 3) := dk_180 0 38 (dk_at dksX8_bitOf_0 20 rfl rfl)
theorem dX8_bitOf_23 : decode cX8_bitOf 23 = .ok (.getfield 250, 3) := dk_180 0 250 (dk_at dksX8_bitOf_1 0 rfl rfl)
theorem dX8_bitOf_26 : decode cX8_bitOf 26 = .ok (.iload_n 2, 1) := dk_28 (dk_at dksX8_bitOf_1 3 rfl rfl)
theorem dX8_bitOf_27 : decode cX8_bitOf 27 = .ok (.iaload, 1) := dk_46 (dk_at dksX8_bitOf_1 4 rfl rfl)
theorem dX8_bitOf_28 : decode cX8_bitOf 28 = .ok (.iload_n 1, 1) := dk_27 (dk_at dksX8_bitOf_1 5 rfl rfl)
theorem dX8_bitOf_29 : decode cX8_bitOf 29 = .ok (.if_icmp .ne 7, 3) := dk_160 0 7 (dk_at dksX8_bitOf_1 6 rfl rfl)
theorem dX8_bitOf_32 : decode cX8_bitOf 32 = .ok (.iconst 1, 1) := dk_4 (dk_at dksX8_bitOf_1 9 rfl rfl)
theorem dX8_bitOf_33 : decode cX8_bitOf 33 = .ok (.iload_n 2, 1) := dk_28 (dk_at dksX8_bitOf_1 10 rfl rfl)
theorem dX8_bitOf_34 : decode cX8_bitOf 34 = .ok (.ishl, 1) := dk_120 (dk_at dksX8_bitOf_1 11 rfl rfl)
theorem dX8_bitOf_35 : decode cX8_bitOf 35 = .ok (.ireturn, 1) := dk_172 (dk_at dksX8_bitOf_1 12 rfl rfl)
theorem dX8_bitOf_36 : decode cX8_bitOf 36 = .ok (.iinc 2 1, 3) := dk_132 2 1 (dk_at dksX8_bitOf_1 13 rfl rfl)
theorem dX8_bitOf_39 : decode cX8_bitOf 39 = .ok (.goto (-37), 3) := dk_167 255 219 (dk_at dksX8_bitOf_1 16 rfl rfl)
theorem dX8_bitOf_42 : decode cX8_bitOf 42 = .ok (.iconst 0, 1) := dk_3 (dk_at dksX8_bitOf_1 19 rfl rfl)
theorem dX8_bitOf_43 : decode cX8_bitOf 43 = .ok (.ireturn, 1) := dk_172 (dk_at dksX8_bitOf_1 20 rfl rfl)
abbrev cX8_decides : ByteArray := prog_7_method_21_code
def yX8_decides : MethodName := ⟨RX8, "decides", "(I)V"⟩
def dkwX8_decides_0 : List UInt8 := [42, 89, 180, 0, 145, 4, 96, 181, 0, 145, 42, 27, 1, 182, 0, 213, 177]
abbrev dktX8_decides_0 : List UInt8 := dkwX8_decides_0 ++ []
theorem dksX8_decides_0 : cX8_decides.data.toList.drop 0 = dktX8_decides_0 := by decide +kernel
theorem dX8_decides_0 : decode cX8_decides 0 = .ok (.aload_n 0, 1) := dk_42 (dk_at dksX8_decides_0 0 rfl rfl)
theorem dX8_decides_1 : decode cX8_decides 1 = .ok (.dup, 1) := dk_89 (dk_at dksX8_decides_0 1 rfl rfl)
theorem dX8_decides_2 : decode cX8_decides 2 = .ok (.getfield 145, 3) := dk_180 0 145 (dk_at dksX8_decides_0 2 rfl rfl)
theorem dX8_decides_5 : decode cX8_decides 5 = .ok (.iconst 1, 1) := dk_4 (dk_at dksX8_decides_0 5 rfl rfl)
theorem dX8_decides_6 : decode cX8_decides 6 = .ok (.iadd, 1) := dk_96 (dk_at dksX8_decides_0 6 rfl rfl)
theorem dX8_decides_7 : decode cX8_decides 7 = .ok (.putfield 145, 3) := dk_181 0 145 (dk_at dksX8_decides_0 7 rfl rfl)
theorem dX8_decides_10 : decode cX8_decides 10 = .ok (.aload_n 0, 1) := dk_42 (dk_at dksX8_decides_0 10 rfl rfl)
theorem dX8_decides_11 : decode cX8_decides 11 = .ok (.iload_n 1, 1) := dk_27 (dk_at dksX8_decides_0 11 rfl rfl)
theorem dX8_decides_12 : decode cX8_decides 12 = .ok (.aconst_null, 1) := dk_1 (dk_at dksX8_decides_0 12 rfl rfl)
theorem dX8_decides_13 : decode cX8_decides 13 = .ok (.invokevirtual 213, 3) := dk_182 0 213 (dk_at dksX8_decides_0 13 rfl rfl)
theorem dX8_decides_16 : decode cX8_decides 16 = .ok (.return_, 1) := dk_177 (dk_at dksX8_decides_0 16 rfl rfl)
abbrev cX8_variableNext : ByteArray := prog_7_method_18_code
def yX8_variableNext : MethodName := ⟨RX8, "variableNext", "()I"⟩
def dkwX8_variableNext_2 : List UInt8 := [180, 0, 38, 180, 0, 186, 27, 46, 164, 0, 5, 28, 60, 132, 2, 1, 167, 255, 197, 27, 172]
abbrev dktX8_variableNext_2 : List UInt8 := dkwX8_variableNext_2 ++ []
def dkwX8_variableNext_1 : List UInt8 := [154, 0, 36, 27, 153, 0, 30, 42, 180, 0, 3, 180, 0, 38, 180, 0, 186, 28, 46, 42, 180, 0, 3]
abbrev dktX8_variableNext_1 : List UInt8 := dkwX8_variableNext_1 ++ dktX8_variableNext_2
def dkwX8_variableNext_0 : List UInt8 := [3, 60, 4, 61, 28, 42, 180, 0, 3, 180, 0, 38, 180, 0, 172, 163, 0, 51, 42, 180, 0, 164, 28, 51]
abbrev dktX8_variableNext_0 : List UInt8 := dkwX8_variableNext_0 ++ dktX8_variableNext_1
theorem dksX8_variableNext_0 : cX8_variableNext.data.toList.drop 0 = dktX8_variableNext_0 := by decide +kernel
theorem dksX8_variableNext_1 : cX8_variableNext.data.toList.drop 24 = dktX8_variableNext_1 := dk_seg dksX8_variableNext_0 24 rfl rfl
theorem dksX8_variableNext_2 : cX8_variableNext.data.toList.drop 47 = dktX8_variableNext_2 := dk_seg dksX8_variableNext_1 23 rfl rfl
theorem dX8_variableNext_0 : decode cX8_variableNext 0 = .ok (.iconst 0, 1) := dk_3 (dk_at dksX8_variableNext_0 0 rfl rfl)
theorem dX8_variableNext_1 : decode cX8_variableNext 1 = .ok (.istore_n 1, 1) := dk_60 (dk_at dksX8_variableNext_0 1 rfl rfl)
theorem dX8_variableNext_2 : decode cX8_variableNext 2 = .ok (.iconst 1, 1) := dk_4 (dk_at dksX8_variableNext_0 2 rfl rfl)
theorem dX8_variableNext_3 : decode cX8_variableNext 3 = .ok (.istore_n 2, 1) := dk_61 (dk_at dksX8_variableNext_0 3 rfl rfl)
theorem dX8_variableNext_4 : decode cX8_variableNext 4 = .ok (.iload_n 2, 1) := dk_28 (dk_at dksX8_variableNext_0 4 rfl rfl)
theorem dX8_variableNext_5 : decode cX8_variableNext 5 = .ok (.aload_n 0, 1) := dk_42 (dk_at dksX8_variableNext_0 5 rfl rfl)
theorem dX8_variableNext_6 : decode cX8_variableNext 6 = .ok (.getfield 3, 3) := dk_180 0 3 (dk_at dksX8_variableNext_0 6 rfl rfl)
theorem dX8_variableNext_9 : decode cX8_variableNext 9 = .ok (.getfield 38, 3) := dk_180 0 38 (dk_at dksX8_variableNext_0 9 rfl rfl)
theorem dX8_variableNext_12 : decode cX8_variableNext 12 = .ok (.getfield 172, 3) := dk_180 0 172 (dk_at dksX8_variableNext_0 12 rfl rfl)
theorem dX8_variableNext_15 : decode cX8_variableNext 15 = .ok (.if_icmp .gt 51, 3) := dk_163 0 51 (dk_at dksX8_variableNext_0 15 rfl rfl)
theorem dX8_variableNext_18 : decode cX8_variableNext 18 = .ok (.aload_n 0, 1) := dk_42 (dk_at dksX8_variableNext_0 18 rfl rfl)
theorem dX8_variableNext_19 : decode cX8_variableNext 19 = .ok (.getfield 164, 3) := dk_180 0 164 (dk_at dksX8_variableNext_0 19 rfl rfl)
theorem dX8_variableNext_22 : decode cX8_variableNext 22 = .ok (.iload_n 2, 1) := dk_28 (dk_at dksX8_variableNext_0 22 rfl rfl)
theorem dX8_variableNext_23 : decode cX8_variableNext 23 = .ok (.baload, 1) := dk_51 (dk_at dksX8_variableNext_0 23 rfl rfl)
theorem dX8_variableNext_24 : decode cX8_variableNext 24 = .ok (.ifCond .ne 36, 3) := dk_154 0 36 (dk_at dksX8_variableNext_1 0 rfl rfl)
theorem dX8_variableNext_27 : decode cX8_variableNext 27 = .ok (.iload_n 1, 1) := dk_27 (dk_at dksX8_variableNext_1 3 rfl rfl)
theorem dX8_variableNext_28 : decode cX8_variableNext 28 = .ok (.ifCond .eq 30, 3) := dk_153 0 30 (dk_at dksX8_variableNext_1 4 rfl rfl)
theorem dX8_variableNext_31 : decode cX8_variableNext 31 = .ok (.aload_n 0, 1) := dk_42 (dk_at dksX8_variableNext_1 7 rfl rfl)
theorem dX8_variableNext_32 : decode cX8_variableNext 32 = .ok (.getfield 3, 3) := dk_180 0 3 (dk_at dksX8_variableNext_1 8 rfl rfl)
theorem dX8_variableNext_35 : decode cX8_variableNext 35 = .ok (.getfield 38, 3) := dk_180 0 38 (dk_at dksX8_variableNext_1 11 rfl rfl)
theorem dX8_variableNext_38 : decode cX8_variableNext 38 = .ok (.getfield 186, 3) := dk_180 0 186 (dk_at dksX8_variableNext_1 14 rfl rfl)
theorem dX8_variableNext_41 : decode cX8_variableNext 41 = .ok (.iload_n 2, 1) := dk_28 (dk_at dksX8_variableNext_1 17 rfl rfl)
theorem dX8_variableNext_42 : decode cX8_variableNext 42 = .ok (.iaload, 1) := dk_46 (dk_at dksX8_variableNext_1 18 rfl rfl)
theorem dX8_variableNext_43 : decode cX8_variableNext 43 = .ok (.aload_n 0, 1) := dk_42 (dk_at dksX8_variableNext_1 19 rfl rfl)
theorem dX8_variableNext_44 : decode cX8_variableNext 44 = .ok (.getfield 3, 3) := dk_180 0 3 (dk_at dksX8_variableNext_1 20 rfl rfl)
theorem dX8_variableNext_47 : decode cX8_variableNext 47 = .ok (.getfield 38, 3) := dk_180 0 38 (dk_at dksX8_variableNext_2 0 rfl rfl)
theorem dX8_variableNext_50 : decode cX8_variableNext 50 = .ok (.getfield 186, 3) := dk_180 0 186 (dk_at dksX8_variableNext_2 3 rfl rfl)
theorem dX8_variableNext_53 : decode cX8_variableNext 53 = .ok (.iload_n 1, 1) := dk_27 (dk_at dksX8_variableNext_2 6 rfl rfl)
theorem dX8_variableNext_54 : decode cX8_variableNext 54 = .ok (.iaload, 1) := dk_46 (dk_at dksX8_variableNext_2 7 rfl rfl)
theorem dX8_variableNext_55 : decode cX8_variableNext 55 = .ok (.if_icmp .le 5, 3) := dk_164 0 5 (dk_at dksX8_variableNext_2 8 rfl rfl)
theorem dX8_variableNext_58 : decode cX8_variableNext 58 = .ok (.iload_n 2, 1) := dk_28 (dk_at dksX8_variableNext_2 11 rfl rfl)
theorem dX8_variableNext_59 : decode cX8_variableNext 59 = .ok (.istore_n 1, 1) := dk_60 (dk_at dksX8_variableNext_2 12 rfl rfl)
theorem dX8_variableNext_60 : decode cX8_variableNext 60 = .ok (.iinc 2 1, 3) := dk_132 2 1 (dk_at dksX8_variableNext_2 13 rfl rfl)
theorem dX8_variableNext_63 : decode cX8_variableNext 63 = .ok (.goto (-59), 3) := dk_167 255 197 (dk_at dksX8_variableNext_2 16 rfl rfl)
theorem dX8_variableNext_66 : decode cX8_variableNext 66 = .ok (.iload_n 1, 1) := dk_27 (dk_at dksX8_variableNext_2 19 rfl rfl)
theorem dX8_variableNext_67 : decode cX8_variableNext 67 = .ok (.ireturn, 1) := dk_172 (dk_at dksX8_variableNext_2 20 rfl rfl)
theorem q130 : (Jvm.Cond.initialized "LearntReasons$Search") ∈ lw_all := lw_g (lw_at lw_m1 26 rfl) rfl
theorem q183 : (Jvm.Cond.fieldLinkNest "LearntReasons$Search" (42 : Nat) "LearntReasons$State" "clauses" "Ljava/util/List;" "LearntReasons") ∈ lw_tbl := lw_at lw_m1 79 rfl
theorem q186 : (Jvm.Cond.fieldLinkNest "LearntReasons$Search" (204 : Nat) "LearntReasons$State" "log" "Ljava/util/List;" "LearntReasons") ∈ lw_tbl := lw_at lw_m1 82 rfl
theorem q190 : (Jvm.Cond.fieldLinkNest "LearntReasons$Search" (250 : Nat) "LearntReasons$State" "assumed" "[I" "LearntReasons") ∈ lw_tbl := lw_at lw_m1 86 rfl
theorem q193 : (Jvm.Cond.fieldLinkNest "LearntReasons$Search" (186 : Nat) "LearntReasons$State" "scores" "[I" "LearntReasons") ∈ lw_tbl := lw_at lw_m1 89 rfl
theorem q196 : (Jvm.Cond.fieldLinkNest "LearntReasons$Search" (214 : Nat) "LearntReasons$State" "counts" "[I" "LearntReasons") ∈ lw_tbl := lw_at lw_m1 92 rfl
theorem q200 : (Jvm.Cond.fieldLinkNest "LearntReasons$Search" (142 : Nat) "LearntReasons$State" "phases" "[Z" "LearntReasons") ∈ lw_tbl := lw_at lw_m1 96 rfl
theorem q205 : (Jvm.Cond.fieldLinkNest "LearntReasons$Search" (172 : Nat) "LearntReasons$State" "variables" "I" "LearntReasons") ∈ lw_tbl := lw_at lw_m1 101 rfl
theorem q212 : (Jvm.Cond.fieldLinkNest "LearntReasons$Search" (247 : Nat) "LearntReasons$State" "assumptions" "I" "LearntReasons") ∈ lw_tbl := lw_at lw_m1 108 rfl
theorem q217 : (Jvm.Cond.fieldLinkNest "LearntReasons$Search" (223 : Nat) "LearntReasons$State" "unit" "I" "LearntReasons") ∈ lw_tbl := lw_at lw_m1 113 rfl
theorem q220 : (Jvm.Cond.fieldLinkNest "LearntReasons$Search" (288 : Nat) "LearntReasons$State" "ended" "I" "LearntReasons") ∈ lw_tbl := lw_at lw_m1 116 rfl
theorem q223 : (Jvm.Cond.fieldLinkNest "LearntReasons$Search" (291 : Nat) "LearntReasons$State" "core" "I" "LearntReasons") ∈ lw_tbl := lw_at lw_m1 119 rfl
theorem q228 : (Jvm.Cond.fieldLinkNest "LearntReasons$Search" (292 : Nat) "LearntReasons$State" "model" "[I" "LearntReasons") ∈ lw_tbl := lw_at lw_m1 124 rfl
theorem q231 : (Jvm.Cond.fieldLinkNest "LearntReasons$Search" (259 : Nat) "LearntReasons$State" "isRefuted" "Z" "LearntReasons") ∈ lw_tbl := lw_at lw_m1 127 rfl
theorem q271 : (Jvm.Cond.fieldLinkNest "LearntReasons$Search" (38 : Nat) "LearntReasons" "state" "LLearntReasons$State;" "LearntReasons") ∈ lw_tbl := lw_at lw_m1 167 rfl
theorem q380 : (Jvm.Cond.fieldLinkNest "LearntReasons$Search" (78 : Nat) "LearntReasons$Clause" "literals" "[I" "LearntReasons") ∈ lw_tbl := lw_at lw_m2 36 rfl
theorem q387 : (Jvm.Cond.fieldLinkNest "LearntReasons$Search" (102 : Nat) "LearntReasons$Clause" "number" "I" "LearntReasons") ∈ lw_tbl := lw_at lw_m2 43 rfl
theorem q389 : (Jvm.Cond.fieldLinkNest "LearntReasons$Search" (66 : Nat) "LearntReasons$Clause" "isGone" "Z" "LearntReasons") ∈ lw_tbl := lw_at lw_m2 45 rfl
theorem q393 : (Jvm.Cond.fieldLinkNest "LearntReasons$Search" (89 : Nat) "LearntReasons$Clause" "one" "I" "LearntReasons") ∈ lw_tbl := lw_at lw_m2 49 rfl
theorem q394 : (Jvm.Cond.fieldLinkNest "LearntReasons$Search" (96 : Nat) "LearntReasons$Clause" "other" "I" "LearntReasons") ∈ lw_tbl := lw_at lw_m2 50 rfl
theorem q455 : (Jvm.Cond.selects "LearntReasons$Search" ({ cls := "java/lang/Object", name := "getClass", desc := "()Ljava/lang/Class;" } : Jvm.MethodName) ({ cls := "java/lang/Object", name := "getClass", desc := "()Ljava/lang/Class;" } : Jvm.MethodName)) ∈ lw_all := lw_g (lw_at lw_m2 111 rfl) rfl
theorem q667 : (Jvm.Cond.instantiable "LearntReasons$Search" (18 : Nat)) ∈ lw_all := lw_g (lw_at lw_m3 83 rfl) rfl
theorem q669 : (Jvm.Cond.instanceMethod ({ cls := "LearntReasons$Search", name := "<init>", desc := "(LLearntReasons;I)V" } : Jvm.MethodName)) ∈ lw_all := lw_g (lw_at lw_m3 85 rfl) rfl
theorem q670 : (Jvm.Cond.code ({ cls := "LearntReasons$Search", name := "<init>", desc := "(LLearntReasons;I)V" } : Jvm.MethodName) prog_7_method_1_code (5 : Nat) (Option.none : Option Jvm.ClassFile.FieldType)) ∈ lw_all := lw_g (lw_at lw_m3 86 rfl) rfl
theorem q671 : (Jvm.Cond.methodLinkNest "LearntReasons$Search" (9 : Nat) ({ cls := "LearntReasons$Trail", name := "<init>", desc := "()V" } : Jvm.MethodName) "LearntReasons") ∈ lw_tbl := lw_at lw_m3 87 rfl
theorem q677 : (Jvm.Cond.classLink "LearntReasons$Search" (15 : Nat) "LearntReasons$Watch") ∈ lw_all := lw_g (lw_at lw_m3 93 rfl) rfl
theorem q679 : (Jvm.Cond.classLink "LearntReasons$Search" (21 : Nat) "java/util/BitSet") ∈ lw_all := lw_g (lw_at lw_m3 95 rfl) rfl
theorem q681 : (Jvm.Cond.methodLink "LearntReasons$Search" (23 : Nat) ({ cls := "java/util/BitSet", name := "<init>", desc := "()V" } : Jvm.MethodName)) ∈ lw_all := lw_g (lw_at lw_m3 97 rfl) rfl
theorem q703 : (Jvm.Cond.interfaceEntry "LearntReasons$Search" (48 : Nat)) ∈ lw_tbl := lw_at lw_m3 119 rfl
theorem q704 : (Jvm.Cond.methodLink "LearntReasons$Search" (48 : Nat) ({ cls := "java/util/List", name := "iterator", desc := "()Ljava/util/Iterator;" } : Jvm.MethodName)) ∈ lw_all := lw_g (lw_at lw_m3 120 rfl) rfl
theorem q705 : (Jvm.Cond.interfaceEntry "LearntReasons$Search" (54 : Nat)) ∈ lw_tbl := lw_at lw_m3 121 rfl
theorem q706 : (Jvm.Cond.methodLink "LearntReasons$Search" (54 : Nat) ({ cls := "java/util/Iterator", name := "hasNext", desc := "()Z" } : Jvm.MethodName)) ∈ lw_all := lw_g (lw_at lw_m3 122 rfl) rfl
theorem q707 : (Jvm.Cond.interfaceEntry "LearntReasons$Search" (60 : Nat)) ∈ lw_tbl := lw_at lw_m3 123 rfl
theorem q708 : (Jvm.Cond.methodLink "LearntReasons$Search" (60 : Nat) ({ cls := "java/util/Iterator", name := "next", desc := "()Ljava/lang/Object;" } : Jvm.MethodName)) ∈ lw_all := lw_g (lw_at lw_m3 124 rfl) rfl
theorem q709 : (Jvm.Cond.classLink "LearntReasons$Search" (64 : Nat) "LearntReasons$Clause") ∈ lw_all := lw_g (lw_at lw_m3 125 rfl) rfl
theorem q710 : (Jvm.Cond.methodLink "LearntReasons$Search" (70 : Nat) ({ cls := "LearntReasons$Search", name := "watched", desc := "(LLearntReasons$Clause;)V" } : Jvm.MethodName)) ∈ lw_all := lw_g (lw_at lw_m3 126 rfl) rfl
theorem q711 : (Jvm.Cond.privateMethod ({ cls := "LearntReasons$Search", name := "watched", desc := "(LLearntReasons$Clause;)V" } : Jvm.MethodName)) ∈ lw_tbl := lw_at lw_m3 127 rfl
theorem q712 : (Jvm.Cond.instanceMethod ({ cls := "LearntReasons$Search", name := "watched", desc := "(LLearntReasons$Clause;)V" } : Jvm.MethodName)) ∈ lw_all := lw_g (lw_at lw_m3 128 rfl) rfl
theorem q713 : (Jvm.Cond.code ({ cls := "LearntReasons$Search", name := "watched", desc := "(LLearntReasons$Clause;)V" } : Jvm.MethodName) prog_7_method_3_code (2 : Nat) (Option.none : Option Jvm.ClassFile.FieldType)) ∈ lw_all := lw_g (lw_at lw_m3 129 rfl) rfl
theorem q714 : (Jvm.Cond.methodLink "LearntReasons$Search" (92 : Nat) ({ cls := "LearntReasons$Clause", name := "size", desc := "()I" } : Jvm.MethodName)) ∈ lw_all := lw_g (lw_at lw_m3 130 rfl) rfl
theorem q715 : (Jvm.Cond.methodLink "LearntReasons$Search" (99 : Nat) ({ cls := "LearntReasons$Search", name := "watches", desc := "(LLearntReasons$Clause;I)V" } : Jvm.MethodName)) ∈ lw_all := lw_g (lw_at lw_m3 131 rfl) rfl
theorem q716 : (Jvm.Cond.privateMethod ({ cls := "LearntReasons$Search", name := "watches", desc := "(LLearntReasons$Clause;I)V" } : Jvm.MethodName)) ∈ lw_tbl := lw_at lw_m3 132 rfl
theorem q717 : (Jvm.Cond.instanceMethod ({ cls := "LearntReasons$Search", name := "watches", desc := "(LLearntReasons$Clause;I)V" } : Jvm.MethodName)) ∈ lw_all := lw_g (lw_at lw_m3 133 rfl) rfl
theorem q718 : (Jvm.Cond.code ({ cls := "LearntReasons$Search", name := "watches", desc := "(LLearntReasons$Clause;I)V" } : Jvm.MethodName) prog_7_method_2_code (4 : Nat) (Option.none : Option Jvm.ClassFile.FieldType)) ∈ lw_all := lw_g (lw_at lw_m3 134 rfl) rfl
theorem q719 : (Jvm.Cond.methodLinkNest "LearntReasons$Search" (82 : Nat) ({ cls := "LearntReasons", name := "at", desc := "(I)I" } : Jvm.MethodName) "LearntReasons") ∈ lw_tbl := lw_at lw_m3 135 rfl
theorem q723 : (Jvm.Cond.methodLink "LearntReasons$Search" (86 : Nat) ({ cls := "LearntReasons$Watch", name := "<init>", desc := "(LLearntReasons$Clause;LLearntReasons$Watch;)V" } : Jvm.MethodName)) ∈ lw_all := lw_g (lw_at lw_m3 139 rfl) rfl
theorem q728 : (Jvm.Cond.fieldLinkNest "LearntReasons$Search" (116 : Nat) "LearntReasons$Watch" "clause" "LLearntReasons$Clause;" "LearntReasons") ∈ lw_tbl := lw_at lw_m3 144 rfl
theorem q730 : (Jvm.Cond.fieldLinkNest "LearntReasons$Search" (113 : Nat) "LearntReasons$Watch" "next" "LLearntReasons$Watch;" "LearntReasons") ∈ lw_tbl := lw_at lw_m3 146 rfl
theorem q736 : (Jvm.Cond.methodLink "LearntReasons$Search" (105 : Nat) ({ cls := "java/util/BitSet", name := "set", desc := "(I)V" } : Jvm.MethodName)) ∈ lw_all := lw_g (lw_at lw_m3 152 rfl) rfl
theorem q763 : (Jvm.Cond.fieldLink "LearntReasons$Search" (17 : Nat) "LearntReasons$Search" "watches" "[LLearntReasons$Watch;") ∈ lw_all := lw_g (lw_at lw_m3 179 rfl) rfl
theorem q764 : (Jvm.Cond.fieldLink "LearntReasons$Search" (24 : Nat) "LearntReasons$Search" "units" "Ljava/util/BitSet;") ∈ lw_all := lw_g (lw_at lw_m3 180 rfl) rfl
theorem q765 : (Jvm.Cond.fieldLink "LearntReasons$Search" (28 : Nat) "LearntReasons$Search" "falses" "Ljava/util/BitSet;") ∈ lw_all := lw_g (lw_at lw_m3 181 rfl) rfl
theorem q766 : (Jvm.Cond.fieldLink "LearntReasons$Search" (31 : Nat) "LearntReasons$Search" "seen" "[Z") ∈ lw_all := lw_g (lw_at lw_m3 182 rfl) rfl
theorem q767 : (Jvm.Cond.fieldLink "LearntReasons$Search" (35 : Nat) "LearntReasons$Search" "left" "[Z") ∈ lw_all := lw_g (lw_at lw_m3 183 rfl) rfl
theorem q768 : (Jvm.Cond.fieldLink "LearntReasons$Search" (74 : Nat) "LearntReasons$Search" "budget" "I") ∈ lw_all := lw_g (lw_at lw_m3 184 rfl) rfl
theorem q769 : (Jvm.Cond.fieldLink "LearntReasons$Search" (217 : Nat) "LearntReasons$Search" "conflicts" "I") ∈ lw_all := lw_g (lw_at lw_m3 185 rfl) rfl
theorem q770 : (Jvm.Cond.fieldLink "LearntReasons$Search" (220 : Nat) "LearntReasons$Search" "since" "I") ∈ lw_all := lw_g (lw_at lw_m3 186 rfl) rfl
theorem q771 : (Jvm.Cond.fieldLink "LearntReasons$Search" (226 : Nat) "LearntReasons$Search" "anew" "I") ∈ lw_all := lw_g (lw_at lw_m3 187 rfl) rfl
theorem q772 : (Jvm.Cond.fieldLink "LearntReasons$Search" (253 : Nat) "LearntReasons$Search" "core" "I") ∈ lw_all := lw_g (lw_at lw_m3 188 rfl) rfl
theorem q773 : (Jvm.Cond.fieldLink "LearntReasons$Search" (3 : Nat) "LearntReasons$Search" "this$0" "LLearntReasons;") ∈ lw_all := lw_g (lw_at lw_m3 189 rfl) rfl
theorem q775 : (Jvm.Cond.fieldLink "LearntReasons$Search" (133 : Nat) "LearntReasons$Search" "trail" "[I") ∈ lw_all := lw_g (lw_at lw_m3 191 rfl) rfl
theorem q776 : (Jvm.Cond.sameField "LearntReasons$Search" "LearntReasons$Trail" "trail" "[I") ∈ lw_all := lw_g (lw_at lw_m3 192 rfl) rfl
theorem q779 : (Jvm.Cond.fieldLink "LearntReasons$Search" (130 : Nat) "LearntReasons$Search" "levels" "[I") ∈ lw_all := lw_g (lw_at lw_m3 195 rfl) rfl
theorem q780 : (Jvm.Cond.sameField "LearntReasons$Search" "LearntReasons$Trail" "levels" "[I") ∈ lw_all := lw_g (lw_at lw_m3 196 rfl) rfl
theorem q783 : (Jvm.Cond.fieldLink "LearntReasons$Search" (164 : Nat) "LearntReasons$Search" "values" "[B") ∈ lw_all := lw_g (lw_at lw_m3 199 rfl) rfl
theorem q784 : (Jvm.Cond.sameField "LearntReasons$Search" "LearntReasons$Trail" "values" "[B") ∈ lw_all := lw_g (lw_at lw_m3 200 rfl) rfl
theorem q786 : (Jvm.Cond.fieldLink "LearntReasons$Search" (160 : Nat) "LearntReasons$Search" "reasons" "[LLearntReasons$Clause;") ∈ lw_all := lw_g (lw_at lw_m3 202 rfl) rfl
theorem q787 : (Jvm.Cond.sameField "LearntReasons$Search" "LearntReasons$Trail" "reasons" "[LLearntReasons$Clause;") ∈ lw_all := lw_g (lw_at lw_m3 203 rfl) rfl
theorem q789 : (Jvm.Cond.fieldLink "LearntReasons$Search" (127 : Nat) "LearntReasons$Search" "many" "I") ∈ lw_all := lw_g (lw_at lw_m3 205 rfl) rfl
theorem q790 : (Jvm.Cond.sameField "LearntReasons$Search" "LearntReasons$Trail" "many" "I") ∈ lw_all := lw_g (lw_at lw_m3 206 rfl) rfl
theorem q793 : (Jvm.Cond.fieldLink "LearntReasons$Search" (145 : Nat) "LearntReasons$Search" "level" "I") ∈ lw_all := lw_g (lw_at lw_m3 209 rfl) rfl
theorem q794 : (Jvm.Cond.sameField "LearntReasons$Search" "LearntReasons$Trail" "level" "I") ∈ lw_all := lw_g (lw_at lw_m3 210 rfl) rfl
theorem q795 : (Jvm.Cond.laysFinal "LearntReasons$Search" "LearntReasons$Search" "watches" "[LLearntReasons$Watch;") ∈ lw_all := lw_g (lw_at lw_m3 211 rfl) rfl
theorem q796 : (Jvm.Cond.soleField "LearntReasons$Search" "watches") ∈ lw_all := lw_g (lw_at lw_m3 212 rfl) rfl
theorem q797 : (Jvm.Cond.laysFinal "LearntReasons$Search" "LearntReasons$Search" "units" "Ljava/util/BitSet;") ∈ lw_all := lw_g (lw_at lw_m3 213 rfl) rfl
theorem q798 : (Jvm.Cond.soleField "LearntReasons$Search" "units") ∈ lw_all := lw_g (lw_at lw_m3 214 rfl) rfl
theorem q799 : (Jvm.Cond.laysFinal "LearntReasons$Search" "LearntReasons$Search" "falses" "Ljava/util/BitSet;") ∈ lw_all := lw_g (lw_at lw_m3 215 rfl) rfl
theorem q800 : (Jvm.Cond.soleField "LearntReasons$Search" "falses") ∈ lw_all := lw_g (lw_at lw_m3 216 rfl) rfl
theorem q801 : (Jvm.Cond.laysFinal "LearntReasons$Search" "LearntReasons$Search" "seen" "[Z") ∈ lw_all := lw_g (lw_at lw_m3 217 rfl) rfl
theorem q802 : (Jvm.Cond.soleField "LearntReasons$Search" "seen") ∈ lw_all := lw_g (lw_at lw_m3 218 rfl) rfl
theorem q803 : (Jvm.Cond.laysFinal "LearntReasons$Search" "LearntReasons$Search" "left" "[Z") ∈ lw_all := lw_g (lw_at lw_m3 219 rfl) rfl
theorem q804 : (Jvm.Cond.soleField "LearntReasons$Search" "left") ∈ lw_all := lw_g (lw_at lw_m3 220 rfl) rfl
theorem q805 : (Jvm.Cond.laysFinal "LearntReasons$Search" "LearntReasons$Search" "budget" "I") ∈ lw_all := lw_g (lw_at lw_m3 221 rfl) rfl
theorem q806 : (Jvm.Cond.soleField "LearntReasons$Search" "budget") ∈ lw_all := lw_g (lw_at lw_m3 222 rfl) rfl
theorem q807 : (Jvm.Cond.lays "LearntReasons$Search" "LearntReasons$Search" "conflicts" "I") ∈ lw_all := lw_g (lw_at lw_m3 223 rfl) rfl
theorem q808 : (Jvm.Cond.soleField "LearntReasons$Search" "conflicts") ∈ lw_all := lw_g (lw_at lw_m3 224 rfl) rfl
theorem q809 : (Jvm.Cond.lays "LearntReasons$Search" "LearntReasons$Search" "since" "I") ∈ lw_all := lw_g (lw_at lw_m3 225 rfl) rfl
theorem q810 : (Jvm.Cond.soleField "LearntReasons$Search" "since") ∈ lw_all := lw_g (lw_at lw_m3 226 rfl) rfl
theorem q811 : (Jvm.Cond.lays "LearntReasons$Search" "LearntReasons$Search" "anew" "I") ∈ lw_all := lw_g (lw_at lw_m3 227 rfl) rfl
theorem q812 : (Jvm.Cond.soleField "LearntReasons$Search" "anew") ∈ lw_all := lw_g (lw_at lw_m3 228 rfl) rfl
theorem q813 : (Jvm.Cond.lays "LearntReasons$Search" "LearntReasons$Search" "core" "I") ∈ lw_all := lw_g (lw_at lw_m3 229 rfl) rfl
theorem q814 : (Jvm.Cond.soleField "LearntReasons$Search" "core") ∈ lw_all := lw_g (lw_at lw_m3 230 rfl) rfl
theorem q815 : (Jvm.Cond.laysFinal "LearntReasons$Search" "LearntReasons$Search" "this$0" "LLearntReasons;") ∈ lw_all := lw_g (lw_at lw_m3 231 rfl) rfl
theorem q816 : (Jvm.Cond.soleField "LearntReasons$Search" "this$0") ∈ lw_all := lw_g (lw_at lw_m3 232 rfl) rfl
theorem q817 : (Jvm.Cond.laysFinal "LearntReasons$Search" "LearntReasons$Trail" "trail" "[I") ∈ lw_all := lw_g (lw_at lw_m3 233 rfl) rfl
theorem q819 : (Jvm.Cond.laysFinal "LearntReasons$Search" "LearntReasons$Trail" "levels" "[I") ∈ lw_all := lw_g (lw_at lw_m3 235 rfl) rfl
theorem q821 : (Jvm.Cond.laysFinal "LearntReasons$Search" "LearntReasons$Trail" "places" "[I") ∈ lw_all := lw_g (lw_at lw_m3 237 rfl) rfl
theorem q823 : (Jvm.Cond.laysFinal "LearntReasons$Search" "LearntReasons$Trail" "values" "[B") ∈ lw_all := lw_g (lw_at lw_m3 239 rfl) rfl
theorem q825 : (Jvm.Cond.laysFinal "LearntReasons$Search" "LearntReasons$Trail" "reasons" "[LLearntReasons$Clause;") ∈ lw_all := lw_g (lw_at lw_m4 1 rfl) rfl
theorem q827 : (Jvm.Cond.lays "LearntReasons$Search" "LearntReasons$Trail" "many" "I") ∈ lw_all := lw_g (lw_at lw_m4 3 rfl) rfl
theorem q829 : (Jvm.Cond.lays "LearntReasons$Search" "LearntReasons$Trail" "level" "I") ∈ lw_all := lw_g (lw_at lw_m4 5 rfl) rfl
theorem q831 : (Jvm.Cond.superclass "LearntReasons$Search" "LearntReasons$Trail") ∈ lw_all := lw_g (lw_at lw_m4 7 rfl) rfl
theorem q833 : (Jvm.Cond.instanceMethod ({ cls := "LearntReasons$Search", name := "goes", desc := "()I" } : Jvm.MethodName)) ∈ lw_all := lw_g (lw_at lw_m4 9 rfl) rfl
theorem q834 : (Jvm.Cond.selects "LearntReasons$Search" ({ cls := "LearntReasons$Search", name := "goes", desc := "()I" } : Jvm.MethodName) ({ cls := "LearntReasons$Search", name := "goes", desc := "()I" } : Jvm.MethodName)) ∈ lw_all := lw_g (lw_at lw_m4 10 rfl) rfl
theorem q835 : (Jvm.Cond.code ({ cls := "LearntReasons$Search", name := "goes", desc := "()I" } : Jvm.MethodName) prog_7_method_24_code (3 : Nat) (Option.some Jvm.ClassFile.FieldType.int)) ∈ lw_all := lw_g (lw_at lw_m4 11 rfl) rfl
theorem q836 : (Jvm.Cond.methodLink "LearntReasons$Search" (285 : Nat) ({ cls := "LearntReasons$Search", name := "steps", desc := "()I" } : Jvm.MethodName)) ∈ lw_all := lw_g (lw_at lw_m4 12 rfl) rfl
theorem q837 : (Jvm.Cond.privateMethod ({ cls := "LearntReasons$Search", name := "steps", desc := "()I" } : Jvm.MethodName)) ∈ lw_tbl := lw_at lw_m4 13 rfl
theorem q838 : (Jvm.Cond.instanceMethod ({ cls := "LearntReasons$Search", name := "steps", desc := "()I" } : Jvm.MethodName)) ∈ lw_all := lw_g (lw_at lw_m4 14 rfl) rfl
theorem q839 : (Jvm.Cond.code ({ cls := "LearntReasons$Search", name := "steps", desc := "()I" } : Jvm.MethodName) prog_7_method_23_code (5 : Nat) (Option.some Jvm.ClassFile.FieldType.int)) ∈ lw_all := lw_g (lw_at lw_m4 15 rfl) rfl
theorem q840 : (Jvm.Cond.methodLink "LearntReasons$Search" (237 : Nat) ({ cls := "java/util/BitSet", name := "nextSetBit", desc := "(I)I" } : Jvm.MethodName)) ∈ lw_all := lw_g (lw_at lw_m4 16 rfl) rfl
theorem q852 : (Jvm.Cond.methodLink "LearntReasons$Search" (262 : Nat) ({ cls := "LearntReasons$Search", name := "refuted", desc := "()I" } : Jvm.MethodName)) ∈ lw_all := lw_g (lw_at lw_m4 28 rfl) rfl
theorem q853 : (Jvm.Cond.privateMethod ({ cls := "LearntReasons$Search", name := "refuted", desc := "()I" } : Jvm.MethodName)) ∈ lw_tbl := lw_at lw_m4 29 rfl
theorem q854 : (Jvm.Cond.instanceMethod ({ cls := "LearntReasons$Search", name := "refuted", desc := "()I" } : Jvm.MethodName)) ∈ lw_all := lw_g (lw_at lw_m4 30 rfl) rfl
theorem q855 : (Jvm.Cond.code ({ cls := "LearntReasons$Search", name := "refuted", desc := "()I" } : Jvm.MethodName) prog_7_method_22_code (1 : Nat) (Option.some Jvm.ClassFile.FieldType.int)) ∈ lw_all := lw_g (lw_at lw_m4 31 rfl) rfl
theorem q856 : (Jvm.Cond.interfaceEntry "LearntReasons$Search" (207 : Nat)) ∈ lw_tbl := lw_at lw_m4 32 rfl
theorem q857 : (Jvm.Cond.methodLink "LearntReasons$Search" (207 : Nat) ({ cls := "java/util/List", name := "add", desc := "(Ljava/lang/Object;)Z" } : Jvm.MethodName)) ∈ lw_all := lw_g (lw_at lw_m4 33 rfl) rfl
theorem q858 : (Jvm.Cond.interfaceEntry "LearntReasons$Search" (265 : Nat)) ∈ lw_tbl := lw_at lw_m4 34 rfl
theorem q859 : (Jvm.Cond.methodLink "LearntReasons$Search" (265 : Nat) ({ cls := "java/util/List", name := "size", desc := "()I" } : Jvm.MethodName)) ∈ lw_all := lw_g (lw_at lw_m4 35 rfl) rfl
theorem q860 : (Jvm.Cond.interfaceEntry "LearntReasons$Search" (240 : Nat)) ∈ lw_tbl := lw_at lw_m4 36 rfl
theorem q861 : (Jvm.Cond.methodLink "LearntReasons$Search" (240 : Nat) ({ cls := "java/util/List", name := "get", desc := "(I)Ljava/lang/Object;" } : Jvm.MethodName)) ∈ lw_all := lw_g (lw_at lw_m4 37 rfl) rfl
theorem q879 : (Jvm.Cond.methodLink "LearntReasons$Search" (266 : Nat) ({ cls := "LearntReasons$Search", name := "leaps", desc := "(LLearntReasons$Clause;)V" } : Jvm.MethodName)) ∈ lw_all := lw_g (lw_at lw_m4 55 rfl) rfl
theorem q880 : (Jvm.Cond.privateMethod ({ cls := "LearntReasons$Search", name := "leaps", desc := "(LLearntReasons$Clause;)V" } : Jvm.MethodName)) ∈ lw_tbl := lw_at lw_m4 56 rfl
theorem q881 : (Jvm.Cond.instanceMethod ({ cls := "LearntReasons$Search", name := "leaps", desc := "(LLearntReasons$Clause;)V" } : Jvm.MethodName)) ∈ lw_all := lw_g (lw_at lw_m4 57 rfl) rfl
theorem q882 : (Jvm.Cond.code ({ cls := "LearntReasons$Search", name := "leaps", desc := "(LLearntReasons$Clause;)V" } : Jvm.MethodName) prog_7_method_14_code (4 : Nat) (Option.none : Option Jvm.ClassFile.FieldType)) ∈ lw_all := lw_g (lw_at lw_m4 58 rfl) rfl
theorem q883 : (Jvm.Cond.methodLink "LearntReasons$Search" (189 : Nat) ({ cls := "LearntReasons$Search", name := "learns", desc := "(LLearntReasons$Clause;)[I" } : Jvm.MethodName)) ∈ lw_all := lw_g (lw_at lw_m4 59 rfl) rfl
theorem q884 : (Jvm.Cond.privateMethod ({ cls := "LearntReasons$Search", name := "learns", desc := "(LLearntReasons$Clause;)[I" } : Jvm.MethodName)) ∈ lw_tbl := lw_at lw_m4 60 rfl
theorem q885 : (Jvm.Cond.instanceMethod ({ cls := "LearntReasons$Search", name := "learns", desc := "(LLearntReasons$Clause;)[I" } : Jvm.MethodName)) ∈ lw_all := lw_g (lw_at lw_m4 61 rfl) rfl
theorem q886 : (Jvm.Cond.code ({ cls := "LearntReasons$Search", name := "learns", desc := "(LLearntReasons$Clause;)[I" } : Jvm.MethodName) prog_7_method_12_code (7 : Nat) (Option.some (Jvm.ClassFile.FieldType.array Jvm.ClassFile.FieldType.int))) ∈ lw_all := lw_g (lw_at lw_m4 62 rfl) rfl
theorem q887 : (Jvm.Cond.methodLink "LearntReasons$Search" (168 : Nat) ({ cls := "LearntReasons$Search", name := "resolves", desc := "(LLearntReasons$Clause;)I" } : Jvm.MethodName)) ∈ lw_all := lw_g (lw_at lw_m4 63 rfl) rfl
theorem q888 : (Jvm.Cond.privateMethod ({ cls := "LearntReasons$Search", name := "resolves", desc := "(LLearntReasons$Clause;)I" } : Jvm.MethodName)) ∈ lw_tbl := lw_at lw_m4 64 rfl
theorem q889 : (Jvm.Cond.instanceMethod ({ cls := "LearntReasons$Search", name := "resolves", desc := "(LLearntReasons$Clause;)I" } : Jvm.MethodName)) ∈ lw_all := lw_g (lw_at lw_m4 65 rfl) rfl
theorem q890 : (Jvm.Cond.code ({ cls := "LearntReasons$Search", name := "resolves", desc := "(LLearntReasons$Clause;)I" } : Jvm.MethodName) prog_7_method_8_code (5 : Nat) (Option.some Jvm.ClassFile.FieldType.int)) ∈ lw_all := lw_g (lw_at lw_m4 66 rfl) rfl
theorem q891 : (Jvm.Cond.methodLink "LearntReasons$Search" (151 : Nat) ({ cls := "java/util/Arrays", name := "fill", desc := "([ZZ)V" } : Jvm.MethodName)) ∈ lw_all := lw_g (lw_at lw_m4 67 rfl) rfl
theorem q894 : (Jvm.Cond.methodLink "LearntReasons$Search" (157 : Nat) ({ cls := "LearntReasons$Search", name := "brings", desc := "(LLearntReasons$Clause;I)I" } : Jvm.MethodName)) ∈ lw_all := lw_g (lw_at lw_m4 70 rfl) rfl
theorem q895 : (Jvm.Cond.privateMethod ({ cls := "LearntReasons$Search", name := "brings", desc := "(LLearntReasons$Clause;I)I" } : Jvm.MethodName)) ∈ lw_tbl := lw_at lw_m4 71 rfl
theorem q896 : (Jvm.Cond.instanceMethod ({ cls := "LearntReasons$Search", name := "brings", desc := "(LLearntReasons$Clause;I)I" } : Jvm.MethodName)) ∈ lw_all := lw_g (lw_at lw_m4 72 rfl) rfl
theorem q897 : (Jvm.Cond.code ({ cls := "LearntReasons$Search", name := "brings", desc := "(LLearntReasons$Clause;I)I" } : Jvm.MethodName) prog_7_method_7_code (9 : Nat) (Option.some Jvm.ClassFile.FieldType.int)) ∈ lw_all := lw_g (lw_at lw_m4 73 rfl) rfl
theorem q898 : (Jvm.Cond.methodLinkNest "LearntReasons$Search" (136 : Nat) ({ cls := "LearntReasons", name := "variableOf", desc := "(I)I" } : Jvm.MethodName) "LearntReasons") ∈ lw_tbl := lw_at lw_m4 74 rfl
theorem q899 : (Jvm.Cond.methodLink "LearntReasons$Search" (175 : Nat) ({ cls := "LearntReasons$Search", name := "isTrimmed", desc := "(I)Z" } : Jvm.MethodName)) ∈ lw_all := lw_g (lw_at lw_m4 75 rfl) rfl
theorem q900 : (Jvm.Cond.privateMethod ({ cls := "LearntReasons$Search", name := "isTrimmed", desc := "(I)Z" } : Jvm.MethodName)) ∈ lw_tbl := lw_at lw_m4 76 rfl
theorem q901 : (Jvm.Cond.instanceMethod ({ cls := "LearntReasons$Search", name := "isTrimmed", desc := "(I)Z" } : Jvm.MethodName)) ∈ lw_all := lw_g (lw_at lw_m4 77 rfl) rfl
theorem q902 : (Jvm.Cond.code ({ cls := "LearntReasons$Search", name := "isTrimmed", desc := "(I)Z" } : Jvm.MethodName) prog_7_method_9_code (8 : Nat) (Option.some Jvm.ClassFile.FieldType.boolean)) ∈ lw_all := lw_g (lw_at lw_m4 78 rfl) rfl
theorem q903 : (Jvm.Cond.methodLink "LearntReasons$Search" (179 : Nat) ({ cls := "LearntReasons$Search", name := "isAhead", desc := "(II)Z" } : Jvm.MethodName)) ∈ lw_all := lw_g (lw_at lw_m4 79 rfl) rfl
theorem q904 : (Jvm.Cond.privateMethod ({ cls := "LearntReasons$Search", name := "isAhead", desc := "(II)Z" } : Jvm.MethodName)) ∈ lw_tbl := lw_at lw_m4 80 rfl
theorem q905 : (Jvm.Cond.instanceMethod ({ cls := "LearntReasons$Search", name := "isAhead", desc := "(II)Z" } : Jvm.MethodName)) ∈ lw_all := lw_g (lw_at lw_m4 81 rfl) rfl
theorem q906 : (Jvm.Cond.code ({ cls := "LearntReasons$Search", name := "isAhead", desc := "(II)Z" } : Jvm.MethodName) prog_7_method_10_code (3 : Nat) (Option.some Jvm.ClassFile.FieldType.boolean)) ∈ lw_all := lw_g (lw_at lw_m4 82 rfl) rfl
theorem q907 : (Jvm.Cond.methodLink "LearntReasons$Search" (183 : Nat) ({ cls := "LearntReasons$Search", name := "falseOf", desc := "(I)I" } : Jvm.MethodName)) ∈ lw_all := lw_g (lw_at lw_m4 83 rfl) rfl
theorem q908 : (Jvm.Cond.privateMethod ({ cls := "LearntReasons$Search", name := "falseOf", desc := "(I)I" } : Jvm.MethodName)) ∈ lw_tbl := lw_at lw_m4 84 rfl
theorem q909 : (Jvm.Cond.instanceMethod ({ cls := "LearntReasons$Search", name := "falseOf", desc := "(I)I" } : Jvm.MethodName)) ∈ lw_all := lw_g (lw_at lw_m4 85 rfl) rfl
theorem q910 : (Jvm.Cond.code ({ cls := "LearntReasons$Search", name := "falseOf", desc := "(I)I" } : Jvm.MethodName) prog_7_method_11_code (2 : Nat) (Option.some Jvm.ClassFile.FieldType.int)) ∈ lw_all := lw_g (lw_at lw_m4 86 rfl) rfl
theorem q911 : (Jvm.Cond.methodLink "LearntReasons$Search" (193 : Nat) ({ cls := "LearntReasons$Search", name := "scores", desc := "()V" } : Jvm.MethodName)) ∈ lw_all := lw_g (lw_at lw_m4 87 rfl) rfl
theorem q912 : (Jvm.Cond.privateMethod ({ cls := "LearntReasons$Search", name := "scores", desc := "()V" } : Jvm.MethodName)) ∈ lw_tbl := lw_at lw_m4 88 rfl
theorem q913 : (Jvm.Cond.instanceMethod ({ cls := "LearntReasons$Search", name := "scores", desc := "()V" } : Jvm.MethodName)) ∈ lw_all := lw_g (lw_at lw_m4 89 rfl) rfl
theorem q914 : (Jvm.Cond.code ({ cls := "LearntReasons$Search", name := "scores", desc := "()V" } : Jvm.MethodName) prog_7_method_13_code (3 : Nat) (Option.none : Option Jvm.ClassFile.FieldType)) ∈ lw_all := lw_g (lw_at lw_m4 90 rfl) rfl
theorem q915 : (Jvm.Cond.methodLink "LearntReasons$Search" (195 : Nat) ({ cls := "LearntReasons$Search", name := "leavesTo", desc := "(I)V" } : Jvm.MethodName)) ∈ lw_all := lw_g (lw_at lw_m4 91 rfl) rfl
theorem q916 : (Jvm.Cond.privateMethod ({ cls := "LearntReasons$Search", name := "leavesTo", desc := "(I)V" } : Jvm.MethodName)) ∈ lw_tbl := lw_at lw_m4 92 rfl
theorem q917 : (Jvm.Cond.instanceMethod ({ cls := "LearntReasons$Search", name := "leavesTo", desc := "(I)V" } : Jvm.MethodName)) ∈ lw_all := lw_g (lw_at lw_m4 93 rfl) rfl
theorem q918 : (Jvm.Cond.code ({ cls := "LearntReasons$Search", name := "leavesTo", desc := "(I)V" } : Jvm.MethodName) prog_7_method_6_code (3 : Nat) (Option.none : Option Jvm.ClassFile.FieldType)) ∈ lw_all := lw_g (lw_at lw_m4 94 rfl) rfl
theorem q919 : (Jvm.Cond.methodLink "LearntReasons$Search" (139 : Nat) ({ cls := "LearntReasons$Search", name := "leaves", desc := "()I" } : Jvm.MethodName)) ∈ lw_all := lw_g (lw_at lw_m4 95 rfl) rfl
theorem q920 : (Jvm.Cond.sameMethod "LearntReasons$Search" "LearntReasons$Trail" "leaves" "()I") ∈ lw_all := lw_g (lw_at lw_m4 96 rfl) rfl
theorem q922 : (Jvm.Cond.selects "LearntReasons$Search" ({ cls := "LearntReasons$Search", name := "leaves", desc := "()I" } : Jvm.MethodName) ({ cls := "LearntReasons$Trail", name := "leaves", desc := "()I" } : Jvm.MethodName)) ∈ lw_all := lw_g (lw_at lw_m4 98 rfl) rfl
theorem q926 : (Jvm.Cond.methodLink "LearntReasons$Search" (148 : Nat) ({ cls := "java/util/BitSet", name := "clear", desc := "()V" } : Jvm.MethodName)) ∈ lw_all := lw_g (lw_at lw_m4 102 rfl) rfl
theorem q930 : (Jvm.Cond.methodLink "LearntReasons$Search" (198 : Nat) ({ cls := "LearntReasons$Clause", name := "<init>", desc := "(Z[I)V" } : Jvm.MethodName)) ∈ lw_all := lw_g (lw_at lw_m4 106 rfl) rfl
theorem q931 : (Jvm.Cond.methodLink "LearntReasons$Search" (201 : Nat) ({ cls := "LearntReasons$State", name := "comes", desc := "(LLearntReasons$Clause;)LLearntReasons$Clause;" } : Jvm.MethodName)) ∈ lw_all := lw_g (lw_at lw_m4 107 rfl) rfl
theorem q932 : (Jvm.Cond.methodLink "LearntReasons$Search" (211 : Nat) ({ cls := "java/util/BitSet", name := "clear", desc := "(I)V" } : Jvm.MethodName)) ∈ lw_all := lw_g (lw_at lw_m4 108 rfl) rfl
theorem q940 : (Jvm.Cond.methodLink "LearntReasons$Search" (213 : Nat) ({ cls := "LearntReasons$Search", name := "comes", desc := "(ILLearntReasons$Clause;)V" } : Jvm.MethodName)) ∈ lw_all := lw_g (lw_at lw_m4 116 rfl) rfl
theorem q941 : (Jvm.Cond.instanceMethod ({ cls := "LearntReasons$Search", name := "comes", desc := "(ILLearntReasons$Clause;)V" } : Jvm.MethodName)) ∈ lw_all := lw_g (lw_at lw_m4 117 rfl) rfl
theorem q942 : (Jvm.Cond.selects "LearntReasons$Search" ({ cls := "LearntReasons$Search", name := "comes", desc := "(ILLearntReasons$Clause;)V" } : Jvm.MethodName) ({ cls := "LearntReasons$Search", name := "comes", desc := "(ILLearntReasons$Clause;)V" } : Jvm.MethodName)) ∈ lw_all := lw_g (lw_at lw_m4 118 rfl) rfl
theorem q943 : (Jvm.Cond.code ({ cls := "LearntReasons$Search", name := "comes", desc := "(ILLearntReasons$Clause;)V" } : Jvm.MethodName) prog_7_method_4_code (7 : Nat) (Option.none : Option Jvm.ClassFile.FieldType)) ∈ lw_all := lw_g (lw_at lw_m4 119 rfl) rfl
theorem q944 : (Jvm.Cond.methodLink "LearntReasons$Search" (109 : Nat) ({ cls := "LearntReasons$Trail", name := "comes", desc := "(ILLearntReasons$Clause;)V" } : Jvm.MethodName)) ∈ lw_all := lw_g (lw_at lw_m4 120 rfl) rfl
theorem q947 : (Jvm.Cond.methodLink "LearntReasons$Search" (120 : Nat) ({ cls := "LearntReasons$Search", name := "watchedNow", desc := "(LLearntReasons$Clause;I)I" } : Jvm.MethodName)) ∈ lw_all := lw_g (lw_at lw_m4 123 rfl) rfl
theorem q948 : (Jvm.Cond.privateMethod ({ cls := "LearntReasons$Search", name := "watchedNow", desc := "(LLearntReasons$Clause;I)I" } : Jvm.MethodName)) ∈ lw_tbl := lw_at lw_m4 124 rfl
theorem q949 : (Jvm.Cond.instanceMethod ({ cls := "LearntReasons$Search", name := "watchedNow", desc := "(LLearntReasons$Clause;I)I" } : Jvm.MethodName)) ∈ lw_all := lw_g (lw_at lw_m4 125 rfl) rfl
theorem q950 : (Jvm.Cond.code ({ cls := "LearntReasons$Search", name := "watchedNow", desc := "(LLearntReasons$Clause;I)I" } : Jvm.MethodName) prog_7_method_5_code (5 : Nat) (Option.some Jvm.ClassFile.FieldType.int)) ∈ lw_all := lw_g (lw_at lw_m4 126 rfl) rfl
theorem q951 : (Jvm.Cond.methodLink "LearntReasons$Search" (124 : Nat) ({ cls := "LearntReasons$Search", name := "value", desc := "(I)I" } : Jvm.MethodName)) ∈ lw_all := lw_g (lw_at lw_m4 127 rfl) rfl
theorem q952 : (Jvm.Cond.sameMethod "LearntReasons$Search" "LearntReasons$Trail" "value" "(I)I") ∈ lw_all := lw_g (lw_at lw_m4 128 rfl) rfl
theorem q954 : (Jvm.Cond.selects "LearntReasons$Search" ({ cls := "LearntReasons$Search", name := "value", desc := "(I)I" } : Jvm.MethodName) ({ cls := "LearntReasons$Trail", name := "value", desc := "(I)I" } : Jvm.MethodName)) ∈ lw_all := lw_g (lw_at lw_m4 130 rfl) rfl
theorem q957 : (Jvm.Cond.methodLink "LearntReasons$Search" (229 : Nat) ({ cls := "LearntReasons$Search", name := "luby", desc := "(I)I" } : Jvm.MethodName)) ∈ lw_all := lw_g (lw_at lw_m4 133 rfl) rfl
theorem q958 : (Jvm.Cond.privateMethod ({ cls := "LearntReasons$Search", name := "luby", desc := "(I)I" } : Jvm.MethodName)) ∈ lw_tbl := lw_at lw_m4 134 rfl
theorem q959 : (Jvm.Cond.instanceMethod ({ cls := "LearntReasons$Search", name := "luby", desc := "(I)I" } : Jvm.MethodName)) ∈ lw_all := lw_g (lw_at lw_m4 135 rfl) rfl
theorem q960 : (Jvm.Cond.code ({ cls := "LearntReasons$Search", name := "luby", desc := "(I)I" } : Jvm.MethodName) prog_7_method_15_code (3 : Nat) (Option.some Jvm.ClassFile.FieldType.int)) ∈ lw_all := lw_g (lw_at lw_m4 136 rfl) rfl
theorem q961 : (Jvm.Cond.methodLink "LearntReasons$Search" (232 : Nat) ({ cls := "java/lang/Integer", name := "highestOneBit", desc := "(I)I" } : Jvm.MethodName)) ∈ lw_all := lw_g (lw_at lw_m4 137 rfl) rfl
theorem q968 : (Jvm.Cond.methodLink "LearntReasons$Search" (269 : Nat) ({ cls := "LearntReasons$Search", name := "unitNext", desc := "()LLearntReasons$Clause;" } : Jvm.MethodName)) ∈ lw_all := lw_g (lw_at lw_m4 144 rfl) rfl
theorem q969 : (Jvm.Cond.privateMethod ({ cls := "LearntReasons$Search", name := "unitNext", desc := "()LLearntReasons$Clause;" } : Jvm.MethodName)) ∈ lw_tbl := lw_at lw_m4 145 rfl
theorem q970 : (Jvm.Cond.instanceMethod ({ cls := "LearntReasons$Search", name := "unitNext", desc := "()LLearntReasons$Clause;" } : Jvm.MethodName)) ∈ lw_all := lw_g (lw_at lw_m4 146 rfl) rfl
theorem q971 : (Jvm.Cond.code ({ cls := "LearntReasons$Search", name := "unitNext", desc := "()LLearntReasons$Clause;" } : Jvm.MethodName) prog_7_method_16_code (2 : Nat) (Option.some (Jvm.ClassFile.FieldType.object "LearntReasons$Clause"))) ∈ lw_all := lw_g (lw_at lw_m4 147 rfl) rfl
theorem q972 : (Jvm.Cond.methodLink "LearntReasons$Search" (244 : Nat) ({ cls := "LearntReasons$Search", name := "unit", desc := "([I)I" } : Jvm.MethodName)) ∈ lw_all := lw_g (lw_at lw_m4 148 rfl) rfl
theorem q973 : (Jvm.Cond.sameMethod "LearntReasons$Search" "LearntReasons$Trail" "unit" "([I)I") ∈ lw_all := lw_g (lw_at lw_m4 149 rfl) rfl
theorem q975 : (Jvm.Cond.selects "LearntReasons$Search" ({ cls := "LearntReasons$Search", name := "unit", desc := "([I)I" } : Jvm.MethodName) ({ cls := "LearntReasons$Trail", name := "unit", desc := "([I)I" } : Jvm.MethodName)) ∈ lw_all := lw_g (lw_at lw_m4 151 rfl) rfl
theorem q979 : (Jvm.Cond.methodLink "LearntReasons$Search" (273 : Nat) ({ cls := "LearntReasons$Search", name := "assumptionNext", desc := "()I" } : Jvm.MethodName)) ∈ lw_all := lw_g (lw_at lw_m4 155 rfl) rfl
theorem q980 : (Jvm.Cond.privateMethod ({ cls := "LearntReasons$Search", name := "assumptionNext", desc := "()I" } : Jvm.MethodName)) ∈ lw_tbl := lw_at lw_m4 156 rfl
theorem q981 : (Jvm.Cond.instanceMethod ({ cls := "LearntReasons$Search", name := "assumptionNext", desc := "()I" } : Jvm.MethodName)) ∈ lw_all := lw_g (lw_at lw_m4 157 rfl) rfl
theorem q982 : (Jvm.Cond.code ({ cls := "LearntReasons$Search", name := "assumptionNext", desc := "()I" } : Jvm.MethodName) prog_7_method_17_code (2 : Nat) (Option.some Jvm.ClassFile.FieldType.int)) ∈ lw_all := lw_g (lw_at lw_m4 158 rfl) rfl
theorem q983 : (Jvm.Cond.methodLink "LearntReasons$Search" (276 : Nat) ({ cls := "LearntReasons$Search", name := "laysCore", desc := "(I)V" } : Jvm.MethodName)) ∈ lw_all := lw_g (lw_at lw_m4 159 rfl) rfl
theorem q984 : (Jvm.Cond.privateMethod ({ cls := "LearntReasons$Search", name := "laysCore", desc := "(I)V" } : Jvm.MethodName)) ∈ lw_tbl := lw_at lw_m4 160 rfl
theorem q985 : (Jvm.Cond.instanceMethod ({ cls := "LearntReasons$Search", name := "laysCore", desc := "(I)V" } : Jvm.MethodName)) ∈ lw_all := lw_g (lw_at lw_m4 161 rfl) rfl
theorem q986 : (Jvm.Cond.code ({ cls := "LearntReasons$Search", name := "laysCore", desc := "(I)V" } : Jvm.MethodName) prog_7_method_20_code (9 : Nat) (Option.none : Option Jvm.ClassFile.FieldType)) ∈ lw_all := lw_g (lw_at lw_m4 162 rfl) rfl
theorem q987 : (Jvm.Cond.methodLink "LearntReasons$Search" (256 : Nat) ({ cls := "LearntReasons$Search", name := "bitOf", desc := "(I)I" } : Jvm.MethodName)) ∈ lw_all := lw_g (lw_at lw_m4 163 rfl) rfl
theorem q988 : (Jvm.Cond.privateMethod ({ cls := "LearntReasons$Search", name := "bitOf", desc := "(I)I" } : Jvm.MethodName)) ∈ lw_tbl := lw_at lw_m4 164 rfl
theorem q989 : (Jvm.Cond.instanceMethod ({ cls := "LearntReasons$Search", name := "bitOf", desc := "(I)I" } : Jvm.MethodName)) ∈ lw_all := lw_g (lw_at lw_m4 165 rfl) rfl
theorem q990 : (Jvm.Cond.code ({ cls := "LearntReasons$Search", name := "bitOf", desc := "(I)I" } : Jvm.MethodName) prog_7_method_19_code (3 : Nat) (Option.some Jvm.ClassFile.FieldType.int)) ∈ lw_all := lw_g (lw_at lw_m4 166 rfl) rfl
theorem q991 : (Jvm.Cond.methodLink "LearntReasons$Search" (279 : Nat) ({ cls := "LearntReasons$Search", name := "decides", desc := "(I)V" } : Jvm.MethodName)) ∈ lw_all := lw_g (lw_at lw_m4 167 rfl) rfl
theorem q992 : (Jvm.Cond.privateMethod ({ cls := "LearntReasons$Search", name := "decides", desc := "(I)V" } : Jvm.MethodName)) ∈ lw_tbl := lw_at lw_m4 168 rfl
theorem q993 : (Jvm.Cond.instanceMethod ({ cls := "LearntReasons$Search", name := "decides", desc := "(I)V" } : Jvm.MethodName)) ∈ lw_all := lw_g (lw_at lw_m4 169 rfl) rfl
theorem q994 : (Jvm.Cond.code ({ cls := "LearntReasons$Search", name := "decides", desc := "(I)V" } : Jvm.MethodName) prog_7_method_21_code (2 : Nat) (Option.none : Option Jvm.ClassFile.FieldType)) ∈ lw_all := lw_g (lw_at lw_m4 170 rfl) rfl
theorem q995 : (Jvm.Cond.methodLink "LearntReasons$Search" (282 : Nat) ({ cls := "LearntReasons$Search", name := "variableNext", desc := "()I" } : Jvm.MethodName)) ∈ lw_all := lw_g (lw_at lw_m4 171 rfl) rfl
theorem q996 : (Jvm.Cond.privateMethod ({ cls := "LearntReasons$Search", name := "variableNext", desc := "()I" } : Jvm.MethodName)) ∈ lw_tbl := lw_at lw_m4 172 rfl
theorem q997 : (Jvm.Cond.instanceMethod ({ cls := "LearntReasons$Search", name := "variableNext", desc := "()I" } : Jvm.MethodName)) ∈ lw_all := lw_g (lw_at lw_m4 173 rfl) rfl
theorem q998 : (Jvm.Cond.code ({ cls := "LearntReasons$Search", name := "variableNext", desc := "()I" } : Jvm.MethodName) prog_7_method_18_code (3 : Nat) (Option.some Jvm.ClassFile.FieldType.int)) ∈ lw_all := lw_g (lw_at lw_m4 174 rfl) rfl
theorem q1080 : (Jvm.Cond.selects "LearntReasons$Search" ({ cls := "LearntReasons$Trail", name := "areFalse", desc := "([I)Z" } : Jvm.MethodName) ({ cls := "LearntReasons$Trail", name := "areFalse", desc := "([I)Z" } : Jvm.MethodName)) ∈ lw_all := lw_g (lw_at lw_m5 16 rfl) rfl
theorem q1920 : (Jvm.Cond.selects "LearntReasons$Search" ({ cls := "LearntReasons$Trail", name := "value", desc := "(I)I" } : Jvm.MethodName) ({ cls := "LearntReasons$Trail", name := "value", desc := "(I)I" } : Jvm.MethodName)) ∈ lw_all := lw_g (lw_at lw_m8 136 rfl) rfl
theorem q1923 : (Jvm.Cond.selects "LearntReasons$Search" ({ cls := "LearntReasons$Trail", name := "unit", desc := "([I)I" } : Jvm.MethodName) ({ cls := "LearntReasons$Trail", name := "unit", desc := "([I)I" } : Jvm.MethodName)) ∈ lw_all := lw_g (lw_at lw_m8 139 rfl) rfl
theorem q1925 : (Jvm.Cond.selects "LearntReasons$Search" ({ cls := "LearntReasons$Trail", name := "comes", desc := "(ILLearntReasons$Clause;)V" } : Jvm.MethodName) ({ cls := "LearntReasons$Search", name := "comes", desc := "(ILLearntReasons$Clause;)V" } : Jvm.MethodName)) ∈ lw_all := lw_g (lw_at lw_m8 141 rfl) rfl
theorem q1928 : (Jvm.Cond.selects "LearntReasons$Search" ({ cls := "LearntReasons$Trail", name := "leaves", desc := "()I" } : Jvm.MethodName) ({ cls := "LearntReasons$Trail", name := "leaves", desc := "()I" } : Jvm.MethodName)) ∈ lw_all := lw_g (lw_at lw_m8 144 rfl) rfl
theorem q1947 : (Jvm.Cond.castable "LearntReasons$Search" "java/lang/Object") ∈ lw_tbl := lw_at lw_m8 163 rfl
theorem in_X8 : ∀ w ∈ wsX80, w ∈ lw_all := lw_in wsX80 [817, 819, 821, 823, 825, 827, 829, 795, 797, 799, 801, 803, 805, 807, 809, 811, 813, 815] (by decide +kernel) (by decide +kernel)

/-! LearntReasons$Watch -/
set_option maxRecDepth 100000
def RX9 : String := "LearntReasons$Watch"
def TX9 : u_T := fun k => match k with
  | 0 => ("LearntReasons$Watch", "clause", "LLearntReasons$Clause;", true)
  | _ => ("LearntReasons$Watch", "next", "LLearntReasons$Watch;", false)
def tyX9 : Nat → FieldType := fun k => match k with
  | 0 => .object "LearntReasons$Clause"
  | _ => .object "LearntReasons$Watch"
abbrev wsX90 : List Cond := u_ws RX9 TX9 2
theorem nmX9 : ∀ a, a < 2 → ∀ b, b < 2 → a ≠ b → (TX9 a).2.1 ≠ (TX9 b).2.1 := by decide +kernel
theorem tyX9_ok : ∀ k, k < 2 → parseFieldDescriptor (TX9 k).2.2.1 = some (tyX9 k) := by decide +kernel
abbrev cX9_init : ByteArray := prog_11_method_1_code
def yX9_init : MethodName := ⟨RX9, "<init>", "(LLearntReasons$Clause;LLearntReasons$Watch;)V"⟩
def dkwX9_init_0 : List UInt8 := [42, 183, 0, 1, 42, 43, 181, 0, 7, 42, 44, 181, 0, 13, 177]
abbrev dktX9_init_0 : List UInt8 := dkwX9_init_0 ++ []
theorem dksX9_init_0 : cX9_init.data.toList.drop 0 = dktX9_init_0 := by decide +kernel
theorem dX9_init_0 : decode cX9_init 0 = .ok (.aload_n 0, 1) := dk_42 (dk_at dksX9_init_0 0 rfl rfl)
theorem dX9_init_1 : decode cX9_init 1 = .ok (.invokespecial 1, 3) := dk_183 0 1 (dk_at dksX9_init_0 1 rfl rfl)
theorem dX9_init_4 : decode cX9_init 4 = .ok (.aload_n 0, 1) := dk_42 (dk_at dksX9_init_0 4 rfl rfl)
theorem dX9_init_5 : decode cX9_init 5 = .ok (.aload_n 1, 1) := dk_43 (dk_at dksX9_init_0 5 rfl rfl)
theorem dX9_init_6 : decode cX9_init 6 = .ok (.putfield 7, 3) := dk_181 0 7 (dk_at dksX9_init_0 6 rfl rfl)
theorem dX9_init_9 : decode cX9_init 9 = .ok (.aload_n 0, 1) := dk_42 (dk_at dksX9_init_0 9 rfl rfl)
theorem dX9_init_10 : decode cX9_init 10 = .ok (.aload_n 2, 1) := dk_44 (dk_at dksX9_init_0 10 rfl rfl)
theorem dX9_init_11 : decode cX9_init 11 = .ok (.putfield 13, 3) := dk_181 0 13 (dk_at dksX9_init_0 11 rfl rfl)
theorem dX9_init_14 : decode cX9_init 14 = .ok (.return_, 1) := dk_177 (dk_at dksX9_init_0 14 rfl rfl)
theorem q132 : (Jvm.Cond.initialized "LearntReasons$Watch") ∈ lw_all := lw_g (lw_at lw_m1 28 rfl) rfl
theorem q458 : (Jvm.Cond.selects "LearntReasons$Watch" ({ cls := "java/lang/Object", name := "getClass", desc := "()Ljava/lang/Class;" } : Jvm.MethodName) ({ cls := "java/lang/Object", name := "getClass", desc := "()Ljava/lang/Class;" } : Jvm.MethodName)) ∈ lw_all := lw_g (lw_at lw_m2 114 rfl) rfl
theorem q722 : (Jvm.Cond.instantiable "LearntReasons$Watch" (2 : Nat)) ∈ lw_all := lw_g (lw_at lw_m3 138 rfl) rfl
theorem q724 : (Jvm.Cond.instanceMethod ({ cls := "LearntReasons$Watch", name := "<init>", desc := "(LLearntReasons$Clause;LLearntReasons$Watch;)V" } : Jvm.MethodName)) ∈ lw_all := lw_g (lw_at lw_m3 140 rfl) rfl
theorem q725 : (Jvm.Cond.code ({ cls := "LearntReasons$Watch", name := "<init>", desc := "(LLearntReasons$Clause;LLearntReasons$Watch;)V" } : Jvm.MethodName) prog_11_method_1_code (3 : Nat) (Option.none : Option Jvm.ClassFile.FieldType)) ∈ lw_all := lw_g (lw_at lw_m3 141 rfl) rfl
theorem q726 : (Jvm.Cond.methodLink "LearntReasons$Watch" (1 : Nat) ({ cls := "java/lang/Object", name := "<init>", desc := "()V" } : Jvm.MethodName)) ∈ lw_all := lw_g (lw_at lw_m3 142 rfl) rfl
theorem q727 : (Jvm.Cond.fieldLink "LearntReasons$Watch" (7 : Nat) "LearntReasons$Watch" "clause" "LLearntReasons$Clause;") ∈ lw_all := lw_g (lw_at lw_m3 143 rfl) rfl
theorem q729 : (Jvm.Cond.fieldLink "LearntReasons$Watch" (13 : Nat) "LearntReasons$Watch" "next" "LLearntReasons$Watch;") ∈ lw_all := lw_g (lw_at lw_m3 145 rfl) rfl
theorem q731 : (Jvm.Cond.laysFinal "LearntReasons$Watch" "LearntReasons$Watch" "clause" "LLearntReasons$Clause;") ∈ lw_all := lw_g (lw_at lw_m3 147 rfl) rfl
theorem q732 : (Jvm.Cond.soleField "LearntReasons$Watch" "clause") ∈ lw_all := lw_g (lw_at lw_m3 148 rfl) rfl
theorem q733 : (Jvm.Cond.lays "LearntReasons$Watch" "LearntReasons$Watch" "next" "LLearntReasons$Watch;") ∈ lw_all := lw_g (lw_at lw_m3 149 rfl) rfl
theorem q734 : (Jvm.Cond.soleField "LearntReasons$Watch" "next") ∈ lw_all := lw_g (lw_at lw_m3 150 rfl) rfl
theorem q735 : (Jvm.Cond.superclass "LearntReasons$Watch" "java/lang/Object") ∈ lw_all := lw_g (lw_at lw_m3 151 rfl) rfl
theorem q1936 : (Jvm.Cond.castable "LearntReasons$Watch" "java/lang/Object") ∈ lw_tbl := lw_at lw_m8 152 rfl
theorem in_X9 : ∀ w ∈ wsX90, w ∈ lw_all := lw_in wsX90 [731, 733] (by decide +kernel) (by decide +kernel)

