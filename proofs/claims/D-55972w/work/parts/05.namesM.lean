/-! GateGrammarModel -/
set_option maxRecDepth 100000
def RX6 : String := "GateGrammarModel"
def TX6 : u_T := fun k => match k with
  | 0 => ("GateGrammarModel", "thrown", "I", false)
  | 1 => ("GateGrammarModel", "s", "[I", true)
  | 2 => ("GateGrammarModel", "frame", "[I", true)
  | 3 => ("GateGrammarModel", "saved", "[I", true)
  | 4 => ("GateGrammarModel", "history", "[I", true)
  | 5 => ("GateGrammarModel", "kept", "I", false)
  | 6 => ("GateGrammarModel", "hasSaved", "Z", false)
  | 7 => ("GateGrammarModel", "text", "[I", true)
  | 8 => ("GateGrammarModel", "told", "[I", true)
  | 9 => ("GateGrammarModel", "out", "[I", true)
  | 10 => ("GateGrammarModel", "length", "I", false)
  | 11 => ("GateGrammarModel", "outLength", "I", false)
  | 12 => ("GateGrammarModel", "faultAt", "I", false)
  | 13 => ("GateGrammarModel", "failedAt", "I", false)
  | 14 => ("GateGrammarModel", "answer", "I", false)
  | 15 => ("GateGrammarModel", "parent", "[I", true)
  | 16 => ("GateGrammarModel", "leader", "[I", true)
  | 17 => ("GateGrammarModel", "subjects", "[I", true)
  | 18 => ("GateGrammarModel", "verbAt", "[I", true)
  | 19 => ("GateGrammarModel", "objectAt", "[I", true)
  | 20 => ("GateGrammarModel", "openClause", "[I", true)
  | 21 => ("GateGrammarModel", "openLeader", "[I", true)
  | 22 => ("GateGrammarModel", "moved", "[I", true)
  | 23 => ("GateGrammarModel", "clauses", "I", false)
  | 24 => ("GateGrammarModel", "deepest", "I", false)
  | 25 => ("GateGrammarModel", "state", "I", false)
  | 26 => ("GateGrammarModel", "level", "I", false)
  | 27 => ("GateGrammarModel", "causes", "I", false)
  | 28 => ("GateGrammarModel", "firstCause", "I", false)
  | 29 => ("GateGrammarModel", "spot", "I", false)
  | 30 => ("GateGrammarModel", "end", "I", false)
  | 31 => ("GateGrammarModel", "commands", "I", false)
  | _ => ("GateGrammarModel", "isWrong", "Z", false)
def tyX6 : Nat → FieldType := fun k => match k with
  | 0 => .int
  | 1 => .array .int
  | 2 => .array .int
  | 3 => .array .int
  | 4 => .array .int
  | 5 => .int
  | 6 => .boolean
  | 7 => .array .int
  | 8 => .array .int
  | 9 => .array .int
  | 10 => .int
  | 11 => .int
  | 12 => .int
  | 13 => .int
  | 14 => .int
  | 15 => .array .int
  | 16 => .array .int
  | 17 => .array .int
  | 18 => .array .int
  | 19 => .array .int
  | 20 => .array .int
  | 21 => .array .int
  | 22 => .array .int
  | 23 => .int
  | 24 => .int
  | 25 => .int
  | 26 => .int
  | 27 => .int
  | 28 => .int
  | 29 => .int
  | 30 => .int
  | 31 => .int
  | _ => .boolean
abbrev wsX60 : List Cond := u_ws RX6 TX6 33
set_option maxRecDepth 100000 in
theorem nmX6 : ∀ a, a < 33 → ∀ b, b < 33 → a ≠ b → (TX6 a).2.1 ≠ (TX6 b).2.1 := by decide +kernel
set_option maxRecDepth 100000 in
theorem tyX6_ok : ∀ k, k < 33 → parseFieldDescriptor (TX6 k).2.2.1 = some (tyX6 k) := by decide +kernel
abbrev cX6_init : ByteArray := prog_23_method_1_code
def yX6_init : MethodName := ⟨RX6, "<init>", "()V"⟩
def dkwX6_init_6 : List UInt8 := [177]
abbrev dktX6_init_6 : List UInt8 := dkwX6_init_6 ++ []
def dkwX6_init_5 : List UInt8 := [42, 16, 24, 188, 10, 181, 0, 53, 42, 16, 24, 188, 10, 181, 0, 56, 42, 16, 72, 188, 10, 181, 0, 59]
abbrev dktX6_init_5 : List UInt8 := dkwX6_init_5 ++ dktX6_init_6
def dkwX6_init_4 : List UInt8 := [42, 16, 24, 188, 10, 181, 0, 44, 42, 16, 24, 188, 10, 181, 0, 47, 42, 16, 24, 188, 10, 181, 0, 50]
abbrev dktX6_init_4 : List UInt8 := dkwX6_init_4 ++ dktX6_init_5
def dkwX6_init_3 : List UInt8 := [181, 0, 31, 42, 2, 181, 0, 35, 42, 16, 24, 188, 10, 181, 0, 38, 42, 16, 24, 188, 10, 181, 0, 41]
abbrev dktX6_init_3 : List UInt8 := dkwX6_init_3 ++ dktX6_init_4
def dkwX6_init_2 : List UInt8 := [181, 0, 22, 42, 17, 0, 240, 188, 10, 181, 0, 25, 42, 17, 0, 160, 188, 10, 181, 0, 28, 42, 2]
abbrev dktX6_init_2 : List UInt8 := dkwX6_init_2 ++ dktX6_init_3
def dkwX6_init_1 : List UInt8 := [17, 1, 58, 188, 10, 181, 0, 16, 42, 17, 9, 208, 188, 10, 181, 0, 19, 42, 16, 60, 188, 10]
abbrev dktX6_init_1 : List UInt8 := dkwX6_init_1 ++ dktX6_init_2
def dkwX6_init_0 : List UInt8 := [42, 183, 0, 1, 42, 17, 1, 58, 188, 10, 181, 0, 7, 42, 17, 1, 58, 188, 10, 181, 0, 13, 42]
abbrev dktX6_init_0 : List UInt8 := dkwX6_init_0 ++ dktX6_init_1
theorem dksX6_init_0 : cX6_init.data.toList.drop 0 = dktX6_init_0 := by decide +kernel
theorem dksX6_init_1 : cX6_init.data.toList.drop 23 = dktX6_init_1 := dk_seg dksX6_init_0 23 rfl rfl
theorem dksX6_init_2 : cX6_init.data.toList.drop 45 = dktX6_init_2 := dk_seg dksX6_init_1 22 rfl rfl
theorem dksX6_init_3 : cX6_init.data.toList.drop 68 = dktX6_init_3 := dk_seg dksX6_init_2 23 rfl rfl
theorem dksX6_init_4 : cX6_init.data.toList.drop 92 = dktX6_init_4 := dk_seg dksX6_init_3 24 rfl rfl
theorem dksX6_init_5 : cX6_init.data.toList.drop 116 = dktX6_init_5 := dk_seg dksX6_init_4 24 rfl rfl
theorem dksX6_init_6 : cX6_init.data.toList.drop 140 = dktX6_init_6 := dk_seg dksX6_init_5 24 rfl rfl
theorem dX6_init_0 : decode cX6_init 0 = .ok (.aload_n 0, 1) := dk_42 (dk_at dksX6_init_0 0 rfl rfl)
theorem dX6_init_1 : decode cX6_init 1 = .ok (.invokespecial 1, 3) := dk_183 0 1 (dk_at dksX6_init_0 1 rfl rfl)
theorem dX6_init_4 : decode cX6_init 4 = .ok (.aload_n 0, 1) := dk_42 (dk_at dksX6_init_0 4 rfl rfl)
theorem dX6_init_5 : decode cX6_init 5 = .ok (.sipush 314, 3) := dk_17 1 58 (dk_at dksX6_init_0 5 rfl rfl)
theorem dX6_init_8 : decode cX6_init 8 = .ok (.newarray .int, 2) := dk_188_10 (dk_at dksX6_init_0 8 rfl rfl)
theorem dX6_init_10 : decode cX6_init 10 = .ok (.putfield 7, 3) := dk_181 0 7 (dk_at dksX6_init_0 10 rfl rfl)
theorem dX6_init_13 : decode cX6_init 13 = .ok (.aload_n 0, 1) := dk_42 (dk_at dksX6_init_0 13 rfl rfl)
theorem dX6_init_14 : decode cX6_init 14 = .ok (.sipush 314, 3) := dk_17 1 58 (dk_at dksX6_init_0 14 rfl rfl)
theorem dX6_init_17 : decode cX6_init 17 = .ok (.newarray .int, 2) := dk_188_10 (dk_at dksX6_init_0 17 rfl rfl)
theorem dX6_init_19 : decode cX6_init 19 = .ok (.putfield 13, 3) := dk_181 0 13 (dk_at dksX6_init_0 19 rfl rfl)
theorem dX6_init_22 : decode cX6_init 22 = .ok (.aload_n 0, 1) := dk_42 (dk_at dksX6_init_0 22 rfl rfl)
theorem dX6_init_23 : decode cX6_init 23 = .ok (.sipush 314, 3) := dk_17 1 58 (dk_at dksX6_init_1 0 rfl rfl)
theorem dX6_init_26 : decode cX6_init 26 = .ok (.newarray .int, 2) := dk_188_10 (dk_at dksX6_init_1 3 rfl rfl)
theorem dX6_init_28 : decode cX6_init 28 = .ok (.putfield 16, 3) := dk_181 0 16 (dk_at dksX6_init_1 5 rfl rfl)
theorem dX6_init_31 : decode cX6_init 31 = .ok (.aload_n 0, 1) := dk_42 (dk_at dksX6_init_1 8 rfl rfl)
theorem dX6_init_32 : decode cX6_init 32 = .ok (.sipush 2512, 3) := dk_17 9 208 (dk_at dksX6_init_1 9 rfl rfl)
theorem dX6_init_35 : decode cX6_init 35 = .ok (.newarray .int, 2) := dk_188_10 (dk_at dksX6_init_1 12 rfl rfl)
theorem dX6_init_37 : decode cX6_init 37 = .ok (.putfield 19, 3) := dk_181 0 19 (dk_at dksX6_init_1 14 rfl rfl)
theorem dX6_init_40 : decode cX6_init 40 = .ok (.aload_n 0, 1) := dk_42 (dk_at dksX6_init_1 17 rfl rfl)
theorem dX6_init_41 : decode cX6_init 41 = .ok (.bipush 60, 2) := dk_16 60 (dk_at dksX6_init_1 18 rfl rfl)
theorem dX6_init_43 : decode cX6_init 43 = .ok (.newarray .int, 2) := dk_188_10 (dk_at dksX6_init_1 20 rfl rfl)
theorem dX6_init_45 : decode cX6_init 45 = .ok (.putfield 22, 3) := dk_181 0 22 (dk_at dksX6_init_2 0 rfl rfl)
theorem dX6_init_48 : decode cX6_init 48 = .ok (.aload_n 0, 1) := dk_42 (dk_at dksX6_init_2 3 rfl rfl)
theorem dX6_init_49 : decode cX6_init 49 = .ok (.sipush 240, 3) := dk_17 0 240 (dk_at dksX6_init_2 4 rfl rfl)
theorem dX6_init_52 : decode cX6_init 52 = .ok (.newarray .int, 2) := dk_188_10 (dk_at dksX6_init_2 7 rfl rfl)
theorem dX6_init_54 : decode cX6_init 54 = .ok (.putfield 25, 3) := dk_181 0 25 (dk_at dksX6_init_2 9 rfl rfl)
theorem dX6_init_57 : decode cX6_init 57 = .ok (.aload_n 0, 1) := dk_42 (dk_at dksX6_init_2 12 rfl rfl)
theorem dX6_init_58 : decode cX6_init 58 = .ok (.sipush 160, 3) := dk_17 0 160 (dk_at dksX6_init_2 13 rfl rfl)
theorem dX6_init_61 : decode cX6_init 61 = .ok (.newarray .int, 2) := dk_188_10 (dk_at dksX6_init_2 16 rfl rfl)
theorem dX6_init_63 : decode cX6_init 63 = .ok (.putfield 28, 3) := dk_181 0 28 (dk_at dksX6_init_2 18 rfl rfl)
theorem dX6_init_66 : decode cX6_init 66 = .ok (.aload_n 0, 1) := dk_42 (dk_at dksX6_init_2 21 rfl rfl)
theorem dX6_init_67 : decode cX6_init 67 = .ok (.iconst (-1), 1) := dk_2 (dk_at dksX6_init_2 22 rfl rfl)
theorem dX6_init_68 : decode cX6_init 68 = .ok (.putfield 31, 3) := dk_181 0 31 (dk_at dksX6_init_3 0 rfl rfl)
theorem dX6_init_71 : decode cX6_init 71 = .ok (.aload_n 0, 1) := dk_42 (dk_at dksX6_init_3 3 rfl rfl)
theorem dX6_init_72 : decode cX6_init 72 = .ok (.iconst (-1), 1) := dk_2 (dk_at dksX6_init_3 4 rfl rfl)
theorem dX6_init_73 : decode cX6_init 73 = .ok (.putfield 35, 3) := dk_181 0 35 (dk_at dksX6_init_3 5 rfl rfl)
theorem dX6_init_76 : decode cX6_init 76 = .ok (.aload_n 0, 1) := dk_42 (dk_at dksX6_init_3 8 rfl rfl)
theorem dX6_init_77 : decode cX6_init 77 = .ok (.bipush 24, 2) := dk_16 24 (dk_at dksX6_init_3 9 rfl rfl)
theorem dX6_init_79 : decode cX6_init 79 = .ok (.newarray .int, 2) := dk_188_10 (dk_at dksX6_init_3 11 rfl rfl)
theorem dX6_init_81 : decode cX6_init 81 = .ok (.putfield 38, 3) := dk_181 0 38 (dk_at dksX6_init_3 13 rfl rfl)
theorem dX6_init_84 : decode cX6_init 84 = .ok (.aload_n 0, 1) := dk_42 (dk_at dksX6_init_3 16 rfl rfl)
theorem dX6_init_85 : decode cX6_init 85 = .ok (.bipush 24, 2) := dk_16 24 (dk_at dksX6_init_3 17 rfl rfl)
theorem dX6_init_87 : decode cX6_init 87 = .ok (.newarray .int, 2) := dk_188_10 (dk_at dksX6_init_3 19 rfl rfl)
theorem dX6_init_89 : decode cX6_init 89 = .ok (.putfield 41, 3) := dk_181 0 41 (dk_at dksX6_init_3 21 rfl rfl)
theorem dX6_init_92 : decode cX6_init 92 = .ok (.aload_n 0, 1) := dk_42 (dk_at dksX6_init_4 0 rfl rfl)
theorem dX6_init_93 : decode cX6_init 93 = .ok (.bipush 24, 2) := dk_16 24 (dk_at dksX6_init_4 1 rfl rfl)
theorem dX6_init_95 : decode cX6_init 95 = .ok (.newarray .int, 2) := dk_188_10 (dk_at dksX6_init_4 3 rfl rfl)
theorem dX6_init_97 : decode cX6_init 97 = .ok (.putfield 44, 3) := dk_181 0 44 (dk_at dksX6_init_4 5 rfl rfl)
theorem dX6_init_100 : decode cX6_init 100 = .ok (.aload_n 0, 1) := dk_42 (dk_at dksX6_init_4 8 rfl rfl)
theorem dX6_init_101 : decode cX6_init 101 = .ok (.bipush 24, 2) := dk_16 24 (dk_at dksX6_init_4 9 rfl rfl)
theorem dX6_init_103 : decode cX6_init 103 = .ok (.newarray .int, 2) := dk_188_10 (dk_at dksX6_init_4 11 rfl rfl)
theorem dX6_init_105 : decode cX6_init 105 = .ok (.putfield 47, 3) := dk_181 0 47 (dk_at dksX6_init_4 13 rfl rfl)
theorem dX6_init_108 : decode cX6_init 108 = .ok (.aload_n 0, 1) := dk_42 (dk_at dksX6_init_4 16 rfl rfl)
theorem dX6_init_109 : decode cX6_init 109 = .ok (.bipush 24, 2) := dk_16 24 (dk_at dksX6_init_4 17 rfl rfl)
theorem dX6_init_111 : decode cX6_init 111 = .ok (.newarray .int, 2) := dk_188_10 (dk_at dksX6_init_4 19 rfl rfl)
theorem dX6_init_113 : decode cX6_init 113 = .ok (.putfield 50, 3) := dk_181 0 50 (dk_at dksX6_init_4 21 rfl rfl)
theorem dX6_init_116 : decode cX6_init 116 = .ok (.aload_n 0, 1) := dk_42 (dk_at dksX6_init_5 0 rfl rfl)
theorem dX6_init_117 : decode cX6_init 117 = .ok (.bipush 24, 2) := dk_16 24 (dk_at dksX6_init_5 1 rfl rfl)
theorem dX6_init_119 : decode cX6_init 119 = .ok (.newarray .int, 2) := dk_188_10 (dk_at dksX6_init_5 3 rfl rfl)
theorem dX6_init_121 : decode cX6_init 121 = .ok (.putfield 53, 3) := dk_181 0 53 (dk_at dksX6_init_5 5 rfl rfl)
theorem dX6_init_124 : decode cX6_init 124 = .ok (.aload_n 0, 1) := dk_42 (dk_at dksX6_init_5 8 rfl rfl)
theorem dX6_init_125 : decode cX6_init 125 = .ok (.bipush 24, 2) := dk_16 24 (dk_at dksX6_init_5 9 rfl rfl)
theorem dX6_init_127 : decode cX6_init 127 = .ok (.newarray .int, 2) := dk_188_10 (dk_at dksX6_init_5 11 rfl rfl)
theorem dX6_init_129 : decode cX6_init 129 = .ok (.putfield 56, 3) := dk_181 0 56 (dk_at dksX6_init_5 13 rfl rfl)
theorem dX6_init_132 : decode cX6_init 132 = .ok (.aload_n 0, 1) := dk_42 (dk_at dksX6_init_5 16 rfl rfl)
theorem dX6_init_133 : decode cX6_init 133 = .ok (.bipush 72, 2) := dk_16 72 (dk_at dksX6_init_5 17 rfl rfl)
theorem dX6_init_135 : decode cX6_init 135 = .ok (.newarray .int, 2) := dk_188_10 (dk_at dksX6_init_5 19 rfl rfl)
theorem dX6_init_137 : decode cX6_init 137 = .ok (.putfield 59, 3) := dk_181 0 59 (dk_at dksX6_init_5 21 rfl rfl)
theorem dX6_init_140 : decode cX6_init 140 = .ok (.return_, 1) := dk_177 (dk_at dksX6_init_6 0 rfl rfl)
abbrev cX6_thrown : ByteArray := prog_23_method_2_code
def yX6_thrown : MethodName := ⟨RX6, "thrown", "()I"⟩
theorem dX6_thrown_0 : decode cX6_thrown 0 = .ok (.aload_n 0, 1) := by decide +kernel
theorem dX6_thrown_1 : decode cX6_thrown 1 = .ok (.getfield 62, 3) := by decide +kernel
theorem dX6_thrown_4 : decode cX6_thrown 4 = .ok (.ireturn, 1) := by decide +kernel
abbrev cX6_addNoun : ByteArray := prog_23_method_32_code
def yX6_addNoun : MethodName := ⟨RX6, "addNoun", "(I)I"⟩
def dkwX6_addNoun_0 : List UInt8 := [42, 182, 0, 150, 42, 42, 27, 182, 0, 153, 182, 0, 156, 172]
abbrev dktX6_addNoun_0 : List UInt8 := dkwX6_addNoun_0 ++ []
theorem dksX6_addNoun_0 : cX6_addNoun.data.toList.drop 0 = dktX6_addNoun_0 := by decide +kernel
theorem dX6_addNoun_0 : decode cX6_addNoun 0 = .ok (.aload_n 0, 1) := dk_42 (dk_at dksX6_addNoun_0 0 rfl rfl)
theorem dX6_addNoun_1 : decode cX6_addNoun 1 = .ok (.invokevirtual 150, 3) := dk_182 0 150 (dk_at dksX6_addNoun_0 1 rfl rfl)
theorem dX6_addNoun_4 : decode cX6_addNoun 4 = .ok (.aload_n 0, 1) := dk_42 (dk_at dksX6_addNoun_0 4 rfl rfl)
theorem dX6_addNoun_5 : decode cX6_addNoun 5 = .ok (.aload_n 0, 1) := dk_42 (dk_at dksX6_addNoun_0 5 rfl rfl)
theorem dX6_addNoun_6 : decode cX6_addNoun 6 = .ok (.iload_n 1, 1) := dk_27 (dk_at dksX6_addNoun_0 6 rfl rfl)
theorem dX6_addNoun_7 : decode cX6_addNoun 7 = .ok (.invokevirtual 153, 3) := dk_182 0 153 (dk_at dksX6_addNoun_0 7 rfl rfl)
theorem dX6_addNoun_10 : decode cX6_addNoun 10 = .ok (.invokevirtual 156, 3) := dk_182 0 156 (dk_at dksX6_addNoun_0 10 rfl rfl)
theorem dX6_addNoun_13 : decode cX6_addNoun 13 = .ok (.ireturn, 1) := dk_172 (dk_at dksX6_addNoun_0 13 rfl rfl)
abbrev cX6_remembers : ByteArray := prog_23_method_5_code
def yX6_remembers : MethodName := ⟨RX6, "remembers", "()V"⟩
def dkwX6_remembers_1 : List UInt8 := [46, 79, 132, 1, 1, 167, 255, 234, 177]
abbrev dktX6_remembers_1 : List UInt8 := dkwX6_remembers_1 ++ []
def dkwX6_remembers_0 : List UInt8 := [42, 3, 181, 0, 62, 3, 60, 27, 17, 1, 58, 162, 0, 21, 42, 180, 0, 13, 27, 42, 180, 0, 7, 27]
abbrev dktX6_remembers_0 : List UInt8 := dkwX6_remembers_0 ++ dktX6_remembers_1
theorem dksX6_remembers_0 : cX6_remembers.data.toList.drop 0 = dktX6_remembers_0 := by decide +kernel
theorem dksX6_remembers_1 : cX6_remembers.data.toList.drop 24 = dktX6_remembers_1 := dk_seg dksX6_remembers_0 24 rfl rfl
theorem dX6_remembers_0 : decode cX6_remembers 0 = .ok (.aload_n 0, 1) := dk_42 (dk_at dksX6_remembers_0 0 rfl rfl)
theorem dX6_remembers_1 : decode cX6_remembers 1 = .ok (.iconst 0, 1) := dk_3 (dk_at dksX6_remembers_0 1 rfl rfl)
theorem dX6_remembers_2 : decode cX6_remembers 2 = .ok (.putfield 62, 3) := dk_181 0 62 (dk_at dksX6_remembers_0 2 rfl rfl)
theorem dX6_remembers_5 : decode cX6_remembers 5 = .ok (.iconst 0, 1) := dk_3 (dk_at dksX6_remembers_0 5 rfl rfl)
theorem dX6_remembers_6 : decode cX6_remembers 6 = .ok (.istore_n 1, 1) := dk_60 (dk_at dksX6_remembers_0 6 rfl rfl)
theorem dX6_remembers_7 : decode cX6_remembers 7 = .ok (.iload_n 1, 1) := dk_27 (dk_at dksX6_remembers_0 7 rfl rfl)
theorem dX6_remembers_8 : decode cX6_remembers 8 = .ok (.sipush 314, 3) := dk_17 1 58 (dk_at dksX6_remembers_0 8 rfl rfl)
theorem dX6_remembers_11 : decode cX6_remembers 11 = .ok (.if_icmp .ge 21, 3) := dk_162 0 21 (dk_at dksX6_remembers_0 11 rfl rfl)
theorem dX6_remembers_14 : decode cX6_remembers 14 = .ok (.aload_n 0, 1) := dk_42 (dk_at dksX6_remembers_0 14 rfl rfl)
theorem dX6_remembers_15 : decode cX6_remembers 15 = .ok (.getfield 13, 3) := dk_180 0 13 (dk_at dksX6_remembers_0 15 rfl rfl)
theorem dX6_remembers_18 : decode cX6_remembers 18 = .ok (.iload_n 1, 1) := dk_27 (dk_at dksX6_remembers_0 18 rfl rfl)
theorem dX6_remembers_19 : decode cX6_remembers 19 = .ok (.aload_n 0, 1) := dk_42 (dk_at dksX6_remembers_0 19 rfl rfl)
theorem dX6_remembers_20 : decode cX6_remembers 20 = .ok (.getfield 7, 3) := dk_180 0 7 (dk_at dksX6_remembers_0 20 rfl rfl)
theorem dX6_remembers_23 : decode cX6_remembers 23 = .ok (.iload_n 1, 1) := dk_27 (dk_at dksX6_remembers_0 23 rfl rfl)
theorem dX6_remembers_24 : decode cX6_remembers 24 = .ok (.iaload, 1) := dk_46 (dk_at dksX6_remembers_1 0 rfl rfl)
theorem dX6_remembers_25 : decode cX6_remembers 25 = .ok (.iastore, 1) := dk_79 (dk_at dksX6_remembers_1 1 rfl rfl)
theorem dX6_remembers_26 : decode cX6_remembers 26 = .ok (.iinc 1 1, 3) := dk_132 1 1 (dk_at dksX6_remembers_1 2 rfl rfl)
theorem dX6_remembers_29 : decode cX6_remembers 29 = .ok (.goto (-22), 3) := dk_167 255 234 (dk_at dksX6_remembers_1 5 rfl rfl)
theorem dX6_remembers_32 : decode cX6_remembers 32 = .ok (.return_, 1) := dk_177 (dk_at dksX6_remembers_1 8 rfl rfl)
abbrev cX6_nouns : ByteArray := prog_23_method_20_code
def yX6_nouns : MethodName := ⟨RX6, "nouns", "(I)I"⟩
def dkwX6_nouns_2 : List UInt8 := [42, 42, 180, 0, 7, 3, 46, 4, 100, 182, 0, 133, 172]
abbrev dktX6_nouns_2 : List UInt8 := dkwX6_nouns_2 ++ []
def dkwX6_nouns_1 : List UInt8 := [42, 180, 0, 7, 5, 42, 180, 0, 7, 3, 46, 96, 27, 79, 42, 180, 0, 7, 3, 92, 46, 4, 96, 79]
abbrev dktX6_nouns_1 : List UInt8 := dkwX6_nouns_1 ++ dktX6_nouns_2
def dkwX6_nouns_0 : List UInt8 := [27, 3, 5, 184, 0, 78, 154, 0, 5, 4, 172, 42, 180, 0, 7, 3, 46, 16, 8, 160, 0, 5, 5, 172]
abbrev dktX6_nouns_0 : List UInt8 := dkwX6_nouns_0 ++ dktX6_nouns_1
theorem dksX6_nouns_0 : cX6_nouns.data.toList.drop 0 = dktX6_nouns_0 := by decide +kernel
theorem dksX6_nouns_1 : cX6_nouns.data.toList.drop 24 = dktX6_nouns_1 := dk_seg dksX6_nouns_0 24 rfl rfl
theorem dksX6_nouns_2 : cX6_nouns.data.toList.drop 48 = dktX6_nouns_2 := dk_seg dksX6_nouns_1 24 rfl rfl
theorem dX6_nouns_0 : decode cX6_nouns 0 = .ok (.iload_n 1, 1) := dk_27 (dk_at dksX6_nouns_0 0 rfl rfl)
theorem dX6_nouns_1 : decode cX6_nouns 1 = .ok (.iconst 0, 1) := dk_3 (dk_at dksX6_nouns_0 1 rfl rfl)
theorem dX6_nouns_2 : decode cX6_nouns 2 = .ok (.iconst 2, 1) := dk_5 (dk_at dksX6_nouns_0 2 rfl rfl)
theorem dX6_nouns_3 : decode cX6_nouns 3 = .ok (.invokestatic 78, 3) := dk_184 0 78 (dk_at dksX6_nouns_0 3 rfl rfl)
theorem dX6_nouns_6 : decode cX6_nouns 6 = .ok (.ifCond .ne 5, 3) := dk_154 0 5 (dk_at dksX6_nouns_0 6 rfl rfl)
theorem dX6_nouns_9 : decode cX6_nouns 9 = .ok (.iconst 1, 1) := dk_4 (dk_at dksX6_nouns_0 9 rfl rfl)
theorem dX6_nouns_10 : decode cX6_nouns 10 = .ok (.ireturn, 1) := dk_172 (dk_at dksX6_nouns_0 10 rfl rfl)
theorem dX6_nouns_11 : decode cX6_nouns 11 = .ok (.aload_n 0, 1) := dk_42 (dk_at dksX6_nouns_0 11 rfl rfl)
theorem dX6_nouns_12 : decode cX6_nouns 12 = .ok (.getfield 7, 3) := dk_180 0 7 (dk_at dksX6_nouns_0 12 rfl rfl)
theorem dX6_nouns_15 : decode cX6_nouns 15 = .ok (.iconst 0, 1) := dk_3 (dk_at dksX6_nouns_0 15 rfl rfl)
theorem dX6_nouns_16 : decode cX6_nouns 16 = .ok (.iaload, 1) := dk_46 (dk_at dksX6_nouns_0 16 rfl rfl)
theorem dX6_nouns_17 : decode cX6_nouns 17 = .ok (.bipush 8, 2) := dk_16 8 (dk_at dksX6_nouns_0 17 rfl rfl)
theorem dX6_nouns_19 : decode cX6_nouns 19 = .ok (.if_icmp .ne 5, 3) := dk_160 0 5 (dk_at dksX6_nouns_0 19 rfl rfl)
theorem dX6_nouns_22 : decode cX6_nouns 22 = .ok (.iconst 2, 1) := dk_5 (dk_at dksX6_nouns_0 22 rfl rfl)
theorem dX6_nouns_23 : decode cX6_nouns 23 = .ok (.ireturn, 1) := dk_172 (dk_at dksX6_nouns_0 23 rfl rfl)
theorem dX6_nouns_24 : decode cX6_nouns 24 = .ok (.aload_n 0, 1) := dk_42 (dk_at dksX6_nouns_1 0 rfl rfl)
theorem dX6_nouns_25 : decode cX6_nouns 25 = .ok (.getfield 7, 3) := dk_180 0 7 (dk_at dksX6_nouns_1 1 rfl rfl)
theorem dX6_nouns_28 : decode cX6_nouns 28 = .ok (.iconst 2, 1) := dk_5 (dk_at dksX6_nouns_1 4 rfl rfl)
theorem dX6_nouns_29 : decode cX6_nouns 29 = .ok (.aload_n 0, 1) := dk_42 (dk_at dksX6_nouns_1 5 rfl rfl)
theorem dX6_nouns_30 : decode cX6_nouns 30 = .ok (.getfield 7, 3) := dk_180 0 7 (dk_at dksX6_nouns_1 6 rfl rfl)
theorem dX6_nouns_33 : decode cX6_nouns 33 = .ok (.iconst 0, 1) := dk_3 (dk_at dksX6_nouns_1 9 rfl rfl)
theorem dX6_nouns_34 : decode cX6_nouns 34 = .ok (.iaload, 1) := dk_46 (dk_at dksX6_nouns_1 10 rfl rfl)
theorem dX6_nouns_35 : decode cX6_nouns 35 = .ok (.iadd, 1) := dk_96 (dk_at dksX6_nouns_1 11 rfl rfl)
theorem dX6_nouns_36 : decode cX6_nouns 36 = .ok (.iload_n 1, 1) := dk_27 (dk_at dksX6_nouns_1 12 rfl rfl)
theorem dX6_nouns_37 : decode cX6_nouns 37 = .ok (.iastore, 1) := dk_79 (dk_at dksX6_nouns_1 13 rfl rfl)
theorem dX6_nouns_38 : decode cX6_nouns 38 = .ok (.aload_n 0, 1) := dk_42 (dk_at dksX6_nouns_1 14 rfl rfl)
theorem dX6_nouns_39 : decode cX6_nouns 39 = .ok (.getfield 7, 3) := dk_180 0 7 (dk_at dksX6_nouns_1 15 rfl rfl)
theorem dX6_nouns_42 : decode cX6_nouns 42 = .ok (.iconst 0, 1) := dk_3 (dk_at dksX6_nouns_1 18 rfl rfl)
theorem dX6_nouns_43 : decode cX6_nouns 43 = .ok (.dup2, 1) := dk_92 (dk_at dksX6_nouns_1 19 rfl rfl)
theorem dX6_nouns_44 : decode cX6_nouns 44 = .ok (.iaload, 1) := dk_46 (dk_at dksX6_nouns_1 20 rfl rfl)
theorem dX6_nouns_45 : decode cX6_nouns 45 = .ok (.iconst 1, 1) := dk_4 (dk_at dksX6_nouns_1 21 rfl rfl)
theorem dX6_nouns_46 : decode cX6_nouns 46 = .ok (.iadd, 1) := dk_96 (dk_at dksX6_nouns_1 22 rfl rfl)
theorem dX6_nouns_47 : decode cX6_nouns 47 = .ok (.iastore, 1) := dk_79 (dk_at dksX6_nouns_1 23 rfl rfl)
theorem dX6_nouns_48 : decode cX6_nouns 48 = .ok (.aload_n 0, 1) := dk_42 (dk_at dksX6_nouns_2 0 rfl rfl)
theorem dX6_nouns_49 : decode cX6_nouns 49 = .ok (.aload_n 0, 1) := dk_42 (dk_at dksX6_nouns_2 1 rfl rfl)
theorem dX6_nouns_50 : decode cX6_nouns 50 = .ok (.getfield 7, 3) := dk_180 0 7 (dk_at dksX6_nouns_2 2 rfl rfl)
theorem dX6_nouns_53 : decode cX6_nouns 53 = .ok (.iconst 0, 1) := dk_3 (dk_at dksX6_nouns_2 5 rfl rfl)
theorem dX6_nouns_54 : decode cX6_nouns 54 = .ok (.iaload, 1) := dk_46 (dk_at dksX6_nouns_2 6 rfl rfl)
theorem dX6_nouns_55 : decode cX6_nouns 55 = .ok (.iconst 1, 1) := dk_4 (dk_at dksX6_nouns_2 7 rfl rfl)
theorem dX6_nouns_56 : decode cX6_nouns 56 = .ok (.isub, 1) := dk_100 (dk_at dksX6_nouns_2 8 rfl rfl)
theorem dX6_nouns_57 : decode cX6_nouns 57 = .ok (.invokevirtual 133, 3) := dk_182 0 133 (dk_at dksX6_nouns_2 9 rfl rfl)
theorem dX6_nouns_60 : decode cX6_nouns 60 = .ok (.ireturn, 1) := dk_172 (dk_at dksX6_nouns_2 12 rfl rfl)
abbrev cX6_in : ByteArray := prog_23_method_4_code
def yX6_in : MethodName := ⟨RX6, "in", "(III)Z"⟩
def dkwX6_in_0 : List UInt8 := [26, 27, 161, 0, 12, 26, 28, 163, 0, 7, 4, 167, 0, 4, 3, 172]
abbrev dktX6_in_0 : List UInt8 := dkwX6_in_0 ++ []
theorem dksX6_in_0 : cX6_in.data.toList.drop 0 = dktX6_in_0 := by decide +kernel
theorem dX6_in_0 : decode cX6_in 0 = .ok (.iload_n 0, 1) := dk_26 (dk_at dksX6_in_0 0 rfl rfl)
theorem dX6_in_1 : decode cX6_in 1 = .ok (.iload_n 1, 1) := dk_27 (dk_at dksX6_in_0 1 rfl rfl)
theorem dX6_in_2 : decode cX6_in 2 = .ok (.if_icmp .lt 12, 3) := dk_161 0 12 (dk_at dksX6_in_0 2 rfl rfl)
theorem dX6_in_5 : decode cX6_in 5 = .ok (.iload_n 0, 1) := dk_26 (dk_at dksX6_in_0 5 rfl rfl)
theorem dX6_in_6 : decode cX6_in 6 = .ok (.iload_n 2, 1) := dk_28 (dk_at dksX6_in_0 6 rfl rfl)
theorem dX6_in_7 : decode cX6_in 7 = .ok (.if_icmp .gt 7, 3) := dk_163 0 7 (dk_at dksX6_in_0 7 rfl rfl)
theorem dX6_in_10 : decode cX6_in 10 = .ok (.iconst 1, 1) := dk_4 (dk_at dksX6_in_0 10 rfl rfl)
theorem dX6_in_11 : decode cX6_in 11 = .ok (.goto 4, 3) := dk_167 0 4 (dk_at dksX6_in_0 11 rfl rfl)
theorem dX6_in_14 : decode cX6_in 14 = .ok (.iconst 0, 1) := dk_3 (dk_at dksX6_in_0 14 rfl rfl)
theorem dX6_in_15 : decode cX6_in 15 = .ok (.ireturn, 1) := dk_172 (dk_at dksX6_in_0 15 rfl rfl)
abbrev cX6_done : ByteArray := prog_23_method_7_code
def yX6_done : MethodName := ⟨RX6, "done", "(I)I"⟩
def dkwX6_done_0 : List UInt8 := [42, 27, 181, 0, 68, 3, 172]
abbrev dktX6_done_0 : List UInt8 := dkwX6_done_0 ++ []
theorem dksX6_done_0 : cX6_done.data.toList.drop 0 = dktX6_done_0 := by decide +kernel
theorem dX6_done_0 : decode cX6_done 0 = .ok (.aload_n 0, 1) := dk_42 (dk_at dksX6_done_0 0 rfl rfl)
theorem dX6_done_1 : decode cX6_done 1 = .ok (.iload_n 1, 1) := dk_27 (dk_at dksX6_done_0 1 rfl rfl)
theorem dX6_done_2 : decode cX6_done 2 = .ok (.putfield 68, 3) := dk_181 0 68 (dk_at dksX6_done_0 2 rfl rfl)
theorem dX6_done_5 : decode cX6_done 5 = .ok (.iconst 0, 1) := dk_3 (dk_at dksX6_done_0 5 rfl rfl)
theorem dX6_done_6 : decode cX6_done 6 = .ok (.ireturn, 1) := dk_172 (dk_at dksX6_done_0 6 rfl rfl)
abbrev cX6_ends : ByteArray := prog_23_method_8_code
def yX6_ends : MethodName := ⟨RX6, "ends", "(I)I"⟩
def dkwX6_ends_0 : List UInt8 := [27, 154, 0, 14, 42, 42, 180, 0, 68, 182, 0, 71, 167, 0, 8, 42, 27, 182, 0, 75, 172]
abbrev dktX6_ends_0 : List UInt8 := dkwX6_ends_0 ++ []
theorem dksX6_ends_0 : cX6_ends.data.toList.drop 0 = dktX6_ends_0 := by decide +kernel
theorem dX6_ends_0 : decode cX6_ends 0 = .ok (.iload_n 1, 1) := dk_27 (dk_at dksX6_ends_0 0 rfl rfl)
theorem dX6_ends_1 : decode cX6_ends 1 = .ok (.ifCond .ne 14, 3) := dk_154 0 14 (dk_at dksX6_ends_0 1 rfl rfl)
theorem dX6_ends_4 : decode cX6_ends 4 = .ok (.aload_n 0, 1) := dk_42 (dk_at dksX6_ends_0 4 rfl rfl)
theorem dX6_ends_5 : decode cX6_ends 5 = .ok (.aload_n 0, 1) := dk_42 (dk_at dksX6_ends_0 5 rfl rfl)
theorem dX6_ends_6 : decode cX6_ends 6 = .ok (.getfield 68, 3) := dk_180 0 68 (dk_at dksX6_ends_0 6 rfl rfl)
theorem dX6_ends_9 : decode cX6_ends 9 = .ok (.invokevirtual 71, 3) := dk_182 0 71 (dk_at dksX6_ends_0 9 rfl rfl)
theorem dX6_ends_12 : decode cX6_ends 12 = .ok (.goto 8, 3) := dk_167 0 8 (dk_at dksX6_ends_0 12 rfl rfl)
theorem dX6_ends_15 : decode cX6_ends 15 = .ok (.aload_n 0, 1) := dk_42 (dk_at dksX6_ends_0 15 rfl rfl)
theorem dX6_ends_16 : decode cX6_ends 16 = .ok (.iload_n 1, 1) := dk_27 (dk_at dksX6_ends_0 16 rfl rfl)
theorem dX6_ends_17 : decode cX6_ends 17 = .ok (.invokevirtual 75, 3) := dk_182 0 75 (dk_at dksX6_ends_0 17 rfl rfl)
theorem dX6_ends_20 : decode cX6_ends 20 = .ok (.ireturn, 1) := dk_172 (dk_at dksX6_ends_0 20 rfl rfl)
abbrev cX6_changed : ByteArray := prog_23_method_6_code
def yX6_changed : MethodName := ⟨RX6, "changed", "(I)I"⟩
def dkwX6_changed_3 : List UInt8 := [180, 0, 65, 4, 100, 104, 28, 96, 42, 180, 0, 13, 28, 46, 79, 132, 2, 1, 167, 255, 223, 27, 172]
abbrev dktX6_changed_3 : List UInt8 := dkwX6_changed_3 ++ []
def dkwX6_changed_2 : List UInt8 := [4, 96, 181, 0, 65, 3, 61, 28, 17, 1, 58, 162, 0, 32, 42, 180, 0, 19, 17, 1, 58, 42]
abbrev dktX6_changed_2 : List UInt8 := dkwX6_changed_2 ++ dktX6_changed_3
def dkwX6_changed_1 : List UInt8 := [180, 0, 19, 28, 17, 1, 58, 96, 46, 79, 132, 2, 1, 167, 255, 230, 167, 0, 13, 42, 89, 180, 0, 65]
abbrev dktX6_changed_1 : List UInt8 := dkwX6_changed_1 ++ dktX6_changed_2
def dkwX6_changed_0 : List UInt8 := [42, 180, 0, 65, 16, 8, 160, 0, 37, 3, 61, 28, 17, 8, 150, 162, 0, 25, 42, 180, 0, 19, 28, 42]
abbrev dktX6_changed_0 : List UInt8 := dkwX6_changed_0 ++ dktX6_changed_1
theorem dksX6_changed_0 : cX6_changed.data.toList.drop 0 = dktX6_changed_0 := by decide +kernel
theorem dksX6_changed_1 : cX6_changed.data.toList.drop 24 = dktX6_changed_1 := dk_seg dksX6_changed_0 24 rfl rfl
theorem dksX6_changed_2 : cX6_changed.data.toList.drop 48 = dktX6_changed_2 := dk_seg dksX6_changed_1 24 rfl rfl
theorem dksX6_changed_3 : cX6_changed.data.toList.drop 70 = dktX6_changed_3 := dk_seg dksX6_changed_2 22 rfl rfl
theorem dX6_changed_0 : decode cX6_changed 0 = .ok (.aload_n 0, 1) := dk_42 (dk_at dksX6_changed_0 0 rfl rfl)
theorem dX6_changed_1 : decode cX6_changed 1 = .ok (.getfield 65, 3) := dk_180 0 65 (dk_at dksX6_changed_0 1 rfl rfl)
theorem dX6_changed_4 : decode cX6_changed 4 = .ok (.bipush 8, 2) := dk_16 8 (dk_at dksX6_changed_0 4 rfl rfl)
theorem dX6_changed_6 : decode cX6_changed 6 = .ok (.if_icmp .ne 37, 3) := dk_160 0 37 (dk_at dksX6_changed_0 6 rfl rfl)
theorem dX6_changed_9 : decode cX6_changed 9 = .ok (.iconst 0, 1) := dk_3 (dk_at dksX6_changed_0 9 rfl rfl)
theorem dX6_changed_10 : decode cX6_changed 10 = .ok (.istore_n 2, 1) := dk_61 (dk_at dksX6_changed_0 10 rfl rfl)
theorem dX6_changed_11 : decode cX6_changed 11 = .ok (.iload_n 2, 1) := dk_28 (dk_at dksX6_changed_0 11 rfl rfl)
theorem dX6_changed_12 : decode cX6_changed 12 = .ok (.sipush 2198, 3) := dk_17 8 150 (dk_at dksX6_changed_0 12 rfl rfl)
theorem dX6_changed_15 : decode cX6_changed 15 = .ok (.if_icmp .ge 25, 3) := dk_162 0 25 (dk_at dksX6_changed_0 15 rfl rfl)
theorem dX6_changed_18 : decode cX6_changed 18 = .ok (.aload_n 0, 1) := dk_42 (dk_at dksX6_changed_0 18 rfl rfl)
theorem dX6_changed_19 : decode cX6_changed 19 = .ok (.getfield 19, 3) := dk_180 0 19 (dk_at dksX6_changed_0 19 rfl rfl)
theorem dX6_changed_22 : decode cX6_changed 22 = .ok (.iload_n 2, 1) := dk_28 (dk_at dksX6_changed_0 22 rfl rfl)
theorem dX6_changed_23 : decode cX6_changed 23 = .ok (.aload_n 0, 1) := dk_42 (dk_at dksX6_changed_0 23 rfl rfl)
theorem dX6_changed_24 : decode cX6_changed 24 = .ok (.getfield 19, 3) := dk_180 0 19 (dk_at dksX6_changed_1 0 rfl rfl)
theorem dX6_changed_27 : decode cX6_changed 27 = .ok (.iload_n 2, 1) := dk_28 (dk_at dksX6_changed_1 3 rfl rfl)
theorem dX6_changed_28 : decode cX6_changed 28 = .ok (.sipush 314, 3) := dk_17 1 58 (dk_at dksX6_changed_1 4 rfl rfl)
theorem dX6_changed_31 : decode cX6_changed 31 = .ok (.iadd, 1) := dk_96 (dk_at dksX6_changed_1 7 rfl rfl)
theorem dX6_changed_32 : decode cX6_changed 32 = .ok (.iaload, 1) := dk_46 (dk_at dksX6_changed_1 8 rfl rfl)
theorem dX6_changed_33 : decode cX6_changed 33 = .ok (.iastore, 1) := dk_79 (dk_at dksX6_changed_1 9 rfl rfl)
theorem dX6_changed_34 : decode cX6_changed 34 = .ok (.iinc 2 1, 3) := dk_132 2 1 (dk_at dksX6_changed_1 10 rfl rfl)
theorem dX6_changed_37 : decode cX6_changed 37 = .ok (.goto (-26), 3) := dk_167 255 230 (dk_at dksX6_changed_1 13 rfl rfl)
theorem dX6_changed_40 : decode cX6_changed 40 = .ok (.goto 13, 3) := dk_167 0 13 (dk_at dksX6_changed_1 16 rfl rfl)
theorem dX6_changed_43 : decode cX6_changed 43 = .ok (.aload_n 0, 1) := dk_42 (dk_at dksX6_changed_1 19 rfl rfl)
theorem dX6_changed_44 : decode cX6_changed 44 = .ok (.dup, 1) := dk_89 (dk_at dksX6_changed_1 20 rfl rfl)
theorem dX6_changed_45 : decode cX6_changed 45 = .ok (.getfield 65, 3) := dk_180 0 65 (dk_at dksX6_changed_1 21 rfl rfl)
theorem dX6_changed_48 : decode cX6_changed 48 = .ok (.iconst 1, 1) := dk_4 (dk_at dksX6_changed_2 0 rfl rfl)
theorem dX6_changed_49 : decode cX6_changed 49 = .ok (.iadd, 1) := dk_96 (dk_at dksX6_changed_2 1 rfl rfl)
theorem dX6_changed_50 : decode cX6_changed 50 = .ok (.putfield 65, 3) := dk_181 0 65 (dk_at dksX6_changed_2 2 rfl rfl)
theorem dX6_changed_53 : decode cX6_changed 53 = .ok (.iconst 0, 1) := dk_3 (dk_at dksX6_changed_2 5 rfl rfl)
theorem dX6_changed_54 : decode cX6_changed 54 = .ok (.istore_n 2, 1) := dk_61 (dk_at dksX6_changed_2 6 rfl rfl)
theorem dX6_changed_55 : decode cX6_changed 55 = .ok (.iload_n 2, 1) := dk_28 (dk_at dksX6_changed_2 7 rfl rfl)
theorem dX6_changed_56 : decode cX6_changed 56 = .ok (.sipush 314, 3) := dk_17 1 58 (dk_at dksX6_changed_2 8 rfl rfl)
theorem dX6_changed_59 : decode cX6_changed 59 = .ok (.if_icmp .ge 32, 3) := dk_162 0 32 (dk_at dksX6_changed_2 11 rfl rfl)
theorem dX6_changed_62 : decode cX6_changed 62 = .ok (.aload_n 0, 1) := dk_42 (dk_at dksX6_changed_2 14 rfl rfl)
theorem dX6_changed_63 : decode cX6_changed 63 = .ok (.getfield 19, 3) := dk_180 0 19 (dk_at dksX6_changed_2 15 rfl rfl)
theorem dX6_changed_66 : decode cX6_changed 66 = .ok (.sipush 314, 3) := dk_17 1 58 (dk_at dksX6_changed_2 18 rfl rfl)
theorem dX6_changed_69 : decode cX6_changed 69 = .ok (.aload_n 0, 1) := dk_42 (dk_at dksX6_changed_2 21 rfl rfl)
theorem dX6_changed_70 : decode cX6_changed 70 = .ok (.getfield 65, 3) := dk_180 0 65 (dk_at dksX6_changed_3 0 rfl rfl)
theorem dX6_changed_73 : decode cX6_changed 73 = .ok (.iconst 1, 1) := dk_4 (dk_at dksX6_changed_3 3 rfl rfl)
theorem dX6_changed_74 : decode cX6_changed 74 = .ok (.isub, 1) := dk_100 (dk_at dksX6_changed_3 4 rfl rfl)
theorem dX6_changed_75 : decode cX6_changed 75 = .ok (.imul, 1) := dk_104 (dk_at dksX6_changed_3 5 rfl rfl)
theorem dX6_changed_76 : decode cX6_changed 76 = .ok (.iload_n 2, 1) := dk_28 (dk_at dksX6_changed_3 6 rfl rfl)
theorem dX6_changed_77 : decode cX6_changed 77 = .ok (.iadd, 1) := dk_96 (dk_at dksX6_changed_3 7 rfl rfl)
theorem dX6_changed_78 : decode cX6_changed 78 = .ok (.aload_n 0, 1) := dk_42 (dk_at dksX6_changed_3 8 rfl rfl)
theorem dX6_changed_79 : decode cX6_changed 79 = .ok (.getfield 13, 3) := dk_180 0 13 (dk_at dksX6_changed_3 9 rfl rfl)
theorem dX6_changed_82 : decode cX6_changed 82 = .ok (.iload_n 2, 1) := dk_28 (dk_at dksX6_changed_3 12 rfl rfl)
theorem dX6_changed_83 : decode cX6_changed 83 = .ok (.iaload, 1) := dk_46 (dk_at dksX6_changed_3 13 rfl rfl)
theorem dX6_changed_84 : decode cX6_changed 84 = .ok (.iastore, 1) := dk_79 (dk_at dksX6_changed_3 14 rfl rfl)
theorem dX6_changed_85 : decode cX6_changed 85 = .ok (.iinc 2 1, 3) := dk_132 2 1 (dk_at dksX6_changed_3 15 rfl rfl)
theorem dX6_changed_88 : decode cX6_changed 88 = .ok (.goto (-33), 3) := dk_167 255 223 (dk_at dksX6_changed_3 18 rfl rfl)
theorem dX6_changed_91 : decode cX6_changed 91 = .ok (.iload_n 1, 1) := dk_27 (dk_at dksX6_changed_3 21 rfl rfl)
theorem dX6_changed_92 : decode cX6_changed 92 = .ok (.ireturn, 1) := dk_172 (dk_at dksX6_changed_3 22 rfl rfl)
abbrev cX6_fails : ByteArray := prog_23_method_3_code
def yX6_fails : MethodName := ⟨RX6, "fails", "(I)I"⟩
def dkwX6_fails_0 : List UInt8 := [42, 27, 181, 0, 62, 3, 172]
abbrev dktX6_fails_0 : List UInt8 := dkwX6_fails_0 ++ []
theorem dksX6_fails_0 : cX6_fails.data.toList.drop 0 = dktX6_fails_0 := by decide +kernel
theorem dX6_fails_0 : decode cX6_fails 0 = .ok (.aload_n 0, 1) := dk_42 (dk_at dksX6_fails_0 0 rfl rfl)
theorem dX6_fails_1 : decode cX6_fails 1 = .ok (.iload_n 1, 1) := dk_27 (dk_at dksX6_fails_0 1 rfl rfl)
theorem dX6_fails_2 : decode cX6_fails 2 = .ok (.putfield 62, 3) := dk_181 0 62 (dk_at dksX6_fails_0 2 rfl rfl)
theorem dX6_fails_5 : decode cX6_fails 5 = .ok (.iconst 0, 1) := dk_3 (dk_at dksX6_fails_0 5 rfl rfl)
theorem dX6_fails_6 : decode cX6_fails 6 = .ok (.ireturn, 1) := dk_172 (dk_at dksX6_fails_0 6 rfl rfl)
abbrev cX6_addVerb : ByteArray := prog_23_method_33_code
def yX6_addVerb : MethodName := ⟨RX6, "addVerb", "(I)I"⟩
def dkwX6_addVerb_0 : List UInt8 := [42, 182, 0, 150, 42, 42, 27, 182, 0, 159, 182, 0, 156, 172]
abbrev dktX6_addVerb_0 : List UInt8 := dkwX6_addVerb_0 ++ []
theorem dksX6_addVerb_0 : cX6_addVerb.data.toList.drop 0 = dktX6_addVerb_0 := by decide +kernel
theorem dX6_addVerb_0 : decode cX6_addVerb 0 = .ok (.aload_n 0, 1) := dk_42 (dk_at dksX6_addVerb_0 0 rfl rfl)
theorem dX6_addVerb_1 : decode cX6_addVerb 1 = .ok (.invokevirtual 150, 3) := dk_182 0 150 (dk_at dksX6_addVerb_0 1 rfl rfl)
theorem dX6_addVerb_4 : decode cX6_addVerb 4 = .ok (.aload_n 0, 1) := dk_42 (dk_at dksX6_addVerb_0 4 rfl rfl)
theorem dX6_addVerb_5 : decode cX6_addVerb 5 = .ok (.aload_n 0, 1) := dk_42 (dk_at dksX6_addVerb_0 5 rfl rfl)
theorem dX6_addVerb_6 : decode cX6_addVerb 6 = .ok (.iload_n 1, 1) := dk_27 (dk_at dksX6_addVerb_0 6 rfl rfl)
theorem dX6_addVerb_7 : decode cX6_addVerb 7 = .ok (.invokevirtual 159, 3) := dk_182 0 159 (dk_at dksX6_addVerb_0 7 rfl rfl)
theorem dX6_addVerb_10 : decode cX6_addVerb 10 = .ok (.invokevirtual 156, 3) := dk_182 0 156 (dk_at dksX6_addVerb_0 10 rfl rfl)
theorem dX6_addVerb_13 : decode cX6_addVerb 13 = .ok (.ireturn, 1) := dk_172 (dk_at dksX6_addVerb_0 13 rfl rfl)
abbrev cX6_verbs : ByteArray := prog_23_method_21_code
def yX6_verbs : MethodName := ⟨RX6, "verbs", "(I)I"⟩
def dkwX6_verbs_2 : List UInt8 := [79, 42, 42, 180, 0, 7, 4, 46, 4, 100, 182, 0, 133, 172]
abbrev dktX6_verbs_2 : List UInt8 := dkwX6_verbs_2 ++ []
def dkwX6_verbs_1 : List UInt8 := [42, 180, 0, 7, 16, 10, 42, 180, 0, 7, 4, 46, 96, 27, 79, 42, 180, 0, 7, 4, 92, 46, 4, 96]
abbrev dktX6_verbs_1 : List UInt8 := dkwX6_verbs_1 ++ dktX6_verbs_2
def dkwX6_verbs_0 : List UInt8 := [27, 3, 6, 184, 0, 78, 154, 0, 5, 4, 172, 42, 180, 0, 7, 4, 46, 16, 8, 160, 0, 5, 5, 172]
abbrev dktX6_verbs_0 : List UInt8 := dkwX6_verbs_0 ++ dktX6_verbs_1
theorem dksX6_verbs_0 : cX6_verbs.data.toList.drop 0 = dktX6_verbs_0 := by decide +kernel
theorem dksX6_verbs_1 : cX6_verbs.data.toList.drop 24 = dktX6_verbs_1 := dk_seg dksX6_verbs_0 24 rfl rfl
theorem dksX6_verbs_2 : cX6_verbs.data.toList.drop 48 = dktX6_verbs_2 := dk_seg dksX6_verbs_1 24 rfl rfl
theorem dX6_verbs_0 : decode cX6_verbs 0 = .ok (.iload_n 1, 1) := dk_27 (dk_at dksX6_verbs_0 0 rfl rfl)
theorem dX6_verbs_1 : decode cX6_verbs 1 = .ok (.iconst 0, 1) := dk_3 (dk_at dksX6_verbs_0 1 rfl rfl)
theorem dX6_verbs_2 : decode cX6_verbs 2 = .ok (.iconst 3, 1) := dk_6 (dk_at dksX6_verbs_0 2 rfl rfl)
theorem dX6_verbs_3 : decode cX6_verbs 3 = .ok (.invokestatic 78, 3) := dk_184 0 78 (dk_at dksX6_verbs_0 3 rfl rfl)
theorem dX6_verbs_6 : decode cX6_verbs 6 = .ok (.ifCond .ne 5, 3) := dk_154 0 5 (dk_at dksX6_verbs_0 6 rfl rfl)
theorem dX6_verbs_9 : decode cX6_verbs 9 = .ok (.iconst 1, 1) := dk_4 (dk_at dksX6_verbs_0 9 rfl rfl)
theorem dX6_verbs_10 : decode cX6_verbs 10 = .ok (.ireturn, 1) := dk_172 (dk_at dksX6_verbs_0 10 rfl rfl)
theorem dX6_verbs_11 : decode cX6_verbs 11 = .ok (.aload_n 0, 1) := dk_42 (dk_at dksX6_verbs_0 11 rfl rfl)
theorem dX6_verbs_12 : decode cX6_verbs 12 = .ok (.getfield 7, 3) := dk_180 0 7 (dk_at dksX6_verbs_0 12 rfl rfl)
theorem dX6_verbs_15 : decode cX6_verbs 15 = .ok (.iconst 1, 1) := dk_4 (dk_at dksX6_verbs_0 15 rfl rfl)
theorem dX6_verbs_16 : decode cX6_verbs 16 = .ok (.iaload, 1) := dk_46 (dk_at dksX6_verbs_0 16 rfl rfl)
theorem dX6_verbs_17 : decode cX6_verbs 17 = .ok (.bipush 8, 2) := dk_16 8 (dk_at dksX6_verbs_0 17 rfl rfl)
theorem dX6_verbs_19 : decode cX6_verbs 19 = .ok (.if_icmp .ne 5, 3) := dk_160 0 5 (dk_at dksX6_verbs_0 19 rfl rfl)
theorem dX6_verbs_22 : decode cX6_verbs 22 = .ok (.iconst 2, 1) := dk_5 (dk_at dksX6_verbs_0 22 rfl rfl)
theorem dX6_verbs_23 : decode cX6_verbs 23 = .ok (.ireturn, 1) := dk_172 (dk_at dksX6_verbs_0 23 rfl rfl)
theorem dX6_verbs_24 : decode cX6_verbs 24 = .ok (.aload_n 0, 1) := dk_42 (dk_at dksX6_verbs_1 0 rfl rfl)
theorem dX6_verbs_25 : decode cX6_verbs 25 = .ok (.getfield 7, 3) := dk_180 0 7 (dk_at dksX6_verbs_1 1 rfl rfl)
theorem dX6_verbs_28 : decode cX6_verbs 28 = .ok (.bipush 10, 2) := dk_16 10 (dk_at dksX6_verbs_1 4 rfl rfl)
theorem dX6_verbs_30 : decode cX6_verbs 30 = .ok (.aload_n 0, 1) := dk_42 (dk_at dksX6_verbs_1 6 rfl rfl)
theorem dX6_verbs_31 : decode cX6_verbs 31 = .ok (.getfield 7, 3) := dk_180 0 7 (dk_at dksX6_verbs_1 7 rfl rfl)
theorem dX6_verbs_34 : decode cX6_verbs 34 = .ok (.iconst 1, 1) := dk_4 (dk_at dksX6_verbs_1 10 rfl rfl)
theorem dX6_verbs_35 : decode cX6_verbs 35 = .ok (.iaload, 1) := dk_46 (dk_at dksX6_verbs_1 11 rfl rfl)
theorem dX6_verbs_36 : decode cX6_verbs 36 = .ok (.iadd, 1) := dk_96 (dk_at dksX6_verbs_1 12 rfl rfl)
theorem dX6_verbs_37 : decode cX6_verbs 37 = .ok (.iload_n 1, 1) := dk_27 (dk_at dksX6_verbs_1 13 rfl rfl)
theorem dX6_verbs_38 : decode cX6_verbs 38 = .ok (.iastore, 1) := dk_79 (dk_at dksX6_verbs_1 14 rfl rfl)
theorem dX6_verbs_39 : decode cX6_verbs 39 = .ok (.aload_n 0, 1) := dk_42 (dk_at dksX6_verbs_1 15 rfl rfl)
theorem dX6_verbs_40 : decode cX6_verbs 40 = .ok (.getfield 7, 3) := dk_180 0 7 (dk_at dksX6_verbs_1 16 rfl rfl)
theorem dX6_verbs_43 : decode cX6_verbs 43 = .ok (.iconst 1, 1) := dk_4 (dk_at dksX6_verbs_1 19 rfl rfl)
theorem dX6_verbs_44 : decode cX6_verbs 44 = .ok (.dup2, 1) := dk_92 (dk_at dksX6_verbs_1 20 rfl rfl)
theorem dX6_verbs_45 : decode cX6_verbs 45 = .ok (.iaload, 1) := dk_46 (dk_at dksX6_verbs_1 21 rfl rfl)
theorem dX6_verbs_46 : decode cX6_verbs 46 = .ok (.iconst 1, 1) := dk_4 (dk_at dksX6_verbs_1 22 rfl rfl)
theorem dX6_verbs_47 : decode cX6_verbs 47 = .ok (.iadd, 1) := dk_96 (dk_at dksX6_verbs_1 23 rfl rfl)
theorem dX6_verbs_48 : decode cX6_verbs 48 = .ok (.iastore, 1) := dk_79 (dk_at dksX6_verbs_2 0 rfl rfl)
theorem dX6_verbs_49 : decode cX6_verbs 49 = .ok (.aload_n 0, 1) := dk_42 (dk_at dksX6_verbs_2 1 rfl rfl)
theorem dX6_verbs_50 : decode cX6_verbs 50 = .ok (.aload_n 0, 1) := dk_42 (dk_at dksX6_verbs_2 2 rfl rfl)
theorem dX6_verbs_51 : decode cX6_verbs 51 = .ok (.getfield 7, 3) := dk_180 0 7 (dk_at dksX6_verbs_2 3 rfl rfl)
theorem dX6_verbs_54 : decode cX6_verbs 54 = .ok (.iconst 1, 1) := dk_4 (dk_at dksX6_verbs_2 6 rfl rfl)
theorem dX6_verbs_55 : decode cX6_verbs 55 = .ok (.iaload, 1) := dk_46 (dk_at dksX6_verbs_2 7 rfl rfl)
theorem dX6_verbs_56 : decode cX6_verbs 56 = .ok (.iconst 1, 1) := dk_4 (dk_at dksX6_verbs_2 8 rfl rfl)
theorem dX6_verbs_57 : decode cX6_verbs 57 = .ok (.isub, 1) := dk_100 (dk_at dksX6_verbs_2 9 rfl rfl)
theorem dX6_verbs_58 : decode cX6_verbs 58 = .ok (.invokevirtual 133, 3) := dk_182 0 133 (dk_at dksX6_verbs_2 10 rfl rfl)
theorem dX6_verbs_61 : decode cX6_verbs 61 = .ok (.ireturn, 1) := dk_172 (dk_at dksX6_verbs_2 13 rfl rfl)
abbrev cX6_setObjectCase : ByteArray := prog_23_method_34_code
def yX6_setObjectCase : MethodName := ⟨RX6, "setObjectCase", "(II)I"⟩
def dkwX6_setObjectCase_0 : List UInt8 := [42, 182, 0, 150, 42, 42, 27, 28, 182, 0, 162, 182, 0, 156, 172]
abbrev dktX6_setObjectCase_0 : List UInt8 := dkwX6_setObjectCase_0 ++ []
theorem dksX6_setObjectCase_0 : cX6_setObjectCase.data.toList.drop 0 = dktX6_setObjectCase_0 := by decide +kernel
theorem dX6_setObjectCase_0 : decode cX6_setObjectCase 0 = .ok (.aload_n 0, 1) := dk_42 (dk_at dksX6_setObjectCase_0 0 rfl rfl)
theorem dX6_setObjectCase_1 : decode cX6_setObjectCase 1 = .ok (.invokevirtual 150, 3) := dk_182 0 150 (dk_at dksX6_setObjectCase_0 1 rfl rfl)
theorem dX6_setObjectCase_4 : decode cX6_setObjectCase 4 = .ok (.aload_n 0, 1) := dk_42 (dk_at dksX6_setObjectCase_0 4 rfl rfl)
theorem dX6_setObjectCase_5 : decode cX6_setObjectCase 5 = .ok (.aload_n 0, 1) := dk_42 (dk_at dksX6_setObjectCase_0 5 rfl rfl)
theorem dX6_setObjectCase_6 : decode cX6_setObjectCase 6 = .ok (.iload_n 1, 1) := dk_27 (dk_at dksX6_setObjectCase_0 6 rfl rfl)
theorem dX6_setObjectCase_7 : decode cX6_setObjectCase 7 = .ok (.iload_n 2, 1) := dk_28 (dk_at dksX6_setObjectCase_0 7 rfl rfl)
theorem dX6_setObjectCase_8 : decode cX6_setObjectCase 8 = .ok (.invokevirtual 162, 3) := dk_182 0 162 (dk_at dksX6_setObjectCase_0 8 rfl rfl)
theorem dX6_setObjectCase_11 : decode cX6_setObjectCase 11 = .ok (.invokevirtual 156, 3) := dk_182 0 156 (dk_at dksX6_setObjectCase_0 11 rfl rfl)
theorem dX6_setObjectCase_14 : decode cX6_setObjectCase 14 = .ok (.ireturn, 1) := dk_172 (dk_at dksX6_setObjectCase_0 14 rfl rfl)
abbrev cX6_governs : ByteArray := prog_23_method_22_code
def yX6_governs : MethodName := ⟨RX6, "governs", "(II)I"⟩
def dkwX6_governs_2 : List UInt8 := [79, 42, 29, 182, 0, 133, 172]
abbrev dktX6_governs_2 : List UInt8 := dkwX6_governs_2 ++ []
def dkwX6_governs_1 : List UInt8 := [154, 0, 5, 5, 172, 42, 180, 0, 7, 16, 10, 27, 96, 46, 62, 42, 180, 0, 7, 16, 10, 27, 96, 28]
abbrev dktX6_governs_1 : List UInt8 := dkwX6_governs_1 ++ dktX6_governs_2
def dkwX6_governs_0 : List UInt8 := [27, 3, 42, 180, 0, 7, 4, 46, 4, 100, 184, 0, 78, 154, 0, 5, 4, 172, 28, 3, 6, 184, 0, 78]
abbrev dktX6_governs_0 : List UInt8 := dkwX6_governs_0 ++ dktX6_governs_1
theorem dksX6_governs_0 : cX6_governs.data.toList.drop 0 = dktX6_governs_0 := by decide +kernel
theorem dksX6_governs_1 : cX6_governs.data.toList.drop 24 = dktX6_governs_1 := dk_seg dksX6_governs_0 24 rfl rfl
theorem dksX6_governs_2 : cX6_governs.data.toList.drop 48 = dktX6_governs_2 := dk_seg dksX6_governs_1 24 rfl rfl
theorem dX6_governs_0 : decode cX6_governs 0 = .ok (.iload_n 1, 1) := dk_27 (dk_at dksX6_governs_0 0 rfl rfl)
theorem dX6_governs_1 : decode cX6_governs 1 = .ok (.iconst 0, 1) := dk_3 (dk_at dksX6_governs_0 1 rfl rfl)
theorem dX6_governs_2 : decode cX6_governs 2 = .ok (.aload_n 0, 1) := dk_42 (dk_at dksX6_governs_0 2 rfl rfl)
theorem dX6_governs_3 : decode cX6_governs 3 = .ok (.getfield 7, 3) := dk_180 0 7 (dk_at dksX6_governs_0 3 rfl rfl)
theorem dX6_governs_6 : decode cX6_governs 6 = .ok (.iconst 1, 1) := dk_4 (dk_at dksX6_governs_0 6 rfl rfl)
theorem dX6_governs_7 : decode cX6_governs 7 = .ok (.iaload, 1) := dk_46 (dk_at dksX6_governs_0 7 rfl rfl)
theorem dX6_governs_8 : decode cX6_governs 8 = .ok (.iconst 1, 1) := dk_4 (dk_at dksX6_governs_0 8 rfl rfl)
theorem dX6_governs_9 : decode cX6_governs 9 = .ok (.isub, 1) := dk_100 (dk_at dksX6_governs_0 9 rfl rfl)
theorem dX6_governs_10 : decode cX6_governs 10 = .ok (.invokestatic 78, 3) := dk_184 0 78 (dk_at dksX6_governs_0 10 rfl rfl)
theorem dX6_governs_13 : decode cX6_governs 13 = .ok (.ifCond .ne 5, 3) := dk_154 0 5 (dk_at dksX6_governs_0 13 rfl rfl)
theorem dX6_governs_16 : decode cX6_governs 16 = .ok (.iconst 1, 1) := dk_4 (dk_at dksX6_governs_0 16 rfl rfl)
theorem dX6_governs_17 : decode cX6_governs 17 = .ok (.ireturn, 1) := dk_172 (dk_at dksX6_governs_0 17 rfl rfl)
theorem dX6_governs_18 : decode cX6_governs 18 = .ok (.iload_n 2, 1) := dk_28 (dk_at dksX6_governs_0 18 rfl rfl)
theorem dX6_governs_19 : decode cX6_governs 19 = .ok (.iconst 0, 1) := dk_3 (dk_at dksX6_governs_0 19 rfl rfl)
theorem dX6_governs_20 : decode cX6_governs 20 = .ok (.iconst 3, 1) := dk_6 (dk_at dksX6_governs_0 20 rfl rfl)
theorem dX6_governs_21 : decode cX6_governs 21 = .ok (.invokestatic 78, 3) := dk_184 0 78 (dk_at dksX6_governs_0 21 rfl rfl)
theorem dX6_governs_24 : decode cX6_governs 24 = .ok (.ifCond .ne 5, 3) := dk_154 0 5 (dk_at dksX6_governs_1 0 rfl rfl)
theorem dX6_governs_27 : decode cX6_governs 27 = .ok (.iconst 2, 1) := dk_5 (dk_at dksX6_governs_1 3 rfl rfl)
theorem dX6_governs_28 : decode cX6_governs 28 = .ok (.ireturn, 1) := dk_172 (dk_at dksX6_governs_1 4 rfl rfl)
theorem dX6_governs_29 : decode cX6_governs 29 = .ok (.aload_n 0, 1) := dk_42 (dk_at dksX6_governs_1 5 rfl rfl)
theorem dX6_governs_30 : decode cX6_governs 30 = .ok (.getfield 7, 3) := dk_180 0 7 (dk_at dksX6_governs_1 6 rfl rfl)
theorem dX6_governs_33 : decode cX6_governs 33 = .ok (.bipush 10, 2) := dk_16 10 (dk_at dksX6_governs_1 9 rfl rfl)
theorem dX6_governs_35 : decode cX6_governs 35 = .ok (.iload_n 1, 1) := dk_27 (dk_at dksX6_governs_1 11 rfl rfl)
theorem dX6_governs_36 : decode cX6_governs 36 = .ok (.iadd, 1) := dk_96 (dk_at dksX6_governs_1 12 rfl rfl)
theorem dX6_governs_37 : decode cX6_governs 37 = .ok (.iaload, 1) := dk_46 (dk_at dksX6_governs_1 13 rfl rfl)
theorem dX6_governs_38 : decode cX6_governs 38 = .ok (.istore_n 3, 1) := dk_62 (dk_at dksX6_governs_1 14 rfl rfl)
theorem dX6_governs_39 : decode cX6_governs 39 = .ok (.aload_n 0, 1) := dk_42 (dk_at dksX6_governs_1 15 rfl rfl)
theorem dX6_governs_40 : decode cX6_governs 40 = .ok (.getfield 7, 3) := dk_180 0 7 (dk_at dksX6_governs_1 16 rfl rfl)
theorem dX6_governs_43 : decode cX6_governs 43 = .ok (.bipush 10, 2) := dk_16 10 (dk_at dksX6_governs_1 19 rfl rfl)
theorem dX6_governs_45 : decode cX6_governs 45 = .ok (.iload_n 1, 1) := dk_27 (dk_at dksX6_governs_1 21 rfl rfl)
theorem dX6_governs_46 : decode cX6_governs 46 = .ok (.iadd, 1) := dk_96 (dk_at dksX6_governs_1 22 rfl rfl)
theorem dX6_governs_47 : decode cX6_governs 47 = .ok (.iload_n 2, 1) := dk_28 (dk_at dksX6_governs_1 23 rfl rfl)
theorem dX6_governs_48 : decode cX6_governs 48 = .ok (.iastore, 1) := dk_79 (dk_at dksX6_governs_2 0 rfl rfl)
theorem dX6_governs_49 : decode cX6_governs 49 = .ok (.aload_n 0, 1) := dk_42 (dk_at dksX6_governs_2 1 rfl rfl)
theorem dX6_governs_50 : decode cX6_governs 50 = .ok (.iload_n 3, 1) := dk_29 (dk_at dksX6_governs_2 2 rfl rfl)
theorem dX6_governs_51 : decode cX6_governs 51 = .ok (.invokevirtual 133, 3) := dk_182 0 133 (dk_at dksX6_governs_2 3 rfl rfl)
theorem dX6_governs_54 : decode cX6_governs 54 = .ok (.ireturn, 1) := dk_172 (dk_at dksX6_governs_2 6 rfl rfl)
abbrev cX6_nounCount : ByteArray := prog_23_method_35_code
def yX6_nounCount : MethodName := ⟨RX6, "nounCount", "()I"⟩
def dkwX6_nounCount_0 : List UInt8 := [42, 3, 181, 0, 62, 42, 180, 0, 7, 3, 46, 172]
abbrev dktX6_nounCount_0 : List UInt8 := dkwX6_nounCount_0 ++ []
theorem dksX6_nounCount_0 : cX6_nounCount.data.toList.drop 0 = dktX6_nounCount_0 := by decide +kernel
theorem dX6_nounCount_0 : decode cX6_nounCount 0 = .ok (.aload_n 0, 1) := dk_42 (dk_at dksX6_nounCount_0 0 rfl rfl)
theorem dX6_nounCount_1 : decode cX6_nounCount 1 = .ok (.iconst 0, 1) := dk_3 (dk_at dksX6_nounCount_0 1 rfl rfl)
theorem dX6_nounCount_2 : decode cX6_nounCount 2 = .ok (.putfield 62, 3) := dk_181 0 62 (dk_at dksX6_nounCount_0 2 rfl rfl)
theorem dX6_nounCount_5 : decode cX6_nounCount 5 = .ok (.aload_n 0, 1) := dk_42 (dk_at dksX6_nounCount_0 5 rfl rfl)
theorem dX6_nounCount_6 : decode cX6_nounCount 6 = .ok (.getfield 7, 3) := dk_180 0 7 (dk_at dksX6_nounCount_0 6 rfl rfl)
theorem dX6_nounCount_9 : decode cX6_nounCount 9 = .ok (.iconst 0, 1) := dk_3 (dk_at dksX6_nounCount_0 9 rfl rfl)
theorem dX6_nounCount_10 : decode cX6_nounCount 10 = .ok (.iaload, 1) := dk_46 (dk_at dksX6_nounCount_0 10 rfl rfl)
theorem dX6_nounCount_11 : decode cX6_nounCount 11 = .ok (.ireturn, 1) := dk_172 (dk_at dksX6_nounCount_0 11 rfl rfl)
abbrev cX6_verbCount : ByteArray := prog_23_method_36_code
def yX6_verbCount : MethodName := ⟨RX6, "verbCount", "()I"⟩
def dkwX6_verbCount_0 : List UInt8 := [42, 3, 181, 0, 62, 42, 180, 0, 7, 4, 46, 172]
abbrev dktX6_verbCount_0 : List UInt8 := dkwX6_verbCount_0 ++ []
theorem dksX6_verbCount_0 : cX6_verbCount.data.toList.drop 0 = dktX6_verbCount_0 := by decide +kernel
theorem dX6_verbCount_0 : decode cX6_verbCount 0 = .ok (.aload_n 0, 1) := dk_42 (dk_at dksX6_verbCount_0 0 rfl rfl)
theorem dX6_verbCount_1 : decode cX6_verbCount 1 = .ok (.iconst 0, 1) := dk_3 (dk_at dksX6_verbCount_0 1 rfl rfl)
theorem dX6_verbCount_2 : decode cX6_verbCount 2 = .ok (.putfield 62, 3) := dk_181 0 62 (dk_at dksX6_verbCount_0 2 rfl rfl)
theorem dX6_verbCount_5 : decode cX6_verbCount 5 = .ok (.aload_n 0, 1) := dk_42 (dk_at dksX6_verbCount_0 5 rfl rfl)
theorem dX6_verbCount_6 : decode cX6_verbCount 6 = .ok (.getfield 7, 3) := dk_180 0 7 (dk_at dksX6_verbCount_0 6 rfl rfl)
theorem dX6_verbCount_9 : decode cX6_verbCount 9 = .ok (.iconst 1, 1) := dk_4 (dk_at dksX6_verbCount_0 9 rfl rfl)
theorem dX6_verbCount_10 : decode cX6_verbCount 10 = .ok (.iaload, 1) := dk_46 (dk_at dksX6_verbCount_0 10 rfl rfl)
theorem dX6_verbCount_11 : decode cX6_verbCount 11 = .ok (.ireturn, 1) := dk_172 (dk_at dksX6_verbCount_0 11 rfl rfl)
abbrev cX6_gender : ByteArray := prog_23_method_37_code
def yX6_gender : MethodName := ⟨RX6, "gender", "(I)I"⟩
def dkwX6_gender_1 : List UInt8 := [181, 0, 62, 42, 180, 0, 62, 158, 0, 7, 3, 167, 0, 11, 42, 180, 0, 7, 5, 27, 96, 46, 172]
abbrev dktX6_gender_1 : List UInt8 := dkwX6_gender_1 ++ []
def dkwX6_gender_0 : List UInt8 := [42, 27, 3, 42, 180, 0, 7, 3, 46, 4, 100, 184, 0, 78, 153, 0, 7, 3, 167, 0, 4, 4]
abbrev dktX6_gender_0 : List UInt8 := dkwX6_gender_0 ++ dktX6_gender_1
theorem dksX6_gender_0 : cX6_gender.data.toList.drop 0 = dktX6_gender_0 := by decide +kernel
theorem dksX6_gender_1 : cX6_gender.data.toList.drop 22 = dktX6_gender_1 := dk_seg dksX6_gender_0 22 rfl rfl
theorem dX6_gender_0 : decode cX6_gender 0 = .ok (.aload_n 0, 1) := dk_42 (dk_at dksX6_gender_0 0 rfl rfl)
theorem dX6_gender_1 : decode cX6_gender 1 = .ok (.iload_n 1, 1) := dk_27 (dk_at dksX6_gender_0 1 rfl rfl)
theorem dX6_gender_2 : decode cX6_gender 2 = .ok (.iconst 0, 1) := dk_3 (dk_at dksX6_gender_0 2 rfl rfl)
theorem dX6_gender_3 : decode cX6_gender 3 = .ok (.aload_n 0, 1) := dk_42 (dk_at dksX6_gender_0 3 rfl rfl)
theorem dX6_gender_4 : decode cX6_gender 4 = .ok (.getfield 7, 3) := dk_180 0 7 (dk_at dksX6_gender_0 4 rfl rfl)
theorem dX6_gender_7 : decode cX6_gender 7 = .ok (.iconst 0, 1) := dk_3 (dk_at dksX6_gender_0 7 rfl rfl)
theorem dX6_gender_8 : decode cX6_gender 8 = .ok (.iaload, 1) := dk_46 (dk_at dksX6_gender_0 8 rfl rfl)
theorem dX6_gender_9 : decode cX6_gender 9 = .ok (.iconst 1, 1) := dk_4 (dk_at dksX6_gender_0 9 rfl rfl)
theorem dX6_gender_10 : decode cX6_gender 10 = .ok (.isub, 1) := dk_100 (dk_at dksX6_gender_0 10 rfl rfl)
theorem dX6_gender_11 : decode cX6_gender 11 = .ok (.invokestatic 78, 3) := dk_184 0 78 (dk_at dksX6_gender_0 11 rfl rfl)
theorem dX6_gender_14 : decode cX6_gender 14 = .ok (.ifCond .eq 7, 3) := dk_153 0 7 (dk_at dksX6_gender_0 14 rfl rfl)
theorem dX6_gender_17 : decode cX6_gender 17 = .ok (.iconst 0, 1) := dk_3 (dk_at dksX6_gender_0 17 rfl rfl)
theorem dX6_gender_18 : decode cX6_gender 18 = .ok (.goto 4, 3) := dk_167 0 4 (dk_at dksX6_gender_0 18 rfl rfl)
theorem dX6_gender_21 : decode cX6_gender 21 = .ok (.iconst 1, 1) := dk_4 (dk_at dksX6_gender_0 21 rfl rfl)
theorem dX6_gender_22 : decode cX6_gender 22 = .ok (.putfield 62, 3) := dk_181 0 62 (dk_at dksX6_gender_1 0 rfl rfl)
theorem dX6_gender_25 : decode cX6_gender 25 = .ok (.aload_n 0, 1) := dk_42 (dk_at dksX6_gender_1 3 rfl rfl)
theorem dX6_gender_26 : decode cX6_gender 26 = .ok (.getfield 62, 3) := dk_180 0 62 (dk_at dksX6_gender_1 4 rfl rfl)
theorem dX6_gender_29 : decode cX6_gender 29 = .ok (.ifCond .le 7, 3) := dk_158 0 7 (dk_at dksX6_gender_1 7 rfl rfl)
theorem dX6_gender_32 : decode cX6_gender 32 = .ok (.iconst 0, 1) := dk_3 (dk_at dksX6_gender_1 10 rfl rfl)
theorem dX6_gender_33 : decode cX6_gender 33 = .ok (.goto 11, 3) := dk_167 0 11 (dk_at dksX6_gender_1 11 rfl rfl)
theorem dX6_gender_36 : decode cX6_gender 36 = .ok (.aload_n 0, 1) := dk_42 (dk_at dksX6_gender_1 14 rfl rfl)
theorem dX6_gender_37 : decode cX6_gender 37 = .ok (.getfield 7, 3) := dk_180 0 7 (dk_at dksX6_gender_1 15 rfl rfl)
theorem dX6_gender_40 : decode cX6_gender 40 = .ok (.iconst 2, 1) := dk_5 (dk_at dksX6_gender_1 18 rfl rfl)
theorem dX6_gender_41 : decode cX6_gender 41 = .ok (.iload_n 1, 1) := dk_27 (dk_at dksX6_gender_1 19 rfl rfl)
theorem dX6_gender_42 : decode cX6_gender 42 = .ok (.iadd, 1) := dk_96 (dk_at dksX6_gender_1 20 rfl rfl)
theorem dX6_gender_43 : decode cX6_gender 43 = .ok (.iaload, 1) := dk_46 (dk_at dksX6_gender_1 21 rfl rfl)
theorem dX6_gender_44 : decode cX6_gender 44 = .ok (.ireturn, 1) := dk_172 (dk_at dksX6_gender_1 22 rfl rfl)
abbrev cX6_objectCase : ByteArray := prog_23_method_38_code
def yX6_objectCase : MethodName := ⟨RX6, "objectCase", "(I)I"⟩
def dkwX6_objectCase_1 : List UInt8 := [181, 0, 62, 42, 180, 0, 62, 158, 0, 7, 3, 167, 0, 12, 42, 180, 0, 7, 16, 10, 27, 96, 46, 172]
abbrev dktX6_objectCase_1 : List UInt8 := dkwX6_objectCase_1 ++ []
def dkwX6_objectCase_0 : List UInt8 := [42, 27, 3, 42, 180, 0, 7, 4, 46, 4, 100, 184, 0, 78, 153, 0, 7, 3, 167, 0, 4, 4]
abbrev dktX6_objectCase_0 : List UInt8 := dkwX6_objectCase_0 ++ dktX6_objectCase_1
theorem dksX6_objectCase_0 : cX6_objectCase.data.toList.drop 0 = dktX6_objectCase_0 := by decide +kernel
theorem dksX6_objectCase_1 : cX6_objectCase.data.toList.drop 22 = dktX6_objectCase_1 := dk_seg dksX6_objectCase_0 22 rfl rfl
theorem dX6_objectCase_0 : decode cX6_objectCase 0 = .ok (.aload_n 0, 1) := dk_42 (dk_at dksX6_objectCase_0 0 rfl rfl)
theorem dX6_objectCase_1 : decode cX6_objectCase 1 = .ok (.iload_n 1, 1) := dk_27 (dk_at dksX6_objectCase_0 1 rfl rfl)
theorem dX6_objectCase_2 : decode cX6_objectCase 2 = .ok (.iconst 0, 1) := dk_3 (dk_at dksX6_objectCase_0 2 rfl rfl)
theorem dX6_objectCase_3 : decode cX6_objectCase 3 = .ok (.aload_n 0, 1) := dk_42 (dk_at dksX6_objectCase_0 3 rfl rfl)
theorem dX6_objectCase_4 : decode cX6_objectCase 4 = .ok (.getfield 7, 3) := dk_180 0 7 (dk_at dksX6_objectCase_0 4 rfl rfl)
theorem dX6_objectCase_7 : decode cX6_objectCase 7 = .ok (.iconst 1, 1) := dk_4 (dk_at dksX6_objectCase_0 7 rfl rfl)
theorem dX6_objectCase_8 : decode cX6_objectCase 8 = .ok (.iaload, 1) := dk_46 (dk_at dksX6_objectCase_0 8 rfl rfl)
theorem dX6_objectCase_9 : decode cX6_objectCase 9 = .ok (.iconst 1, 1) := dk_4 (dk_at dksX6_objectCase_0 9 rfl rfl)
theorem dX6_objectCase_10 : decode cX6_objectCase 10 = .ok (.isub, 1) := dk_100 (dk_at dksX6_objectCase_0 10 rfl rfl)
theorem dX6_objectCase_11 : decode cX6_objectCase 11 = .ok (.invokestatic 78, 3) := dk_184 0 78 (dk_at dksX6_objectCase_0 11 rfl rfl)
theorem dX6_objectCase_14 : decode cX6_objectCase 14 = .ok (.ifCond .eq 7, 3) := dk_153 0 7 (dk_at dksX6_objectCase_0 14 rfl rfl)
theorem dX6_objectCase_17 : decode cX6_objectCase 17 = .ok (.iconst 0, 1) := dk_3 (dk_at dksX6_objectCase_0 17 rfl rfl)
theorem dX6_objectCase_18 : decode cX6_objectCase 18 = .ok (.goto 4, 3) := dk_167 0 4 (dk_at dksX6_objectCase_0 18 rfl rfl)
theorem dX6_objectCase_21 : decode cX6_objectCase 21 = .ok (.iconst 1, 1) := dk_4 (dk_at dksX6_objectCase_0 21 rfl rfl)
theorem dX6_objectCase_22 : decode cX6_objectCase 22 = .ok (.putfield 62, 3) := dk_181 0 62 (dk_at dksX6_objectCase_1 0 rfl rfl)
theorem dX6_objectCase_25 : decode cX6_objectCase 25 = .ok (.aload_n 0, 1) := dk_42 (dk_at dksX6_objectCase_1 3 rfl rfl)
theorem dX6_objectCase_26 : decode cX6_objectCase 26 = .ok (.getfield 62, 3) := dk_180 0 62 (dk_at dksX6_objectCase_1 4 rfl rfl)
theorem dX6_objectCase_29 : decode cX6_objectCase 29 = .ok (.ifCond .le 7, 3) := dk_158 0 7 (dk_at dksX6_objectCase_1 7 rfl rfl)
theorem dX6_objectCase_32 : decode cX6_objectCase 32 = .ok (.iconst 0, 1) := dk_3 (dk_at dksX6_objectCase_1 10 rfl rfl)
theorem dX6_objectCase_33 : decode cX6_objectCase 33 = .ok (.goto 12, 3) := dk_167 0 12 (dk_at dksX6_objectCase_1 11 rfl rfl)
theorem dX6_objectCase_36 : decode cX6_objectCase 36 = .ok (.aload_n 0, 1) := dk_42 (dk_at dksX6_objectCase_1 14 rfl rfl)
theorem dX6_objectCase_37 : decode cX6_objectCase 37 = .ok (.getfield 7, 3) := dk_180 0 7 (dk_at dksX6_objectCase_1 15 rfl rfl)
theorem dX6_objectCase_40 : decode cX6_objectCase 40 = .ok (.bipush 10, 2) := dk_16 10 (dk_at dksX6_objectCase_1 18 rfl rfl)
theorem dX6_objectCase_42 : decode cX6_objectCase 42 = .ok (.iload_n 1, 1) := dk_27 (dk_at dksX6_objectCase_1 20 rfl rfl)
theorem dX6_objectCase_43 : decode cX6_objectCase 43 = .ok (.iadd, 1) := dk_96 (dk_at dksX6_objectCase_1 21 rfl rfl)
theorem dX6_objectCase_44 : decode cX6_objectCase 44 = .ok (.iaload, 1) := dk_46 (dk_at dksX6_objectCase_1 22 rfl rfl)
theorem dX6_objectCase_45 : decode cX6_objectCase 45 = .ok (.ireturn, 1) := dk_172 (dk_at dksX6_objectCase_1 23 rfl rfl)
abbrev cX6_ending : ByteArray := prog_23_method_40_code
def yX6_ending : MethodName := ⟨RX6, "ending", "(II)C"⟩
def dkwX6_ending_2 : List UInt8 := [167, 0, 10, 42, 27, 28, 182, 0, 173, 146, 172]
abbrev dktX6_ending_2 : List UInt8 := dkwX6_ending_2 ++ []
def dkwX6_ending_1 : List UInt8 := [184, 0, 78, 153, 0, 7, 3, 167, 0, 4, 5, 181, 0, 62, 42, 180, 0, 62, 158, 0, 7, 3]
abbrev dktX6_ending_1 : List UInt8 := dkwX6_ending_1 ++ dktX6_ending_2
def dkwX6_ending_0 : List UInt8 := [42, 27, 3, 42, 180, 0, 7, 3, 46, 4, 100, 184, 0, 78, 154, 0, 7, 4, 167, 0, 17, 28, 3, 6]
abbrev dktX6_ending_0 : List UInt8 := dkwX6_ending_0 ++ dktX6_ending_1
theorem dksX6_ending_0 : cX6_ending.data.toList.drop 0 = dktX6_ending_0 := by decide +kernel
theorem dksX6_ending_1 : cX6_ending.data.toList.drop 24 = dktX6_ending_1 := dk_seg dksX6_ending_0 24 rfl rfl
theorem dksX6_ending_2 : cX6_ending.data.toList.drop 46 = dktX6_ending_2 := dk_seg dksX6_ending_1 22 rfl rfl
theorem dX6_ending_0 : decode cX6_ending 0 = .ok (.aload_n 0, 1) := dk_42 (dk_at dksX6_ending_0 0 rfl rfl)
theorem dX6_ending_1 : decode cX6_ending 1 = .ok (.iload_n 1, 1) := dk_27 (dk_at dksX6_ending_0 1 rfl rfl)
theorem dX6_ending_2 : decode cX6_ending 2 = .ok (.iconst 0, 1) := dk_3 (dk_at dksX6_ending_0 2 rfl rfl)
theorem dX6_ending_3 : decode cX6_ending 3 = .ok (.aload_n 0, 1) := dk_42 (dk_at dksX6_ending_0 3 rfl rfl)
theorem dX6_ending_4 : decode cX6_ending 4 = .ok (.getfield 7, 3) := dk_180 0 7 (dk_at dksX6_ending_0 4 rfl rfl)
theorem dX6_ending_7 : decode cX6_ending 7 = .ok (.iconst 0, 1) := dk_3 (dk_at dksX6_ending_0 7 rfl rfl)
theorem dX6_ending_8 : decode cX6_ending 8 = .ok (.iaload, 1) := dk_46 (dk_at dksX6_ending_0 8 rfl rfl)
theorem dX6_ending_9 : decode cX6_ending 9 = .ok (.iconst 1, 1) := dk_4 (dk_at dksX6_ending_0 9 rfl rfl)
theorem dX6_ending_10 : decode cX6_ending 10 = .ok (.isub, 1) := dk_100 (dk_at dksX6_ending_0 10 rfl rfl)
theorem dX6_ending_11 : decode cX6_ending 11 = .ok (.invokestatic 78, 3) := dk_184 0 78 (dk_at dksX6_ending_0 11 rfl rfl)
theorem dX6_ending_14 : decode cX6_ending 14 = .ok (.ifCond .ne 7, 3) := dk_154 0 7 (dk_at dksX6_ending_0 14 rfl rfl)
theorem dX6_ending_17 : decode cX6_ending 17 = .ok (.iconst 1, 1) := dk_4 (dk_at dksX6_ending_0 17 rfl rfl)
theorem dX6_ending_18 : decode cX6_ending 18 = .ok (.goto 17, 3) := dk_167 0 17 (dk_at dksX6_ending_0 18 rfl rfl)
theorem dX6_ending_21 : decode cX6_ending 21 = .ok (.iload_n 2, 1) := dk_28 (dk_at dksX6_ending_0 21 rfl rfl)
theorem dX6_ending_22 : decode cX6_ending 22 = .ok (.iconst 0, 1) := dk_3 (dk_at dksX6_ending_0 22 rfl rfl)
theorem dX6_ending_23 : decode cX6_ending 23 = .ok (.iconst 3, 1) := dk_6 (dk_at dksX6_ending_0 23 rfl rfl)
theorem dX6_ending_24 : decode cX6_ending 24 = .ok (.invokestatic 78, 3) := dk_184 0 78 (dk_at dksX6_ending_1 0 rfl rfl)
theorem dX6_ending_27 : decode cX6_ending 27 = .ok (.ifCond .eq 7, 3) := dk_153 0 7 (dk_at dksX6_ending_1 3 rfl rfl)
theorem dX6_ending_30 : decode cX6_ending 30 = .ok (.iconst 0, 1) := dk_3 (dk_at dksX6_ending_1 6 rfl rfl)
theorem dX6_ending_31 : decode cX6_ending 31 = .ok (.goto 4, 3) := dk_167 0 4 (dk_at dksX6_ending_1 7 rfl rfl)
theorem dX6_ending_34 : decode cX6_ending 34 = .ok (.iconst 2, 1) := dk_5 (dk_at dksX6_ending_1 10 rfl rfl)
theorem dX6_ending_35 : decode cX6_ending 35 = .ok (.putfield 62, 3) := dk_181 0 62 (dk_at dksX6_ending_1 11 rfl rfl)
theorem dX6_ending_38 : decode cX6_ending 38 = .ok (.aload_n 0, 1) := dk_42 (dk_at dksX6_ending_1 14 rfl rfl)
theorem dX6_ending_39 : decode cX6_ending 39 = .ok (.getfield 62, 3) := dk_180 0 62 (dk_at dksX6_ending_1 15 rfl rfl)
theorem dX6_ending_42 : decode cX6_ending 42 = .ok (.ifCond .le 7, 3) := dk_158 0 7 (dk_at dksX6_ending_1 18 rfl rfl)
theorem dX6_ending_45 : decode cX6_ending 45 = .ok (.iconst 0, 1) := dk_3 (dk_at dksX6_ending_1 21 rfl rfl)
theorem dX6_ending_46 : decode cX6_ending 46 = .ok (.goto 10, 3) := dk_167 0 10 (dk_at dksX6_ending_2 0 rfl rfl)
theorem dX6_ending_49 : decode cX6_ending 49 = .ok (.aload_n 0, 1) := dk_42 (dk_at dksX6_ending_2 3 rfl rfl)
theorem dX6_ending_50 : decode cX6_ending 50 = .ok (.iload_n 1, 1) := dk_27 (dk_at dksX6_ending_2 4 rfl rfl)
theorem dX6_ending_51 : decode cX6_ending 51 = .ok (.iload_n 2, 1) := dk_28 (dk_at dksX6_ending_2 5 rfl rfl)
theorem dX6_ending_52 : decode cX6_ending 52 = .ok (.invokevirtual 173, 3) := dk_182 0 173 (dk_at dksX6_ending_2 6 rfl rfl)
theorem dX6_ending_55 : decode cX6_ending 55 = .ok (.i2c, 1) := dk_146 (dk_at dksX6_ending_2 9 rfl rfl)
theorem dX6_ending_56 : decode cX6_ending 56 = .ok (.ireturn, 1) := dk_172 (dk_at dksX6_ending_2 10 rfl rfl)
abbrev cX6_letter : ByteArray := prog_23_method_39_code
def yX6_letter : MethodName := ⟨RX6, "letter", "(II)I"⟩
def dkwX6_letter_0 : List UInt8 := [18, 165, 7, 42, 180, 0, 7, 5, 27, 96, 46, 104, 28, 96, 182, 0, 167, 172]
abbrev dktX6_letter_0 : List UInt8 := dkwX6_letter_0 ++ []
theorem dksX6_letter_0 : cX6_letter.data.toList.drop 0 = dktX6_letter_0 := by decide +kernel
theorem dX6_letter_0 : decode cX6_letter 0 = .ok (.ldc 165, 2) := dk_18 165 (dk_at dksX6_letter_0 0 rfl rfl)
theorem dX6_letter_2 : decode cX6_letter 2 = .ok (.iconst 4, 1) := dk_7 (dk_at dksX6_letter_0 2 rfl rfl)
theorem dX6_letter_3 : decode cX6_letter 3 = .ok (.aload_n 0, 1) := dk_42 (dk_at dksX6_letter_0 3 rfl rfl)
theorem dX6_letter_4 : decode cX6_letter 4 = .ok (.getfield 7, 3) := dk_180 0 7 (dk_at dksX6_letter_0 4 rfl rfl)
theorem dX6_letter_7 : decode cX6_letter 7 = .ok (.iconst 2, 1) := dk_5 (dk_at dksX6_letter_0 7 rfl rfl)
theorem dX6_letter_8 : decode cX6_letter 8 = .ok (.iload_n 1, 1) := dk_27 (dk_at dksX6_letter_0 8 rfl rfl)
theorem dX6_letter_9 : decode cX6_letter 9 = .ok (.iadd, 1) := dk_96 (dk_at dksX6_letter_0 9 rfl rfl)
theorem dX6_letter_10 : decode cX6_letter 10 = .ok (.iaload, 1) := dk_46 (dk_at dksX6_letter_0 10 rfl rfl)
theorem dX6_letter_11 : decode cX6_letter 11 = .ok (.imul, 1) := dk_104 (dk_at dksX6_letter_0 11 rfl rfl)
theorem dX6_letter_12 : decode cX6_letter 12 = .ok (.iload_n 2, 1) := dk_28 (dk_at dksX6_letter_0 12 rfl rfl)
theorem dX6_letter_13 : decode cX6_letter 13 = .ok (.iadd, 1) := dk_96 (dk_at dksX6_letter_0 13 rfl rfl)
theorem dX6_letter_14 : decode cX6_letter 14 = .ok (.invokevirtual 167, 3) := dk_182 0 167 (dk_at dksX6_letter_0 14 rfl rfl)
theorem dX6_letter_17 : decode cX6_letter 17 = .ok (.ireturn, 1) := dk_172 (dk_at dksX6_letter_0 17 rfl rfl)
abbrev cX6_appendNoun : ByteArray := prog_23_method_41_code
def yX6_appendNoun : MethodName := ⟨RX6, "appendNoun", "(III)I"⟩
def dkwX6_appendNoun_0 : List UInt8 := [42, 182, 0, 150, 42, 42, 27, 28, 29, 182, 0, 176, 182, 0, 156, 172]
abbrev dktX6_appendNoun_0 : List UInt8 := dkwX6_appendNoun_0 ++ []
theorem dksX6_appendNoun_0 : cX6_appendNoun.data.toList.drop 0 = dktX6_appendNoun_0 := by decide +kernel
theorem dX6_appendNoun_0 : decode cX6_appendNoun 0 = .ok (.aload_n 0, 1) := dk_42 (dk_at dksX6_appendNoun_0 0 rfl rfl)
theorem dX6_appendNoun_1 : decode cX6_appendNoun 1 = .ok (.invokevirtual 150, 3) := dk_182 0 150 (dk_at dksX6_appendNoun_0 1 rfl rfl)
theorem dX6_appendNoun_4 : decode cX6_appendNoun 4 = .ok (.aload_n 0, 1) := dk_42 (dk_at dksX6_appendNoun_0 4 rfl rfl)
theorem dX6_appendNoun_5 : decode cX6_appendNoun 5 = .ok (.aload_n 0, 1) := dk_42 (dk_at dksX6_appendNoun_0 5 rfl rfl)
theorem dX6_appendNoun_6 : decode cX6_appendNoun 6 = .ok (.iload_n 1, 1) := dk_27 (dk_at dksX6_appendNoun_0 6 rfl rfl)
theorem dX6_appendNoun_7 : decode cX6_appendNoun 7 = .ok (.iload_n 2, 1) := dk_28 (dk_at dksX6_appendNoun_0 7 rfl rfl)
theorem dX6_appendNoun_8 : decode cX6_appendNoun 8 = .ok (.iload_n 3, 1) := dk_29 (dk_at dksX6_appendNoun_0 8 rfl rfl)
theorem dX6_appendNoun_9 : decode cX6_appendNoun 9 = .ok (.invokevirtual 176, 3) := dk_182 0 176 (dk_at dksX6_appendNoun_0 9 rfl rfl)
theorem dX6_appendNoun_12 : decode cX6_appendNoun 12 = .ok (.invokevirtual 156, 3) := dk_182 0 156 (dk_at dksX6_appendNoun_0 12 rfl rfl)
theorem dX6_appendNoun_15 : decode cX6_appendNoun 15 = .ok (.ireturn, 1) := dk_172 (dk_at dksX6_appendNoun_0 15 rfl rfl)
abbrev cX6_putsNoun : ByteArray := prog_23_method_24_code
def yX6_putsNoun : MethodName := ⟨RX6, "putsNoun", "(III)I"⟩
def dkwX6_putsNoun_2 : List UInt8 := [167, 0, 11, 42, 27, 3, 28, 29, 182, 0, 139, 172]
abbrev dktX6_putsNoun_2 : List UInt8 := dkwX6_putsNoun_2 ++ []
def dkwX6_putsNoun_1 : List UInt8 := [172, 29, 3, 6, 184, 0, 78, 154, 0, 5, 5, 172, 42, 27, 182, 0, 106, 16, 24, 160, 0, 7, 6]
abbrev dktX6_putsNoun_1 : List UInt8 := dkwX6_putsNoun_1 ++ dktX6_putsNoun_2
def dkwX6_putsNoun_0 : List UInt8 := [27, 184, 0, 136, 153, 0, 19, 28, 3, 42, 180, 0, 7, 3, 46, 4, 100, 184, 0, 78, 154, 0, 5, 4]
abbrev dktX6_putsNoun_0 : List UInt8 := dkwX6_putsNoun_0 ++ dktX6_putsNoun_1
theorem dksX6_putsNoun_0 : cX6_putsNoun.data.toList.drop 0 = dktX6_putsNoun_0 := by decide +kernel
theorem dksX6_putsNoun_1 : cX6_putsNoun.data.toList.drop 24 = dktX6_putsNoun_1 := dk_seg dksX6_putsNoun_0 24 rfl rfl
theorem dksX6_putsNoun_2 : cX6_putsNoun.data.toList.drop 47 = dktX6_putsNoun_2 := dk_seg dksX6_putsNoun_1 23 rfl rfl
theorem dX6_putsNoun_0 : decode cX6_putsNoun 0 = .ok (.iload_n 1, 1) := dk_27 (dk_at dksX6_putsNoun_0 0 rfl rfl)
theorem dX6_putsNoun_1 : decode cX6_putsNoun 1 = .ok (.invokestatic 136, 3) := dk_184 0 136 (dk_at dksX6_putsNoun_0 1 rfl rfl)
theorem dX6_putsNoun_4 : decode cX6_putsNoun 4 = .ok (.ifCond .eq 19, 3) := dk_153 0 19 (dk_at dksX6_putsNoun_0 4 rfl rfl)
theorem dX6_putsNoun_7 : decode cX6_putsNoun 7 = .ok (.iload_n 2, 1) := dk_28 (dk_at dksX6_putsNoun_0 7 rfl rfl)
theorem dX6_putsNoun_8 : decode cX6_putsNoun 8 = .ok (.iconst 0, 1) := dk_3 (dk_at dksX6_putsNoun_0 8 rfl rfl)
theorem dX6_putsNoun_9 : decode cX6_putsNoun 9 = .ok (.aload_n 0, 1) := dk_42 (dk_at dksX6_putsNoun_0 9 rfl rfl)
theorem dX6_putsNoun_10 : decode cX6_putsNoun 10 = .ok (.getfield 7, 3) := dk_180 0 7 (dk_at dksX6_putsNoun_0 10 rfl rfl)
theorem dX6_putsNoun_13 : decode cX6_putsNoun 13 = .ok (.iconst 0, 1) := dk_3 (dk_at dksX6_putsNoun_0 13 rfl rfl)
theorem dX6_putsNoun_14 : decode cX6_putsNoun 14 = .ok (.iaload, 1) := dk_46 (dk_at dksX6_putsNoun_0 14 rfl rfl)
theorem dX6_putsNoun_15 : decode cX6_putsNoun 15 = .ok (.iconst 1, 1) := dk_4 (dk_at dksX6_putsNoun_0 15 rfl rfl)
theorem dX6_putsNoun_16 : decode cX6_putsNoun 16 = .ok (.isub, 1) := dk_100 (dk_at dksX6_putsNoun_0 16 rfl rfl)
theorem dX6_putsNoun_17 : decode cX6_putsNoun 17 = .ok (.invokestatic 78, 3) := dk_184 0 78 (dk_at dksX6_putsNoun_0 17 rfl rfl)
theorem dX6_putsNoun_20 : decode cX6_putsNoun 20 = .ok (.ifCond .ne 5, 3) := dk_154 0 5 (dk_at dksX6_putsNoun_0 20 rfl rfl)
theorem dX6_putsNoun_23 : decode cX6_putsNoun 23 = .ok (.iconst 1, 1) := dk_4 (dk_at dksX6_putsNoun_0 23 rfl rfl)
theorem dX6_putsNoun_24 : decode cX6_putsNoun 24 = .ok (.ireturn, 1) := dk_172 (dk_at dksX6_putsNoun_1 0 rfl rfl)
theorem dX6_putsNoun_25 : decode cX6_putsNoun 25 = .ok (.iload_n 3, 1) := dk_29 (dk_at dksX6_putsNoun_1 1 rfl rfl)
theorem dX6_putsNoun_26 : decode cX6_putsNoun 26 = .ok (.iconst 0, 1) := dk_3 (dk_at dksX6_putsNoun_1 2 rfl rfl)
theorem dX6_putsNoun_27 : decode cX6_putsNoun 27 = .ok (.iconst 3, 1) := dk_6 (dk_at dksX6_putsNoun_1 3 rfl rfl)
theorem dX6_putsNoun_28 : decode cX6_putsNoun 28 = .ok (.invokestatic 78, 3) := dk_184 0 78 (dk_at dksX6_putsNoun_1 4 rfl rfl)
theorem dX6_putsNoun_31 : decode cX6_putsNoun 31 = .ok (.ifCond .ne 5, 3) := dk_154 0 5 (dk_at dksX6_putsNoun_1 7 rfl rfl)
theorem dX6_putsNoun_34 : decode cX6_putsNoun 34 = .ok (.iconst 2, 1) := dk_5 (dk_at dksX6_putsNoun_1 10 rfl rfl)
theorem dX6_putsNoun_35 : decode cX6_putsNoun 35 = .ok (.ireturn, 1) := dk_172 (dk_at dksX6_putsNoun_1 11 rfl rfl)
theorem dX6_putsNoun_36 : decode cX6_putsNoun 36 = .ok (.aload_n 0, 1) := dk_42 (dk_at dksX6_putsNoun_1 12 rfl rfl)
theorem dX6_putsNoun_37 : decode cX6_putsNoun 37 = .ok (.iload_n 1, 1) := dk_27 (dk_at dksX6_putsNoun_1 13 rfl rfl)
theorem dX6_putsNoun_38 : decode cX6_putsNoun 38 = .ok (.invokevirtual 106, 3) := dk_182 0 106 (dk_at dksX6_putsNoun_1 14 rfl rfl)
theorem dX6_putsNoun_41 : decode cX6_putsNoun 41 = .ok (.bipush 24, 2) := dk_16 24 (dk_at dksX6_putsNoun_1 17 rfl rfl)
theorem dX6_putsNoun_43 : decode cX6_putsNoun 43 = .ok (.if_icmp .ne 7, 3) := dk_160 0 7 (dk_at dksX6_putsNoun_1 19 rfl rfl)
theorem dX6_putsNoun_46 : decode cX6_putsNoun 46 = .ok (.iconst 3, 1) := dk_6 (dk_at dksX6_putsNoun_1 22 rfl rfl)
theorem dX6_putsNoun_47 : decode cX6_putsNoun 47 = .ok (.goto 11, 3) := dk_167 0 11 (dk_at dksX6_putsNoun_2 0 rfl rfl)
theorem dX6_putsNoun_50 : decode cX6_putsNoun 50 = .ok (.aload_n 0, 1) := dk_42 (dk_at dksX6_putsNoun_2 3 rfl rfl)
theorem dX6_putsNoun_51 : decode cX6_putsNoun 51 = .ok (.iload_n 1, 1) := dk_27 (dk_at dksX6_putsNoun_2 4 rfl rfl)
theorem dX6_putsNoun_52 : decode cX6_putsNoun 52 = .ok (.iconst 0, 1) := dk_3 (dk_at dksX6_putsNoun_2 5 rfl rfl)
theorem dX6_putsNoun_53 : decode cX6_putsNoun 53 = .ok (.iload_n 2, 1) := dk_28 (dk_at dksX6_putsNoun_2 6 rfl rfl)
theorem dX6_putsNoun_54 : decode cX6_putsNoun 54 = .ok (.iload_n 3, 1) := dk_29 (dk_at dksX6_putsNoun_2 7 rfl rfl)
theorem dX6_putsNoun_55 : decode cX6_putsNoun 55 = .ok (.invokevirtual 139, 3) := dk_182 0 139 (dk_at dksX6_putsNoun_2 8 rfl rfl)
theorem dX6_putsNoun_58 : decode cX6_putsNoun 58 = .ok (.ireturn, 1) := dk_172 (dk_at dksX6_putsNoun_2 11 rfl rfl)
abbrev cX6_isGate : ByteArray := prog_23_method_9_code
def yX6_isGate : MethodName := ⟨RX6, "isGate", "(I)Z"⟩
def dkwX6_isGate_0 : List UInt8 := [26, 3, 6, 184, 0, 78, 172]
abbrev dktX6_isGate_0 : List UInt8 := dkwX6_isGate_0 ++ []
theorem dksX6_isGate_0 : cX6_isGate.data.toList.drop 0 = dktX6_isGate_0 := by decide +kernel
theorem dX6_isGate_0 : decode cX6_isGate 0 = .ok (.iload_n 0, 1) := dk_26 (dk_at dksX6_isGate_0 0 rfl rfl)
theorem dX6_isGate_1 : decode cX6_isGate 1 = .ok (.iconst 0, 1) := dk_3 (dk_at dksX6_isGate_0 1 rfl rfl)
theorem dX6_isGate_2 : decode cX6_isGate 2 = .ok (.iconst 3, 1) := dk_6 (dk_at dksX6_isGate_0 2 rfl rfl)
theorem dX6_isGate_3 : decode cX6_isGate 3 = .ok (.invokestatic 78, 3) := dk_184 0 78 (dk_at dksX6_isGate_0 3 rfl rfl)
theorem dX6_isGate_6 : decode cX6_isGate 6 = .ok (.ireturn, 1) := dk_172 (dk_at dksX6_isGate_0 6 rfl rfl)
abbrev cX6_size : ByteArray := prog_23_method_10_code
def yX6_size : MethodName := ⟨RX6, "size", "(I)I"⟩
def dkwX6_size_0 : List UInt8 := [42, 180, 0, 7, 16, 18, 16, 74, 27, 104, 96, 3, 96, 46, 172]
abbrev dktX6_size_0 : List UInt8 := dkwX6_size_0 ++ []
theorem dksX6_size_0 : cX6_size.data.toList.drop 0 = dktX6_size_0 := by decide +kernel
theorem dX6_size_0 : decode cX6_size 0 = .ok (.aload_n 0, 1) := dk_42 (dk_at dksX6_size_0 0 rfl rfl)
theorem dX6_size_1 : decode cX6_size 1 = .ok (.getfield 7, 3) := dk_180 0 7 (dk_at dksX6_size_0 1 rfl rfl)
theorem dX6_size_4 : decode cX6_size 4 = .ok (.bipush 18, 2) := dk_16 18 (dk_at dksX6_size_0 4 rfl rfl)
theorem dX6_size_6 : decode cX6_size 6 = .ok (.bipush 74, 2) := dk_16 74 (dk_at dksX6_size_0 6 rfl rfl)
theorem dX6_size_8 : decode cX6_size 8 = .ok (.iload_n 1, 1) := dk_27 (dk_at dksX6_size_0 8 rfl rfl)
theorem dX6_size_9 : decode cX6_size 9 = .ok (.imul, 1) := dk_104 (dk_at dksX6_size_0 9 rfl rfl)
theorem dX6_size_10 : decode cX6_size 10 = .ok (.iadd, 1) := dk_96 (dk_at dksX6_size_0 10 rfl rfl)
theorem dX6_size_11 : decode cX6_size 11 = .ok (.iconst 0, 1) := dk_3 (dk_at dksX6_size_0 11 rfl rfl)
theorem dX6_size_12 : decode cX6_size 12 = .ok (.iadd, 1) := dk_96 (dk_at dksX6_size_0 12 rfl rfl)
theorem dX6_size_13 : decode cX6_size 13 = .ok (.iaload, 1) := dk_46 (dk_at dksX6_size_0 13 rfl rfl)
theorem dX6_size_14 : decode cX6_size 14 = .ok (.ireturn, 1) := dk_172 (dk_at dksX6_size_0 14 rfl rfl)
abbrev cX6_puts : ByteArray := prog_23_method_23_code
def yX6_puts : MethodName := ⟨RX6, "puts", "(IIII)I"⟩
def dkwX6_puts_3 : List UInt8 := [182, 0, 106, 182, 0, 133, 172]
abbrev dktX6_puts_3 : List UInt8 := dkwX6_puts_3 ++ []
def dkwX6_puts_2 : List UInt8 := [79, 42, 180, 0, 7, 16, 18, 16, 74, 27, 104, 96, 3, 96, 92, 46, 4, 96, 79, 42, 42, 27]
abbrev dktX6_puts_2 : List UInt8 := dkwX6_puts_2 ++ dktX6_puts_3
def dkwX6_puts_1 : List UInt8 := [21, 5, 28, 79, 42, 180, 0, 7, 21, 5, 4, 96, 29, 79, 42, 180, 0, 7, 21, 5, 5, 96, 21, 4]
abbrev dktX6_puts_1 : List UInt8 := dkwX6_puts_1 ++ dktX6_puts_2
def dkwX6_puts_0 : List UInt8 := [16, 18, 16, 74, 27, 104, 96, 5, 96, 6, 42, 27, 182, 0, 106, 104, 96, 54, 5, 42, 180, 0, 7]
abbrev dktX6_puts_0 : List UInt8 := dkwX6_puts_0 ++ dktX6_puts_1
theorem dksX6_puts_0 : cX6_puts.data.toList.drop 0 = dktX6_puts_0 := by decide +kernel
theorem dksX6_puts_1 : cX6_puts.data.toList.drop 23 = dktX6_puts_1 := dk_seg dksX6_puts_0 23 rfl rfl
theorem dksX6_puts_2 : cX6_puts.data.toList.drop 47 = dktX6_puts_2 := dk_seg dksX6_puts_1 24 rfl rfl
theorem dksX6_puts_3 : cX6_puts.data.toList.drop 69 = dktX6_puts_3 := dk_seg dksX6_puts_2 22 rfl rfl
theorem dX6_puts_0 : decode cX6_puts 0 = .ok (.bipush 18, 2) := dk_16 18 (dk_at dksX6_puts_0 0 rfl rfl)
theorem dX6_puts_2 : decode cX6_puts 2 = .ok (.bipush 74, 2) := dk_16 74 (dk_at dksX6_puts_0 2 rfl rfl)
theorem dX6_puts_4 : decode cX6_puts 4 = .ok (.iload_n 1, 1) := dk_27 (dk_at dksX6_puts_0 4 rfl rfl)
theorem dX6_puts_5 : decode cX6_puts 5 = .ok (.imul, 1) := dk_104 (dk_at dksX6_puts_0 5 rfl rfl)
theorem dX6_puts_6 : decode cX6_puts 6 = .ok (.iadd, 1) := dk_96 (dk_at dksX6_puts_0 6 rfl rfl)
theorem dX6_puts_7 : decode cX6_puts 7 = .ok (.iconst 2, 1) := dk_5 (dk_at dksX6_puts_0 7 rfl rfl)
theorem dX6_puts_8 : decode cX6_puts 8 = .ok (.iadd, 1) := dk_96 (dk_at dksX6_puts_0 8 rfl rfl)
theorem dX6_puts_9 : decode cX6_puts 9 = .ok (.iconst 3, 1) := dk_6 (dk_at dksX6_puts_0 9 rfl rfl)
theorem dX6_puts_10 : decode cX6_puts 10 = .ok (.aload_n 0, 1) := dk_42 (dk_at dksX6_puts_0 10 rfl rfl)
theorem dX6_puts_11 : decode cX6_puts 11 = .ok (.iload_n 1, 1) := dk_27 (dk_at dksX6_puts_0 11 rfl rfl)
theorem dX6_puts_12 : decode cX6_puts 12 = .ok (.invokevirtual 106, 3) := dk_182 0 106 (dk_at dksX6_puts_0 12 rfl rfl)
theorem dX6_puts_15 : decode cX6_puts 15 = .ok (.imul, 1) := dk_104 (dk_at dksX6_puts_0 15 rfl rfl)
theorem dX6_puts_16 : decode cX6_puts 16 = .ok (.iadd, 1) := dk_96 (dk_at dksX6_puts_0 16 rfl rfl)
theorem dX6_puts_17 : decode cX6_puts 17 = .ok (.istore 5, 2) := dk_54 5 (dk_at dksX6_puts_0 17 rfl rfl)
theorem dX6_puts_19 : decode cX6_puts 19 = .ok (.aload_n 0, 1) := dk_42 (dk_at dksX6_puts_0 19 rfl rfl)
theorem dX6_puts_20 : decode cX6_puts 20 = .ok (.getfield 7, 3) := dk_180 0 7 (dk_at dksX6_puts_0 20 rfl rfl)
theorem dX6_puts_23 : decode cX6_puts 23 = .ok (.iload 5, 2) := dk_21 5 (dk_at dksX6_puts_1 0 rfl rfl)
theorem dX6_puts_25 : decode cX6_puts 25 = .ok (.iload_n 2, 1) := dk_28 (dk_at dksX6_puts_1 2 rfl rfl)
theorem dX6_puts_26 : decode cX6_puts 26 = .ok (.iastore, 1) := dk_79 (dk_at dksX6_puts_1 3 rfl rfl)
theorem dX6_puts_27 : decode cX6_puts 27 = .ok (.aload_n 0, 1) := dk_42 (dk_at dksX6_puts_1 4 rfl rfl)
theorem dX6_puts_28 : decode cX6_puts 28 = .ok (.getfield 7, 3) := dk_180 0 7 (dk_at dksX6_puts_1 5 rfl rfl)
theorem dX6_puts_31 : decode cX6_puts 31 = .ok (.iload 5, 2) := dk_21 5 (dk_at dksX6_puts_1 8 rfl rfl)
theorem dX6_puts_33 : decode cX6_puts 33 = .ok (.iconst 1, 1) := dk_4 (dk_at dksX6_puts_1 10 rfl rfl)
theorem dX6_puts_34 : decode cX6_puts 34 = .ok (.iadd, 1) := dk_96 (dk_at dksX6_puts_1 11 rfl rfl)
theorem dX6_puts_35 : decode cX6_puts 35 = .ok (.iload_n 3, 1) := dk_29 (dk_at dksX6_puts_1 12 rfl rfl)
theorem dX6_puts_36 : decode cX6_puts 36 = .ok (.iastore, 1) := dk_79 (dk_at dksX6_puts_1 13 rfl rfl)
theorem dX6_puts_37 : decode cX6_puts 37 = .ok (.aload_n 0, 1) := dk_42 (dk_at dksX6_puts_1 14 rfl rfl)
theorem dX6_puts_38 : decode cX6_puts 38 = .ok (.getfield 7, 3) := dk_180 0 7 (dk_at dksX6_puts_1 15 rfl rfl)
theorem dX6_puts_41 : decode cX6_puts 41 = .ok (.iload 5, 2) := dk_21 5 (dk_at dksX6_puts_1 18 rfl rfl)
theorem dX6_puts_43 : decode cX6_puts 43 = .ok (.iconst 2, 1) := dk_5 (dk_at dksX6_puts_1 20 rfl rfl)
theorem dX6_puts_44 : decode cX6_puts 44 = .ok (.iadd, 1) := dk_96 (dk_at dksX6_puts_1 21 rfl rfl)
theorem dX6_puts_45 : decode cX6_puts 45 = .ok (.iload 4, 2) := dk_21 4 (dk_at dksX6_puts_1 22 rfl rfl)
theorem dX6_puts_47 : decode cX6_puts 47 = .ok (.iastore, 1) := dk_79 (dk_at dksX6_puts_2 0 rfl rfl)
theorem dX6_puts_48 : decode cX6_puts 48 = .ok (.aload_n 0, 1) := dk_42 (dk_at dksX6_puts_2 1 rfl rfl)
theorem dX6_puts_49 : decode cX6_puts 49 = .ok (.getfield 7, 3) := dk_180 0 7 (dk_at dksX6_puts_2 2 rfl rfl)
theorem dX6_puts_52 : decode cX6_puts 52 = .ok (.bipush 18, 2) := dk_16 18 (dk_at dksX6_puts_2 5 rfl rfl)
theorem dX6_puts_54 : decode cX6_puts 54 = .ok (.bipush 74, 2) := dk_16 74 (dk_at dksX6_puts_2 7 rfl rfl)
theorem dX6_puts_56 : decode cX6_puts 56 = .ok (.iload_n 1, 1) := dk_27 (dk_at dksX6_puts_2 9 rfl rfl)
theorem dX6_puts_57 : decode cX6_puts 57 = .ok (.imul, 1) := dk_104 (dk_at dksX6_puts_2 10 rfl rfl)
theorem dX6_puts_58 : decode cX6_puts 58 = .ok (.iadd, 1) := dk_96 (dk_at dksX6_puts_2 11 rfl rfl)
theorem dX6_puts_59 : decode cX6_puts 59 = .ok (.iconst 0, 1) := dk_3 (dk_at dksX6_puts_2 12 rfl rfl)
theorem dX6_puts_60 : decode cX6_puts 60 = .ok (.iadd, 1) := dk_96 (dk_at dksX6_puts_2 13 rfl rfl)
theorem dX6_puts_61 : decode cX6_puts 61 = .ok (.dup2, 1) := dk_92 (dk_at dksX6_puts_2 14 rfl rfl)
theorem dX6_puts_62 : decode cX6_puts 62 = .ok (.iaload, 1) := dk_46 (dk_at dksX6_puts_2 15 rfl rfl)
theorem dX6_puts_63 : decode cX6_puts 63 = .ok (.iconst 1, 1) := dk_4 (dk_at dksX6_puts_2 16 rfl rfl)
theorem dX6_puts_64 : decode cX6_puts 64 = .ok (.iadd, 1) := dk_96 (dk_at dksX6_puts_2 17 rfl rfl)
theorem dX6_puts_65 : decode cX6_puts 65 = .ok (.iastore, 1) := dk_79 (dk_at dksX6_puts_2 18 rfl rfl)
theorem dX6_puts_66 : decode cX6_puts 66 = .ok (.aload_n 0, 1) := dk_42 (dk_at dksX6_puts_2 19 rfl rfl)
theorem dX6_puts_67 : decode cX6_puts 67 = .ok (.aload_n 0, 1) := dk_42 (dk_at dksX6_puts_2 20 rfl rfl)
theorem dX6_puts_68 : decode cX6_puts 68 = .ok (.iload_n 1, 1) := dk_27 (dk_at dksX6_puts_2 21 rfl rfl)
theorem dX6_puts_69 : decode cX6_puts 69 = .ok (.invokevirtual 106, 3) := dk_182 0 106 (dk_at dksX6_puts_3 0 rfl rfl)
theorem dX6_puts_72 : decode cX6_puts 72 = .ok (.invokevirtual 133, 3) := dk_182 0 133 (dk_at dksX6_puts_3 3 rfl rfl)
theorem dX6_puts_75 : decode cX6_puts 75 = .ok (.ireturn, 1) := dk_172 (dk_at dksX6_puts_3 6 rfl rfl)
abbrev cX6_appendVerb : ByteArray := prog_23_method_42_code
def yX6_appendVerb : MethodName := ⟨RX6, "appendVerb", "(III)I"⟩
def dkwX6_appendVerb_0 : List UInt8 := [42, 182, 0, 150, 42, 42, 27, 28, 29, 182, 0, 179, 182, 0, 156, 172]
abbrev dktX6_appendVerb_0 : List UInt8 := dkwX6_appendVerb_0 ++ []
theorem dksX6_appendVerb_0 : cX6_appendVerb.data.toList.drop 0 = dktX6_appendVerb_0 := by decide +kernel
theorem dX6_appendVerb_0 : decode cX6_appendVerb 0 = .ok (.aload_n 0, 1) := dk_42 (dk_at dksX6_appendVerb_0 0 rfl rfl)
theorem dX6_appendVerb_1 : decode cX6_appendVerb 1 = .ok (.invokevirtual 150, 3) := dk_182 0 150 (dk_at dksX6_appendVerb_0 1 rfl rfl)
theorem dX6_appendVerb_4 : decode cX6_appendVerb 4 = .ok (.aload_n 0, 1) := dk_42 (dk_at dksX6_appendVerb_0 4 rfl rfl)
theorem dX6_appendVerb_5 : decode cX6_appendVerb 5 = .ok (.aload_n 0, 1) := dk_42 (dk_at dksX6_appendVerb_0 5 rfl rfl)
theorem dX6_appendVerb_6 : decode cX6_appendVerb 6 = .ok (.iload_n 1, 1) := dk_27 (dk_at dksX6_appendVerb_0 6 rfl rfl)
theorem dX6_appendVerb_7 : decode cX6_appendVerb 7 = .ok (.iload_n 2, 1) := dk_28 (dk_at dksX6_appendVerb_0 7 rfl rfl)
theorem dX6_appendVerb_8 : decode cX6_appendVerb 8 = .ok (.iload_n 3, 1) := dk_29 (dk_at dksX6_appendVerb_0 8 rfl rfl)
theorem dX6_appendVerb_9 : decode cX6_appendVerb 9 = .ok (.invokevirtual 179, 3) := dk_182 0 179 (dk_at dksX6_appendVerb_0 9 rfl rfl)
theorem dX6_appendVerb_12 : decode cX6_appendVerb 12 = .ok (.invokevirtual 156, 3) := dk_182 0 156 (dk_at dksX6_appendVerb_0 12 rfl rfl)
theorem dX6_appendVerb_15 : decode cX6_appendVerb 15 = .ok (.ireturn, 1) := dk_172 (dk_at dksX6_appendVerb_0 15 rfl rfl)
abbrev cX6_putsVerb : ByteArray := prog_23_method_25_code
def yX6_putsVerb : MethodName := ⟨RX6, "putsVerb", "(III)I"⟩
def dkwX6_putsVerb_2 : List UInt8 := [167, 0, 11, 42, 27, 4, 28, 29, 182, 0, 139, 172]
abbrev dktX6_putsVerb_2 : List UInt8 := dkwX6_putsVerb_2 ++ []
def dkwX6_putsVerb_1 : List UInt8 := [172, 29, 3, 5, 184, 0, 78, 154, 0, 5, 5, 172, 42, 27, 182, 0, 106, 16, 24, 160, 0, 7, 6]
abbrev dktX6_putsVerb_1 : List UInt8 := dkwX6_putsVerb_1 ++ dktX6_putsVerb_2
def dkwX6_putsVerb_0 : List UInt8 := [27, 184, 0, 136, 153, 0, 19, 28, 3, 42, 180, 0, 7, 4, 46, 4, 100, 184, 0, 78, 154, 0, 5, 4]
abbrev dktX6_putsVerb_0 : List UInt8 := dkwX6_putsVerb_0 ++ dktX6_putsVerb_1
theorem dksX6_putsVerb_0 : cX6_putsVerb.data.toList.drop 0 = dktX6_putsVerb_0 := by decide +kernel
theorem dksX6_putsVerb_1 : cX6_putsVerb.data.toList.drop 24 = dktX6_putsVerb_1 := dk_seg dksX6_putsVerb_0 24 rfl rfl
theorem dksX6_putsVerb_2 : cX6_putsVerb.data.toList.drop 47 = dktX6_putsVerb_2 := dk_seg dksX6_putsVerb_1 23 rfl rfl
theorem dX6_putsVerb_0 : decode cX6_putsVerb 0 = .ok (.iload_n 1, 1) := dk_27 (dk_at dksX6_putsVerb_0 0 rfl rfl)
theorem dX6_putsVerb_1 : decode cX6_putsVerb 1 = .ok (.invokestatic 136, 3) := dk_184 0 136 (dk_at dksX6_putsVerb_0 1 rfl rfl)
theorem dX6_putsVerb_4 : decode cX6_putsVerb 4 = .ok (.ifCond .eq 19, 3) := dk_153 0 19 (dk_at dksX6_putsVerb_0 4 rfl rfl)
theorem dX6_putsVerb_7 : decode cX6_putsVerb 7 = .ok (.iload_n 2, 1) := dk_28 (dk_at dksX6_putsVerb_0 7 rfl rfl)
theorem dX6_putsVerb_8 : decode cX6_putsVerb 8 = .ok (.iconst 0, 1) := dk_3 (dk_at dksX6_putsVerb_0 8 rfl rfl)
theorem dX6_putsVerb_9 : decode cX6_putsVerb 9 = .ok (.aload_n 0, 1) := dk_42 (dk_at dksX6_putsVerb_0 9 rfl rfl)
theorem dX6_putsVerb_10 : decode cX6_putsVerb 10 = .ok (.getfield 7, 3) := dk_180 0 7 (dk_at dksX6_putsVerb_0 10 rfl rfl)
theorem dX6_putsVerb_13 : decode cX6_putsVerb 13 = .ok (.iconst 1, 1) := dk_4 (dk_at dksX6_putsVerb_0 13 rfl rfl)
theorem dX6_putsVerb_14 : decode cX6_putsVerb 14 = .ok (.iaload, 1) := dk_46 (dk_at dksX6_putsVerb_0 14 rfl rfl)
theorem dX6_putsVerb_15 : decode cX6_putsVerb 15 = .ok (.iconst 1, 1) := dk_4 (dk_at dksX6_putsVerb_0 15 rfl rfl)
theorem dX6_putsVerb_16 : decode cX6_putsVerb 16 = .ok (.isub, 1) := dk_100 (dk_at dksX6_putsVerb_0 16 rfl rfl)
theorem dX6_putsVerb_17 : decode cX6_putsVerb 17 = .ok (.invokestatic 78, 3) := dk_184 0 78 (dk_at dksX6_putsVerb_0 17 rfl rfl)
theorem dX6_putsVerb_20 : decode cX6_putsVerb 20 = .ok (.ifCond .ne 5, 3) := dk_154 0 5 (dk_at dksX6_putsVerb_0 20 rfl rfl)
theorem dX6_putsVerb_23 : decode cX6_putsVerb 23 = .ok (.iconst 1, 1) := dk_4 (dk_at dksX6_putsVerb_0 23 rfl rfl)
theorem dX6_putsVerb_24 : decode cX6_putsVerb 24 = .ok (.ireturn, 1) := dk_172 (dk_at dksX6_putsVerb_1 0 rfl rfl)
theorem dX6_putsVerb_25 : decode cX6_putsVerb 25 = .ok (.iload_n 3, 1) := dk_29 (dk_at dksX6_putsVerb_1 1 rfl rfl)
theorem dX6_putsVerb_26 : decode cX6_putsVerb 26 = .ok (.iconst 0, 1) := dk_3 (dk_at dksX6_putsVerb_1 2 rfl rfl)
theorem dX6_putsVerb_27 : decode cX6_putsVerb 27 = .ok (.iconst 2, 1) := dk_5 (dk_at dksX6_putsVerb_1 3 rfl rfl)
theorem dX6_putsVerb_28 : decode cX6_putsVerb 28 = .ok (.invokestatic 78, 3) := dk_184 0 78 (dk_at dksX6_putsVerb_1 4 rfl rfl)
theorem dX6_putsVerb_31 : decode cX6_putsVerb 31 = .ok (.ifCond .ne 5, 3) := dk_154 0 5 (dk_at dksX6_putsVerb_1 7 rfl rfl)
theorem dX6_putsVerb_34 : decode cX6_putsVerb 34 = .ok (.iconst 2, 1) := dk_5 (dk_at dksX6_putsVerb_1 10 rfl rfl)
theorem dX6_putsVerb_35 : decode cX6_putsVerb 35 = .ok (.ireturn, 1) := dk_172 (dk_at dksX6_putsVerb_1 11 rfl rfl)
theorem dX6_putsVerb_36 : decode cX6_putsVerb 36 = .ok (.aload_n 0, 1) := dk_42 (dk_at dksX6_putsVerb_1 12 rfl rfl)
theorem dX6_putsVerb_37 : decode cX6_putsVerb 37 = .ok (.iload_n 1, 1) := dk_27 (dk_at dksX6_putsVerb_1 13 rfl rfl)
theorem dX6_putsVerb_38 : decode cX6_putsVerb 38 = .ok (.invokevirtual 106, 3) := dk_182 0 106 (dk_at dksX6_putsVerb_1 14 rfl rfl)
theorem dX6_putsVerb_41 : decode cX6_putsVerb 41 = .ok (.bipush 24, 2) := dk_16 24 (dk_at dksX6_putsVerb_1 17 rfl rfl)
theorem dX6_putsVerb_43 : decode cX6_putsVerb 43 = .ok (.if_icmp .ne 7, 3) := dk_160 0 7 (dk_at dksX6_putsVerb_1 19 rfl rfl)
theorem dX6_putsVerb_46 : decode cX6_putsVerb 46 = .ok (.iconst 3, 1) := dk_6 (dk_at dksX6_putsVerb_1 22 rfl rfl)
theorem dX6_putsVerb_47 : decode cX6_putsVerb 47 = .ok (.goto 11, 3) := dk_167 0 11 (dk_at dksX6_putsVerb_2 0 rfl rfl)
theorem dX6_putsVerb_50 : decode cX6_putsVerb 50 = .ok (.aload_n 0, 1) := dk_42 (dk_at dksX6_putsVerb_2 3 rfl rfl)
theorem dX6_putsVerb_51 : decode cX6_putsVerb 51 = .ok (.iload_n 1, 1) := dk_27 (dk_at dksX6_putsVerb_2 4 rfl rfl)
theorem dX6_putsVerb_52 : decode cX6_putsVerb 52 = .ok (.iconst 1, 1) := dk_4 (dk_at dksX6_putsVerb_2 5 rfl rfl)
theorem dX6_putsVerb_53 : decode cX6_putsVerb 53 = .ok (.iload_n 2, 1) := dk_28 (dk_at dksX6_putsVerb_2 6 rfl rfl)
theorem dX6_putsVerb_54 : decode cX6_putsVerb 54 = .ok (.iload_n 3, 1) := dk_29 (dk_at dksX6_putsVerb_2 7 rfl rfl)
theorem dX6_putsVerb_55 : decode cX6_putsVerb 55 = .ok (.invokevirtual 139, 3) := dk_182 0 139 (dk_at dksX6_putsVerb_2 8 rfl rfl)
theorem dX6_putsVerb_58 : decode cX6_putsVerb 58 = .ok (.ireturn, 1) := dk_172 (dk_at dksX6_putsVerb_2 11 rfl rfl)
abbrev cX6_appendOpen : ByteArray := prog_23_method_43_code
def yX6_appendOpen : MethodName := ⟨RX6, "appendOpen", "(I)I"⟩
def dkwX6_appendOpen_0 : List UInt8 := [42, 182, 0, 150, 42, 42, 27, 5, 182, 0, 182, 182, 0, 156, 172]
abbrev dktX6_appendOpen_0 : List UInt8 := dkwX6_appendOpen_0 ++ []
theorem dksX6_appendOpen_0 : cX6_appendOpen.data.toList.drop 0 = dktX6_appendOpen_0 := by decide +kernel
theorem dX6_appendOpen_0 : decode cX6_appendOpen 0 = .ok (.aload_n 0, 1) := dk_42 (dk_at dksX6_appendOpen_0 0 rfl rfl)
theorem dX6_appendOpen_1 : decode cX6_appendOpen 1 = .ok (.invokevirtual 150, 3) := dk_182 0 150 (dk_at dksX6_appendOpen_0 1 rfl rfl)
theorem dX6_appendOpen_4 : decode cX6_appendOpen 4 = .ok (.aload_n 0, 1) := dk_42 (dk_at dksX6_appendOpen_0 4 rfl rfl)
theorem dX6_appendOpen_5 : decode cX6_appendOpen 5 = .ok (.aload_n 0, 1) := dk_42 (dk_at dksX6_appendOpen_0 5 rfl rfl)
theorem dX6_appendOpen_6 : decode cX6_appendOpen 6 = .ok (.iload_n 1, 1) := dk_27 (dk_at dksX6_appendOpen_0 6 rfl rfl)
theorem dX6_appendOpen_7 : decode cX6_appendOpen 7 = .ok (.iconst 2, 1) := dk_5 (dk_at dksX6_appendOpen_0 7 rfl rfl)
theorem dX6_appendOpen_8 : decode cX6_appendOpen 8 = .ok (.invokevirtual 182, 3) := dk_182 0 182 (dk_at dksX6_appendOpen_0 8 rfl rfl)
theorem dX6_appendOpen_11 : decode cX6_appendOpen 11 = .ok (.invokevirtual 156, 3) := dk_182 0 156 (dk_at dksX6_appendOpen_0 11 rfl rfl)
theorem dX6_appendOpen_14 : decode cX6_appendOpen 14 = .ok (.ireturn, 1) := dk_172 (dk_at dksX6_appendOpen_0 14 rfl rfl)
abbrev cX6_putsMark : ByteArray := prog_23_method_26_code
def yX6_putsMark : MethodName := ⟨RX6, "putsMark", "(II)I"⟩
def dkwX6_putsMark_1 : List UInt8 := [27, 28, 3, 3, 182, 0, 139, 172]
abbrev dktX6_putsMark_1 : List UInt8 := dkwX6_putsMark_1 ++ []
def dkwX6_putsMark_0 : List UInt8 := [27, 184, 0, 136, 154, 0, 5, 4, 172, 42, 27, 182, 0, 106, 16, 24, 160, 0, 7, 5, 167, 0, 11, 42]
abbrev dktX6_putsMark_0 : List UInt8 := dkwX6_putsMark_0 ++ dktX6_putsMark_1
theorem dksX6_putsMark_0 : cX6_putsMark.data.toList.drop 0 = dktX6_putsMark_0 := by decide +kernel
theorem dksX6_putsMark_1 : cX6_putsMark.data.toList.drop 24 = dktX6_putsMark_1 := dk_seg dksX6_putsMark_0 24 rfl rfl
theorem dX6_putsMark_0 : decode cX6_putsMark 0 = .ok (.iload_n 1, 1) := dk_27 (dk_at dksX6_putsMark_0 0 rfl rfl)
theorem dX6_putsMark_1 : decode cX6_putsMark 1 = .ok (.invokestatic 136, 3) := dk_184 0 136 (dk_at dksX6_putsMark_0 1 rfl rfl)
theorem dX6_putsMark_4 : decode cX6_putsMark 4 = .ok (.ifCond .ne 5, 3) := dk_154 0 5 (dk_at dksX6_putsMark_0 4 rfl rfl)
theorem dX6_putsMark_7 : decode cX6_putsMark 7 = .ok (.iconst 1, 1) := dk_4 (dk_at dksX6_putsMark_0 7 rfl rfl)
theorem dX6_putsMark_8 : decode cX6_putsMark 8 = .ok (.ireturn, 1) := dk_172 (dk_at dksX6_putsMark_0 8 rfl rfl)
theorem dX6_putsMark_9 : decode cX6_putsMark 9 = .ok (.aload_n 0, 1) := dk_42 (dk_at dksX6_putsMark_0 9 rfl rfl)
theorem dX6_putsMark_10 : decode cX6_putsMark 10 = .ok (.iload_n 1, 1) := dk_27 (dk_at dksX6_putsMark_0 10 rfl rfl)
theorem dX6_putsMark_11 : decode cX6_putsMark 11 = .ok (.invokevirtual 106, 3) := dk_182 0 106 (dk_at dksX6_putsMark_0 11 rfl rfl)
theorem dX6_putsMark_14 : decode cX6_putsMark 14 = .ok (.bipush 24, 2) := dk_16 24 (dk_at dksX6_putsMark_0 14 rfl rfl)
theorem dX6_putsMark_16 : decode cX6_putsMark 16 = .ok (.if_icmp .ne 7, 3) := dk_160 0 7 (dk_at dksX6_putsMark_0 16 rfl rfl)
theorem dX6_putsMark_19 : decode cX6_putsMark 19 = .ok (.iconst 2, 1) := dk_5 (dk_at dksX6_putsMark_0 19 rfl rfl)
theorem dX6_putsMark_20 : decode cX6_putsMark 20 = .ok (.goto 11, 3) := dk_167 0 11 (dk_at dksX6_putsMark_0 20 rfl rfl)
theorem dX6_putsMark_23 : decode cX6_putsMark 23 = .ok (.aload_n 0, 1) := dk_42 (dk_at dksX6_putsMark_0 23 rfl rfl)
theorem dX6_putsMark_24 : decode cX6_putsMark 24 = .ok (.iload_n 1, 1) := dk_27 (dk_at dksX6_putsMark_1 0 rfl rfl)
theorem dX6_putsMark_25 : decode cX6_putsMark 25 = .ok (.iload_n 2, 1) := dk_28 (dk_at dksX6_putsMark_1 1 rfl rfl)
theorem dX6_putsMark_26 : decode cX6_putsMark 26 = .ok (.iconst 0, 1) := dk_3 (dk_at dksX6_putsMark_1 2 rfl rfl)
theorem dX6_putsMark_27 : decode cX6_putsMark 27 = .ok (.iconst 0, 1) := dk_3 (dk_at dksX6_putsMark_1 3 rfl rfl)
theorem dX6_putsMark_28 : decode cX6_putsMark 28 = .ok (.invokevirtual 139, 3) := dk_182 0 139 (dk_at dksX6_putsMark_1 4 rfl rfl)
theorem dX6_putsMark_31 : decode cX6_putsMark 31 = .ok (.ireturn, 1) := dk_172 (dk_at dksX6_putsMark_1 7 rfl rfl)
abbrev cX6_appendClose : ByteArray := prog_23_method_44_code
def yX6_appendClose : MethodName := ⟨RX6, "appendClose", "(I)I"⟩
def dkwX6_appendClose_0 : List UInt8 := [42, 182, 0, 150, 42, 42, 27, 6, 182, 0, 182, 182, 0, 156, 172]
abbrev dktX6_appendClose_0 : List UInt8 := dkwX6_appendClose_0 ++ []
theorem dksX6_appendClose_0 : cX6_appendClose.data.toList.drop 0 = dktX6_appendClose_0 := by decide +kernel
theorem dX6_appendClose_0 : decode cX6_appendClose 0 = .ok (.aload_n 0, 1) := dk_42 (dk_at dksX6_appendClose_0 0 rfl rfl)
theorem dX6_appendClose_1 : decode cX6_appendClose 1 = .ok (.invokevirtual 150, 3) := dk_182 0 150 (dk_at dksX6_appendClose_0 1 rfl rfl)
theorem dX6_appendClose_4 : decode cX6_appendClose 4 = .ok (.aload_n 0, 1) := dk_42 (dk_at dksX6_appendClose_0 4 rfl rfl)
theorem dX6_appendClose_5 : decode cX6_appendClose 5 = .ok (.aload_n 0, 1) := dk_42 (dk_at dksX6_appendClose_0 5 rfl rfl)
theorem dX6_appendClose_6 : decode cX6_appendClose 6 = .ok (.iload_n 1, 1) := dk_27 (dk_at dksX6_appendClose_0 6 rfl rfl)
theorem dX6_appendClose_7 : decode cX6_appendClose 7 = .ok (.iconst 3, 1) := dk_6 (dk_at dksX6_appendClose_0 7 rfl rfl)
theorem dX6_appendClose_8 : decode cX6_appendClose 8 = .ok (.invokevirtual 182, 3) := dk_182 0 182 (dk_at dksX6_appendClose_0 8 rfl rfl)
theorem dX6_appendClose_11 : decode cX6_appendClose 11 = .ok (.invokevirtual 156, 3) := dk_182 0 156 (dk_at dksX6_appendClose_0 11 rfl rfl)
theorem dX6_appendClose_14 : decode cX6_appendClose 14 = .ok (.ireturn, 1) := dk_172 (dk_at dksX6_appendClose_0 14 rfl rfl)
abbrev cX6_appendAnd : ByteArray := prog_23_method_45_code
def yX6_appendAnd : MethodName := ⟨RX6, "appendAnd", "(I)I"⟩
def dkwX6_appendAnd_0 : List UInt8 := [42, 182, 0, 150, 42, 42, 27, 7, 182, 0, 182, 182, 0, 156, 172]
abbrev dktX6_appendAnd_0 : List UInt8 := dkwX6_appendAnd_0 ++ []
theorem dksX6_appendAnd_0 : cX6_appendAnd.data.toList.drop 0 = dktX6_appendAnd_0 := by decide +kernel
theorem dX6_appendAnd_0 : decode cX6_appendAnd 0 = .ok (.aload_n 0, 1) := dk_42 (dk_at dksX6_appendAnd_0 0 rfl rfl)
theorem dX6_appendAnd_1 : decode cX6_appendAnd 1 = .ok (.invokevirtual 150, 3) := dk_182 0 150 (dk_at dksX6_appendAnd_0 1 rfl rfl)
theorem dX6_appendAnd_4 : decode cX6_appendAnd 4 = .ok (.aload_n 0, 1) := dk_42 (dk_at dksX6_appendAnd_0 4 rfl rfl)
theorem dX6_appendAnd_5 : decode cX6_appendAnd 5 = .ok (.aload_n 0, 1) := dk_42 (dk_at dksX6_appendAnd_0 5 rfl rfl)
theorem dX6_appendAnd_6 : decode cX6_appendAnd 6 = .ok (.iload_n 1, 1) := dk_27 (dk_at dksX6_appendAnd_0 6 rfl rfl)
theorem dX6_appendAnd_7 : decode cX6_appendAnd 7 = .ok (.iconst 4, 1) := dk_7 (dk_at dksX6_appendAnd_0 7 rfl rfl)
theorem dX6_appendAnd_8 : decode cX6_appendAnd 8 = .ok (.invokevirtual 182, 3) := dk_182 0 182 (dk_at dksX6_appendAnd_0 8 rfl rfl)
theorem dX6_appendAnd_11 : decode cX6_appendAnd 11 = .ok (.invokevirtual 156, 3) := dk_182 0 156 (dk_at dksX6_appendAnd_0 11 rfl rfl)
theorem dX6_appendAnd_14 : decode cX6_appendAnd 14 = .ok (.ireturn, 1) := dk_172 (dk_at dksX6_appendAnd_0 14 rfl rfl)
abbrev cX6_removeLast : ByteArray := prog_23_method_46_code
def yX6_removeLast : MethodName := ⟨RX6, "removeLast", "(I)I"⟩
def dkwX6_removeLast_0 : List UInt8 := [42, 182, 0, 150, 42, 42, 27, 182, 0, 185, 182, 0, 156, 172]
abbrev dktX6_removeLast_0 : List UInt8 := dkwX6_removeLast_0 ++ []
theorem dksX6_removeLast_0 : cX6_removeLast.data.toList.drop 0 = dktX6_removeLast_0 := by decide +kernel
theorem dX6_removeLast_0 : decode cX6_removeLast 0 = .ok (.aload_n 0, 1) := dk_42 (dk_at dksX6_removeLast_0 0 rfl rfl)
theorem dX6_removeLast_1 : decode cX6_removeLast 1 = .ok (.invokevirtual 150, 3) := dk_182 0 150 (dk_at dksX6_removeLast_0 1 rfl rfl)
theorem dX6_removeLast_4 : decode cX6_removeLast 4 = .ok (.aload_n 0, 1) := dk_42 (dk_at dksX6_removeLast_0 4 rfl rfl)
theorem dX6_removeLast_5 : decode cX6_removeLast 5 = .ok (.aload_n 0, 1) := dk_42 (dk_at dksX6_removeLast_0 5 rfl rfl)
theorem dX6_removeLast_6 : decode cX6_removeLast 6 = .ok (.iload_n 1, 1) := dk_27 (dk_at dksX6_removeLast_0 6 rfl rfl)
theorem dX6_removeLast_7 : decode cX6_removeLast 7 = .ok (.invokevirtual 185, 3) := dk_182 0 185 (dk_at dksX6_removeLast_0 7 rfl rfl)
theorem dX6_removeLast_10 : decode cX6_removeLast 10 = .ok (.invokevirtual 156, 3) := dk_182 0 156 (dk_at dksX6_removeLast_0 10 rfl rfl)
theorem dX6_removeLast_13 : decode cX6_removeLast 13 = .ok (.ireturn, 1) := dk_172 (dk_at dksX6_removeLast_0 13 rfl rfl)
abbrev cX6_drops : ByteArray := prog_23_method_28_code
def yX6_drops : MethodName := ⟨RX6, "drops", "(I)I"⟩
def dkwX6_drops_1 : List UInt8 := [27, 28, 182, 0, 98, 62, 42, 27, 28, 182, 0, 143, 42, 29, 182, 0, 133, 172]
abbrev dktX6_drops_1 : List UInt8 := dkwX6_drops_1 ++ []
def dkwX6_drops_0 : List UInt8 := [27, 184, 0, 136, 154, 0, 5, 4, 172, 42, 27, 182, 0, 106, 4, 100, 61, 28, 156, 0, 5, 5, 172, 42]
abbrev dktX6_drops_0 : List UInt8 := dkwX6_drops_0 ++ dktX6_drops_1
theorem dksX6_drops_0 : cX6_drops.data.toList.drop 0 = dktX6_drops_0 := by decide +kernel
theorem dksX6_drops_1 : cX6_drops.data.toList.drop 24 = dktX6_drops_1 := dk_seg dksX6_drops_0 24 rfl rfl
theorem dX6_drops_0 : decode cX6_drops 0 = .ok (.iload_n 1, 1) := dk_27 (dk_at dksX6_drops_0 0 rfl rfl)
theorem dX6_drops_1 : decode cX6_drops 1 = .ok (.invokestatic 136, 3) := dk_184 0 136 (dk_at dksX6_drops_0 1 rfl rfl)
theorem dX6_drops_4 : decode cX6_drops 4 = .ok (.ifCond .ne 5, 3) := dk_154 0 5 (dk_at dksX6_drops_0 4 rfl rfl)
theorem dX6_drops_7 : decode cX6_drops 7 = .ok (.iconst 1, 1) := dk_4 (dk_at dksX6_drops_0 7 rfl rfl)
theorem dX6_drops_8 : decode cX6_drops 8 = .ok (.ireturn, 1) := dk_172 (dk_at dksX6_drops_0 8 rfl rfl)
theorem dX6_drops_9 : decode cX6_drops 9 = .ok (.aload_n 0, 1) := dk_42 (dk_at dksX6_drops_0 9 rfl rfl)
theorem dX6_drops_10 : decode cX6_drops 10 = .ok (.iload_n 1, 1) := dk_27 (dk_at dksX6_drops_0 10 rfl rfl)
theorem dX6_drops_11 : decode cX6_drops 11 = .ok (.invokevirtual 106, 3) := dk_182 0 106 (dk_at dksX6_drops_0 11 rfl rfl)
theorem dX6_drops_14 : decode cX6_drops 14 = .ok (.iconst 1, 1) := dk_4 (dk_at dksX6_drops_0 14 rfl rfl)
theorem dX6_drops_15 : decode cX6_drops 15 = .ok (.isub, 1) := dk_100 (dk_at dksX6_drops_0 15 rfl rfl)
theorem dX6_drops_16 : decode cX6_drops 16 = .ok (.istore_n 2, 1) := dk_61 (dk_at dksX6_drops_0 16 rfl rfl)
theorem dX6_drops_17 : decode cX6_drops 17 = .ok (.iload_n 2, 1) := dk_28 (dk_at dksX6_drops_0 17 rfl rfl)
theorem dX6_drops_18 : decode cX6_drops 18 = .ok (.ifCond .ge 5, 3) := dk_156 0 5 (dk_at dksX6_drops_0 18 rfl rfl)
theorem dX6_drops_21 : decode cX6_drops 21 = .ok (.iconst 2, 1) := dk_5 (dk_at dksX6_drops_0 21 rfl rfl)
theorem dX6_drops_22 : decode cX6_drops 22 = .ok (.ireturn, 1) := dk_172 (dk_at dksX6_drops_0 22 rfl rfl)
theorem dX6_drops_23 : decode cX6_drops 23 = .ok (.aload_n 0, 1) := dk_42 (dk_at dksX6_drops_0 23 rfl rfl)
theorem dX6_drops_24 : decode cX6_drops 24 = .ok (.iload_n 1, 1) := dk_27 (dk_at dksX6_drops_1 0 rfl rfl)
theorem dX6_drops_25 : decode cX6_drops 25 = .ok (.iload_n 2, 1) := dk_28 (dk_at dksX6_drops_1 1 rfl rfl)
theorem dX6_drops_26 : decode cX6_drops 26 = .ok (.invokevirtual 98, 3) := dk_182 0 98 (dk_at dksX6_drops_1 2 rfl rfl)
theorem dX6_drops_29 : decode cX6_drops 29 = .ok (.istore_n 3, 1) := dk_62 (dk_at dksX6_drops_1 5 rfl rfl)
theorem dX6_drops_30 : decode cX6_drops 30 = .ok (.aload_n 0, 1) := dk_42 (dk_at dksX6_drops_1 6 rfl rfl)
theorem dX6_drops_31 : decode cX6_drops 31 = .ok (.iload_n 1, 1) := dk_27 (dk_at dksX6_drops_1 7 rfl rfl)
theorem dX6_drops_32 : decode cX6_drops 32 = .ok (.iload_n 2, 1) := dk_28 (dk_at dksX6_drops_1 8 rfl rfl)
theorem dX6_drops_33 : decode cX6_drops 33 = .ok (.invokevirtual 143, 3) := dk_182 0 143 (dk_at dksX6_drops_1 9 rfl rfl)
theorem dX6_drops_36 : decode cX6_drops 36 = .ok (.aload_n 0, 1) := dk_42 (dk_at dksX6_drops_1 12 rfl rfl)
theorem dX6_drops_37 : decode cX6_drops 37 = .ok (.iload_n 3, 1) := dk_29 (dk_at dksX6_drops_1 13 rfl rfl)
theorem dX6_drops_38 : decode cX6_drops 38 = .ok (.invokevirtual 133, 3) := dk_182 0 133 (dk_at dksX6_drops_1 14 rfl rfl)
theorem dX6_drops_41 : decode cX6_drops 41 = .ok (.ireturn, 1) := dk_172 (dk_at dksX6_drops_1 17 rfl rfl)
abbrev cX6_kind : ByteArray := prog_23_method_12_code
def yX6_kind : MethodName := ⟨RX6, "kind", "(II)I"⟩
def dkwX6_kind_0 : List UInt8 := [42, 27, 28, 3, 182, 0, 82, 172]
abbrev dktX6_kind_0 : List UInt8 := dkwX6_kind_0 ++ []
theorem dksX6_kind_0 : cX6_kind.data.toList.drop 0 = dktX6_kind_0 := by decide +kernel
theorem dX6_kind_0 : decode cX6_kind 0 = .ok (.aload_n 0, 1) := dk_42 (dk_at dksX6_kind_0 0 rfl rfl)
theorem dX6_kind_1 : decode cX6_kind 1 = .ok (.iload_n 1, 1) := dk_27 (dk_at dksX6_kind_0 1 rfl rfl)
theorem dX6_kind_2 : decode cX6_kind 2 = .ok (.iload_n 2, 1) := dk_28 (dk_at dksX6_kind_0 2 rfl rfl)
theorem dX6_kind_3 : decode cX6_kind 3 = .ok (.iconst 0, 1) := dk_3 (dk_at dksX6_kind_0 3 rfl rfl)
theorem dX6_kind_4 : decode cX6_kind 4 = .ok (.invokevirtual 82, 3) := dk_182 0 82 (dk_at dksX6_kind_0 4 rfl rfl)
theorem dX6_kind_7 : decode cX6_kind 7 = .ok (.ireturn, 1) := dk_172 (dk_at dksX6_kind_0 7 rfl rfl)
abbrev cX6_part : ByteArray := prog_23_method_11_code
def yX6_part : MethodName := ⟨RX6, "part", "(III)I"⟩
def dkwX6_part_0 : List UInt8 := [42, 180, 0, 7, 16, 18, 16, 74, 27, 104, 96, 5, 96, 6, 28, 104, 96, 29, 96, 46, 172]
abbrev dktX6_part_0 : List UInt8 := dkwX6_part_0 ++ []
theorem dksX6_part_0 : cX6_part.data.toList.drop 0 = dktX6_part_0 := by decide +kernel
theorem dX6_part_0 : decode cX6_part 0 = .ok (.aload_n 0, 1) := dk_42 (dk_at dksX6_part_0 0 rfl rfl)
theorem dX6_part_1 : decode cX6_part 1 = .ok (.getfield 7, 3) := dk_180 0 7 (dk_at dksX6_part_0 1 rfl rfl)
theorem dX6_part_4 : decode cX6_part 4 = .ok (.bipush 18, 2) := dk_16 18 (dk_at dksX6_part_0 4 rfl rfl)
theorem dX6_part_6 : decode cX6_part 6 = .ok (.bipush 74, 2) := dk_16 74 (dk_at dksX6_part_0 6 rfl rfl)
theorem dX6_part_8 : decode cX6_part 8 = .ok (.iload_n 1, 1) := dk_27 (dk_at dksX6_part_0 8 rfl rfl)
theorem dX6_part_9 : decode cX6_part 9 = .ok (.imul, 1) := dk_104 (dk_at dksX6_part_0 9 rfl rfl)
theorem dX6_part_10 : decode cX6_part 10 = .ok (.iadd, 1) := dk_96 (dk_at dksX6_part_0 10 rfl rfl)
theorem dX6_part_11 : decode cX6_part 11 = .ok (.iconst 2, 1) := dk_5 (dk_at dksX6_part_0 11 rfl rfl)
theorem dX6_part_12 : decode cX6_part 12 = .ok (.iadd, 1) := dk_96 (dk_at dksX6_part_0 12 rfl rfl)
theorem dX6_part_13 : decode cX6_part 13 = .ok (.iconst 3, 1) := dk_6 (dk_at dksX6_part_0 13 rfl rfl)
theorem dX6_part_14 : decode cX6_part 14 = .ok (.iload_n 2, 1) := dk_28 (dk_at dksX6_part_0 14 rfl rfl)
theorem dX6_part_15 : decode cX6_part 15 = .ok (.imul, 1) := dk_104 (dk_at dksX6_part_0 15 rfl rfl)
theorem dX6_part_16 : decode cX6_part 16 = .ok (.iadd, 1) := dk_96 (dk_at dksX6_part_0 16 rfl rfl)
theorem dX6_part_17 : decode cX6_part 17 = .ok (.iload_n 3, 1) := dk_29 (dk_at dksX6_part_0 17 rfl rfl)
theorem dX6_part_18 : decode cX6_part 18 = .ok (.iadd, 1) := dk_96 (dk_at dksX6_part_0 18 rfl rfl)
theorem dX6_part_19 : decode cX6_part 19 = .ok (.iaload, 1) := dk_46 (dk_at dksX6_part_0 19 rfl rfl)
theorem dX6_part_20 : decode cX6_part 20 = .ok (.ireturn, 1) := dk_172 (dk_at dksX6_part_0 20 rfl rfl)
abbrev cX6_cuts : ByteArray := prog_23_method_27_code
def yX6_cuts : MethodName := ⟨RX6, "cuts", "(II)V"⟩
def dkwX6_cuts_2 : List UInt8 := [132, 3, 1, 167, 255, 207, 42, 180, 0, 7, 16, 18, 16, 74, 27, 104, 96, 3, 96, 28, 79, 177]
abbrev dktX6_cuts_2 : List UInt8 := dkwX6_cuts_2 ++ []
def dkwX6_cuts_1 : List UInt8 := [16, 18, 16, 74, 27, 104, 96, 5, 96, 6, 29, 104, 96, 21, 4, 96, 3, 79, 132, 4, 1, 167, 255, 225]
abbrev dktX6_cuts_1 : List UInt8 := dkwX6_cuts_1 ++ dktX6_cuts_2
def dkwX6_cuts_0 : List UInt8 := [28, 62, 29, 42, 27, 182, 0, 106, 162, 0, 46, 3, 54, 4, 21, 4, 6, 162, 0, 31, 42, 180, 0, 7]
abbrev dktX6_cuts_0 : List UInt8 := dkwX6_cuts_0 ++ dktX6_cuts_1
theorem dksX6_cuts_0 : cX6_cuts.data.toList.drop 0 = dktX6_cuts_0 := by decide +kernel
theorem dksX6_cuts_1 : cX6_cuts.data.toList.drop 24 = dktX6_cuts_1 := dk_seg dksX6_cuts_0 24 rfl rfl
theorem dksX6_cuts_2 : cX6_cuts.data.toList.drop 48 = dktX6_cuts_2 := dk_seg dksX6_cuts_1 24 rfl rfl
theorem dX6_cuts_0 : decode cX6_cuts 0 = .ok (.iload_n 2, 1) := dk_28 (dk_at dksX6_cuts_0 0 rfl rfl)
theorem dX6_cuts_1 : decode cX6_cuts 1 = .ok (.istore_n 3, 1) := dk_62 (dk_at dksX6_cuts_0 1 rfl rfl)
theorem dX6_cuts_2 : decode cX6_cuts 2 = .ok (.iload_n 3, 1) := dk_29 (dk_at dksX6_cuts_0 2 rfl rfl)
theorem dX6_cuts_3 : decode cX6_cuts 3 = .ok (.aload_n 0, 1) := dk_42 (dk_at dksX6_cuts_0 3 rfl rfl)
theorem dX6_cuts_4 : decode cX6_cuts 4 = .ok (.iload_n 1, 1) := dk_27 (dk_at dksX6_cuts_0 4 rfl rfl)
theorem dX6_cuts_5 : decode cX6_cuts 5 = .ok (.invokevirtual 106, 3) := dk_182 0 106 (dk_at dksX6_cuts_0 5 rfl rfl)
theorem dX6_cuts_8 : decode cX6_cuts 8 = .ok (.if_icmp .ge 46, 3) := dk_162 0 46 (dk_at dksX6_cuts_0 8 rfl rfl)
theorem dX6_cuts_11 : decode cX6_cuts 11 = .ok (.iconst 0, 1) := dk_3 (dk_at dksX6_cuts_0 11 rfl rfl)
theorem dX6_cuts_12 : decode cX6_cuts 12 = .ok (.istore 4, 2) := dk_54 4 (dk_at dksX6_cuts_0 12 rfl rfl)
theorem dX6_cuts_14 : decode cX6_cuts 14 = .ok (.iload 4, 2) := dk_21 4 (dk_at dksX6_cuts_0 14 rfl rfl)
theorem dX6_cuts_16 : decode cX6_cuts 16 = .ok (.iconst 3, 1) := dk_6 (dk_at dksX6_cuts_0 16 rfl rfl)
theorem dX6_cuts_17 : decode cX6_cuts 17 = .ok (.if_icmp .ge 31, 3) := dk_162 0 31 (dk_at dksX6_cuts_0 17 rfl rfl)
theorem dX6_cuts_20 : decode cX6_cuts 20 = .ok (.aload_n 0, 1) := dk_42 (dk_at dksX6_cuts_0 20 rfl rfl)
theorem dX6_cuts_21 : decode cX6_cuts 21 = .ok (.getfield 7, 3) := dk_180 0 7 (dk_at dksX6_cuts_0 21 rfl rfl)
theorem dX6_cuts_24 : decode cX6_cuts 24 = .ok (.bipush 18, 2) := dk_16 18 (dk_at dksX6_cuts_1 0 rfl rfl)
theorem dX6_cuts_26 : decode cX6_cuts 26 = .ok (.bipush 74, 2) := dk_16 74 (dk_at dksX6_cuts_1 2 rfl rfl)
theorem dX6_cuts_28 : decode cX6_cuts 28 = .ok (.iload_n 1, 1) := dk_27 (dk_at dksX6_cuts_1 4 rfl rfl)
theorem dX6_cuts_29 : decode cX6_cuts 29 = .ok (.imul, 1) := dk_104 (dk_at dksX6_cuts_1 5 rfl rfl)
theorem dX6_cuts_30 : decode cX6_cuts 30 = .ok (.iadd, 1) := dk_96 (dk_at dksX6_cuts_1 6 rfl rfl)
theorem dX6_cuts_31 : decode cX6_cuts 31 = .ok (.iconst 2, 1) := dk_5 (dk_at dksX6_cuts_1 7 rfl rfl)
theorem dX6_cuts_32 : decode cX6_cuts 32 = .ok (.iadd, 1) := dk_96 (dk_at dksX6_cuts_1 8 rfl rfl)
theorem dX6_cuts_33 : decode cX6_cuts 33 = .ok (.iconst 3, 1) := dk_6 (dk_at dksX6_cuts_1 9 rfl rfl)
theorem dX6_cuts_34 : decode cX6_cuts 34 = .ok (.iload_n 3, 1) := dk_29 (dk_at dksX6_cuts_1 10 rfl rfl)
theorem dX6_cuts_35 : decode cX6_cuts 35 = .ok (.imul, 1) := dk_104 (dk_at dksX6_cuts_1 11 rfl rfl)
theorem dX6_cuts_36 : decode cX6_cuts 36 = .ok (.iadd, 1) := dk_96 (dk_at dksX6_cuts_1 12 rfl rfl)
theorem dX6_cuts_37 : decode cX6_cuts 37 = .ok (.iload 4, 2) := dk_21 4 (dk_at dksX6_cuts_1 13 rfl rfl)
theorem dX6_cuts_39 : decode cX6_cuts 39 = .ok (.iadd, 1) := dk_96 (dk_at dksX6_cuts_1 15 rfl rfl)
theorem dX6_cuts_40 : decode cX6_cuts 40 = .ok (.iconst 0, 1) := dk_3 (dk_at dksX6_cuts_1 16 rfl rfl)
theorem dX6_cuts_41 : decode cX6_cuts 41 = .ok (.iastore, 1) := dk_79 (dk_at dksX6_cuts_1 17 rfl rfl)
theorem dX6_cuts_42 : decode cX6_cuts 42 = .ok (.iinc 4 1, 3) := dk_132 4 1 (dk_at dksX6_cuts_1 18 rfl rfl)
theorem dX6_cuts_45 : decode cX6_cuts 45 = .ok (.goto (-31), 3) := dk_167 255 225 (dk_at dksX6_cuts_1 21 rfl rfl)
theorem dX6_cuts_48 : decode cX6_cuts 48 = .ok (.iinc 3 1, 3) := dk_132 3 1 (dk_at dksX6_cuts_2 0 rfl rfl)
theorem dX6_cuts_51 : decode cX6_cuts 51 = .ok (.goto (-49), 3) := dk_167 255 207 (dk_at dksX6_cuts_2 3 rfl rfl)
theorem dX6_cuts_54 : decode cX6_cuts 54 = .ok (.aload_n 0, 1) := dk_42 (dk_at dksX6_cuts_2 6 rfl rfl)
theorem dX6_cuts_55 : decode cX6_cuts 55 = .ok (.getfield 7, 3) := dk_180 0 7 (dk_at dksX6_cuts_2 7 rfl rfl)
theorem dX6_cuts_58 : decode cX6_cuts 58 = .ok (.bipush 18, 2) := dk_16 18 (dk_at dksX6_cuts_2 10 rfl rfl)
theorem dX6_cuts_60 : decode cX6_cuts 60 = .ok (.bipush 74, 2) := dk_16 74 (dk_at dksX6_cuts_2 12 rfl rfl)
theorem dX6_cuts_62 : decode cX6_cuts 62 = .ok (.iload_n 1, 1) := dk_27 (dk_at dksX6_cuts_2 14 rfl rfl)
theorem dX6_cuts_63 : decode cX6_cuts 63 = .ok (.imul, 1) := dk_104 (dk_at dksX6_cuts_2 15 rfl rfl)
theorem dX6_cuts_64 : decode cX6_cuts 64 = .ok (.iadd, 1) := dk_96 (dk_at dksX6_cuts_2 16 rfl rfl)
theorem dX6_cuts_65 : decode cX6_cuts 65 = .ok (.iconst 0, 1) := dk_3 (dk_at dksX6_cuts_2 17 rfl rfl)
theorem dX6_cuts_66 : decode cX6_cuts 66 = .ok (.iadd, 1) := dk_96 (dk_at dksX6_cuts_2 18 rfl rfl)
theorem dX6_cuts_67 : decode cX6_cuts 67 = .ok (.iload_n 2, 1) := dk_28 (dk_at dksX6_cuts_2 19 rfl rfl)
theorem dX6_cuts_68 : decode cX6_cuts 68 = .ok (.iastore, 1) := dk_79 (dk_at dksX6_cuts_2 20 rfl rfl)
theorem dX6_cuts_69 : decode cX6_cuts 69 = .ok (.return_, 1) := dk_177 (dk_at dksX6_cuts_2 21 rfl rfl)
abbrev cX6_clear : ByteArray := prog_23_method_47_code
def yX6_clear : MethodName := ⟨RX6, "clear", "(I)I"⟩
def dkwX6_clear_0 : List UInt8 := [42, 182, 0, 150, 42, 42, 27, 182, 0, 188, 182, 0, 156, 172]
abbrev dktX6_clear_0 : List UInt8 := dkwX6_clear_0 ++ []
theorem dksX6_clear_0 : cX6_clear.data.toList.drop 0 = dktX6_clear_0 := by decide +kernel
theorem dX6_clear_0 : decode cX6_clear 0 = .ok (.aload_n 0, 1) := dk_42 (dk_at dksX6_clear_0 0 rfl rfl)
theorem dX6_clear_1 : decode cX6_clear 1 = .ok (.invokevirtual 150, 3) := dk_182 0 150 (dk_at dksX6_clear_0 1 rfl rfl)
theorem dX6_clear_4 : decode cX6_clear 4 = .ok (.aload_n 0, 1) := dk_42 (dk_at dksX6_clear_0 4 rfl rfl)
theorem dX6_clear_5 : decode cX6_clear 5 = .ok (.aload_n 0, 1) := dk_42 (dk_at dksX6_clear_0 5 rfl rfl)
theorem dX6_clear_6 : decode cX6_clear 6 = .ok (.iload_n 1, 1) := dk_27 (dk_at dksX6_clear_0 6 rfl rfl)
theorem dX6_clear_7 : decode cX6_clear 7 = .ok (.invokevirtual 188, 3) := dk_182 0 188 (dk_at dksX6_clear_0 7 rfl rfl)
theorem dX6_clear_10 : decode cX6_clear 10 = .ok (.invokevirtual 156, 3) := dk_182 0 156 (dk_at dksX6_clear_0 10 rfl rfl)
theorem dX6_clear_13 : decode cX6_clear 13 = .ok (.ireturn, 1) := dk_172 (dk_at dksX6_clear_0 13 rfl rfl)
abbrev cX6_clears : ByteArray := prog_23_method_29_code
def yX6_clears : MethodName := ⟨RX6, "clears", "(I)I"⟩
def dkwX6_clears_1 : List UInt8 := [182, 0, 133, 172]
abbrev dktX6_clears_1 : List UInt8 := dkwX6_clears_1 ++ []
def dkwX6_clears_0 : List UInt8 := [27, 184, 0, 136, 154, 0, 5, 4, 172, 42, 27, 182, 0, 106, 61, 42, 27, 3, 182, 0, 143, 42, 28]
abbrev dktX6_clears_0 : List UInt8 := dkwX6_clears_0 ++ dktX6_clears_1
theorem dksX6_clears_0 : cX6_clears.data.toList.drop 0 = dktX6_clears_0 := by decide +kernel
theorem dksX6_clears_1 : cX6_clears.data.toList.drop 23 = dktX6_clears_1 := dk_seg dksX6_clears_0 23 rfl rfl
theorem dX6_clears_0 : decode cX6_clears 0 = .ok (.iload_n 1, 1) := dk_27 (dk_at dksX6_clears_0 0 rfl rfl)
theorem dX6_clears_1 : decode cX6_clears 1 = .ok (.invokestatic 136, 3) := dk_184 0 136 (dk_at dksX6_clears_0 1 rfl rfl)
theorem dX6_clears_4 : decode cX6_clears 4 = .ok (.ifCond .ne 5, 3) := dk_154 0 5 (dk_at dksX6_clears_0 4 rfl rfl)
theorem dX6_clears_7 : decode cX6_clears 7 = .ok (.iconst 1, 1) := dk_4 (dk_at dksX6_clears_0 7 rfl rfl)
theorem dX6_clears_8 : decode cX6_clears 8 = .ok (.ireturn, 1) := dk_172 (dk_at dksX6_clears_0 8 rfl rfl)
theorem dX6_clears_9 : decode cX6_clears 9 = .ok (.aload_n 0, 1) := dk_42 (dk_at dksX6_clears_0 9 rfl rfl)
theorem dX6_clears_10 : decode cX6_clears 10 = .ok (.iload_n 1, 1) := dk_27 (dk_at dksX6_clears_0 10 rfl rfl)
theorem dX6_clears_11 : decode cX6_clears 11 = .ok (.invokevirtual 106, 3) := dk_182 0 106 (dk_at dksX6_clears_0 11 rfl rfl)
theorem dX6_clears_14 : decode cX6_clears 14 = .ok (.istore_n 2, 1) := dk_61 (dk_at dksX6_clears_0 14 rfl rfl)
theorem dX6_clears_15 : decode cX6_clears 15 = .ok (.aload_n 0, 1) := dk_42 (dk_at dksX6_clears_0 15 rfl rfl)
theorem dX6_clears_16 : decode cX6_clears 16 = .ok (.iload_n 1, 1) := dk_27 (dk_at dksX6_clears_0 16 rfl rfl)
theorem dX6_clears_17 : decode cX6_clears 17 = .ok (.iconst 0, 1) := dk_3 (dk_at dksX6_clears_0 17 rfl rfl)
theorem dX6_clears_18 : decode cX6_clears 18 = .ok (.invokevirtual 143, 3) := dk_182 0 143 (dk_at dksX6_clears_0 18 rfl rfl)
theorem dX6_clears_21 : decode cX6_clears 21 = .ok (.aload_n 0, 1) := dk_42 (dk_at dksX6_clears_0 21 rfl rfl)
theorem dX6_clears_22 : decode cX6_clears 22 = .ok (.iload_n 2, 1) := dk_28 (dk_at dksX6_clears_0 22 rfl rfl)
theorem dX6_clears_23 : decode cX6_clears 23 = .ok (.invokevirtual 133, 3) := dk_182 0 133 (dk_at dksX6_clears_1 0 rfl rfl)
theorem dX6_clears_26 : decode cX6_clears 26 = .ok (.ireturn, 1) := dk_172 (dk_at dksX6_clears_1 3 rfl rfl)
abbrev cX6_swing : ByteArray := prog_23_method_48_code
def yX6_swing : MethodName := ⟨RX6, "swing", "(I)I"⟩
def dkwX6_swing_0 : List UInt8 := [42, 182, 0, 150, 42, 42, 27, 182, 0, 191, 182, 0, 156, 172]
abbrev dktX6_swing_0 : List UInt8 := dkwX6_swing_0 ++ []
theorem dksX6_swing_0 : cX6_swing.data.toList.drop 0 = dktX6_swing_0 := by decide +kernel
theorem dX6_swing_0 : decode cX6_swing 0 = .ok (.aload_n 0, 1) := dk_42 (dk_at dksX6_swing_0 0 rfl rfl)
theorem dX6_swing_1 : decode cX6_swing 1 = .ok (.invokevirtual 150, 3) := dk_182 0 150 (dk_at dksX6_swing_0 1 rfl rfl)
theorem dX6_swing_4 : decode cX6_swing 4 = .ok (.aload_n 0, 1) := dk_42 (dk_at dksX6_swing_0 4 rfl rfl)
theorem dX6_swing_5 : decode cX6_swing 5 = .ok (.aload_n 0, 1) := dk_42 (dk_at dksX6_swing_0 5 rfl rfl)
theorem dX6_swing_6 : decode cX6_swing 6 = .ok (.iload_n 1, 1) := dk_27 (dk_at dksX6_swing_0 6 rfl rfl)
theorem dX6_swing_7 : decode cX6_swing 7 = .ok (.invokevirtual 191, 3) := dk_182 0 191 (dk_at dksX6_swing_0 7 rfl rfl)
theorem dX6_swing_10 : decode cX6_swing 10 = .ok (.invokevirtual 156, 3) := dk_182 0 156 (dk_at dksX6_swing_0 10 rfl rfl)
theorem dX6_swing_13 : decode cX6_swing 13 = .ok (.ireturn, 1) := dk_172 (dk_at dksX6_swing_0 13 rfl rfl)
abbrev cX6_swings : ByteArray := prog_23_method_30_code
def yX6_swings : MethodName := ⟨RX6, "swings", "(I)I"⟩
def dkwX6_swings_11 : List UInt8 := [172]
abbrev dktX6_swings_11 : List UInt8 := dkwX6_swings_11 ++ []
def dkwX6_swings_10 : List UInt8 := [104, 21, 9, 96, 46, 79, 132, 9, 1, 167, 255, 220, 132, 7, 1, 167, 255, 169, 42, 21, 6, 182, 0, 133]
abbrev dktX6_swings_10 : List UInt8 := dkwX6_swings_10 ++ dktX6_swings_11
def dkwX6_swings_9 : List UInt8 := [162, 0, 36, 42, 180, 0, 7, 21, 5, 6, 21, 7, 104, 96, 21, 9, 96, 42, 180, 0, 59, 6, 21, 8]
abbrev dktX6_swings_9 : List UInt8 := dkwX6_swings_9 ++ dktX6_swings_10
def dkwX6_swings_8 : List UInt8 := [160, 0, 7, 29, 167, 0, 10, 21, 7, 21, 6, 100, 4, 100, 54, 8, 3, 54, 9, 21, 9, 6]
abbrev dktX6_swings_8 : List UInt8 := dkwX6_swings_8 ++ dktX6_swings_9
def dkwX6_swings_7 : List UInt8 := [162, 0, 87, 21, 7, 21, 6, 162, 0, 12, 29, 4, 96, 21, 7, 96, 167, 0, 21, 21, 7, 21, 6]
abbrev dktX6_swings_7 : List UInt8 := dkwX6_swings_7 ++ dktX6_swings_8
def dkwX6_swings_6 : List UInt8 := [42, 180, 0, 7, 21, 5, 21, 7, 96, 46, 79, 132, 7, 1, 167, 255, 228, 3, 54, 7, 21, 7, 28]
abbrev dktX6_swings_6 : List UInt8 := dkwX6_swings_6 ++ dktX6_swings_7
def dkwX6_swings_5 : List UInt8 := [28, 29, 100, 4, 100, 54, 6, 3, 54, 7, 21, 7, 6, 28, 104, 162, 0, 26, 42, 180, 0, 59, 21, 7]
abbrev dktX6_swings_5 : List UInt8 := dkwX6_swings_5 ++ dktX6_swings_6
def dkwX6_swings_4 : List UInt8 := [132, 5, 1, 167, 255, 192, 29, 2, 160, 0, 5, 5, 172, 16, 18, 16, 74, 27, 104, 96, 5, 96, 54, 5]
abbrev dktX6_swings_4 : List UInt8 := dkwX6_swings_4 ++ dktX6_swings_5
def dkwX6_swings_3 : List UInt8 := [96, 54, 4, 42, 27, 21, 5, 182, 0, 98, 7, 160, 0, 11, 21, 4, 154, 0, 6, 21, 5, 62]
abbrev dktX6_swings_3 : List UInt8 := dkwX6_swings_3 ++ dktX6_swings_4
def dkwX6_swings_2 : List UInt8 := [5, 160, 0, 7, 4, 167, 0, 19, 42, 27, 21, 5, 182, 0, 98, 6, 160, 0, 7, 2, 167, 0, 4, 3]
abbrev dktX6_swings_2 : List UInt8 := dkwX6_swings_2 ++ dktX6_swings_3
def dkwX6_swings_1 : List UInt8 := [61, 2, 62, 3, 54, 4, 3, 54, 5, 21, 5, 28, 162, 0, 64, 21, 4, 42, 27, 21, 5, 182, 0, 98]
abbrev dktX6_swings_1 : List UInt8 := dkwX6_swings_1 ++ dktX6_swings_2
def dkwX6_swings_0 : List UInt8 := [27, 184, 0, 136, 154, 0, 5, 4, 172, 42, 27, 182, 0, 125, 154, 0, 5, 5, 172, 42, 27, 182, 0, 106]
abbrev dktX6_swings_0 : List UInt8 := dkwX6_swings_0 ++ dktX6_swings_1
theorem dksX6_swings_0 : cX6_swings.data.toList.drop 0 = dktX6_swings_0 := by decide +kernel
theorem dksX6_swings_1 : cX6_swings.data.toList.drop 24 = dktX6_swings_1 := dk_seg dksX6_swings_0 24 rfl rfl
theorem dksX6_swings_2 : cX6_swings.data.toList.drop 48 = dktX6_swings_2 := dk_seg dksX6_swings_1 24 rfl rfl
theorem dksX6_swings_3 : cX6_swings.data.toList.drop 72 = dktX6_swings_3 := dk_seg dksX6_swings_2 24 rfl rfl
theorem dksX6_swings_4 : cX6_swings.data.toList.drop 94 = dktX6_swings_4 := dk_seg dksX6_swings_3 22 rfl rfl
theorem dksX6_swings_5 : cX6_swings.data.toList.drop 118 = dktX6_swings_5 := dk_seg dksX6_swings_4 24 rfl rfl
theorem dksX6_swings_6 : cX6_swings.data.toList.drop 142 = dktX6_swings_6 := dk_seg dksX6_swings_5 24 rfl rfl
theorem dksX6_swings_7 : cX6_swings.data.toList.drop 165 = dktX6_swings_7 := dk_seg dksX6_swings_6 23 rfl rfl
theorem dksX6_swings_8 : cX6_swings.data.toList.drop 188 = dktX6_swings_8 := dk_seg dksX6_swings_7 23 rfl rfl
theorem dksX6_swings_9 : cX6_swings.data.toList.drop 210 = dktX6_swings_9 := dk_seg dksX6_swings_8 22 rfl rfl
theorem dksX6_swings_10 : cX6_swings.data.toList.drop 234 = dktX6_swings_10 := dk_seg dksX6_swings_9 24 rfl rfl
theorem dksX6_swings_11 : cX6_swings.data.toList.drop 258 = dktX6_swings_11 := dk_seg dksX6_swings_10 24 rfl rfl
theorem dX6_swings_0 : decode cX6_swings 0 = .ok (.iload_n 1, 1) := dk_27 (dk_at dksX6_swings_0 0 rfl rfl)
theorem dX6_swings_1 : decode cX6_swings 1 = .ok (.invokestatic 136, 3) := dk_184 0 136 (dk_at dksX6_swings_0 1 rfl rfl)
theorem dX6_swings_4 : decode cX6_swings 4 = .ok (.ifCond .ne 5, 3) := dk_154 0 5 (dk_at dksX6_swings_0 4 rfl rfl)
theorem dX6_swings_7 : decode cX6_swings 7 = .ok (.iconst 1, 1) := dk_4 (dk_at dksX6_swings_0 7 rfl rfl)
theorem dX6_swings_8 : decode cX6_swings 8 = .ok (.ireturn, 1) := dk_172 (dk_at dksX6_swings_0 8 rfl rfl)
theorem dX6_swings_9 : decode cX6_swings 9 = .ok (.aload_n 0, 1) := dk_42 (dk_at dksX6_swings_0 9 rfl rfl)
theorem dX6_swings_10 : decode cX6_swings 10 = .ok (.iload_n 1, 1) := dk_27 (dk_at dksX6_swings_0 10 rfl rfl)
theorem dX6_swings_11 : decode cX6_swings 11 = .ok (.invokevirtual 125, 3) := dk_182 0 125 (dk_at dksX6_swings_0 11 rfl rfl)
theorem dX6_swings_14 : decode cX6_swings 14 = .ok (.ifCond .ne 5, 3) := dk_154 0 5 (dk_at dksX6_swings_0 14 rfl rfl)
theorem dX6_swings_17 : decode cX6_swings 17 = .ok (.iconst 2, 1) := dk_5 (dk_at dksX6_swings_0 17 rfl rfl)
theorem dX6_swings_18 : decode cX6_swings 18 = .ok (.ireturn, 1) := dk_172 (dk_at dksX6_swings_0 18 rfl rfl)
theorem dX6_swings_19 : decode cX6_swings 19 = .ok (.aload_n 0, 1) := dk_42 (dk_at dksX6_swings_0 19 rfl rfl)
theorem dX6_swings_20 : decode cX6_swings 20 = .ok (.iload_n 1, 1) := dk_27 (dk_at dksX6_swings_0 20 rfl rfl)
theorem dX6_swings_21 : decode cX6_swings 21 = .ok (.invokevirtual 106, 3) := dk_182 0 106 (dk_at dksX6_swings_0 21 rfl rfl)
theorem dX6_swings_24 : decode cX6_swings 24 = .ok (.istore_n 2, 1) := dk_61 (dk_at dksX6_swings_1 0 rfl rfl)
theorem dX6_swings_25 : decode cX6_swings 25 = .ok (.iconst (-1), 1) := dk_2 (dk_at dksX6_swings_1 1 rfl rfl)
theorem dX6_swings_26 : decode cX6_swings 26 = .ok (.istore_n 3, 1) := dk_62 (dk_at dksX6_swings_1 2 rfl rfl)
theorem dX6_swings_27 : decode cX6_swings 27 = .ok (.iconst 0, 1) := dk_3 (dk_at dksX6_swings_1 3 rfl rfl)
theorem dX6_swings_28 : decode cX6_swings 28 = .ok (.istore 4, 2) := dk_54 4 (dk_at dksX6_swings_1 4 rfl rfl)
theorem dX6_swings_30 : decode cX6_swings 30 = .ok (.iconst 0, 1) := dk_3 (dk_at dksX6_swings_1 6 rfl rfl)
theorem dX6_swings_31 : decode cX6_swings 31 = .ok (.istore 5, 2) := dk_54 5 (dk_at dksX6_swings_1 7 rfl rfl)
theorem dX6_swings_33 : decode cX6_swings 33 = .ok (.iload 5, 2) := dk_21 5 (dk_at dksX6_swings_1 9 rfl rfl)
theorem dX6_swings_35 : decode cX6_swings 35 = .ok (.iload_n 2, 1) := dk_28 (dk_at dksX6_swings_1 11 rfl rfl)
theorem dX6_swings_36 : decode cX6_swings 36 = .ok (.if_icmp .ge 64, 3) := dk_162 0 64 (dk_at dksX6_swings_1 12 rfl rfl)
theorem dX6_swings_39 : decode cX6_swings 39 = .ok (.iload 4, 2) := dk_21 4 (dk_at dksX6_swings_1 15 rfl rfl)
theorem dX6_swings_41 : decode cX6_swings 41 = .ok (.aload_n 0, 1) := dk_42 (dk_at dksX6_swings_1 17 rfl rfl)
theorem dX6_swings_42 : decode cX6_swings 42 = .ok (.iload_n 1, 1) := dk_27 (dk_at dksX6_swings_1 18 rfl rfl)
theorem dX6_swings_43 : decode cX6_swings 43 = .ok (.iload 5, 2) := dk_21 5 (dk_at dksX6_swings_1 19 rfl rfl)
theorem dX6_swings_45 : decode cX6_swings 45 = .ok (.invokevirtual 98, 3) := dk_182 0 98 (dk_at dksX6_swings_1 21 rfl rfl)
theorem dX6_swings_48 : decode cX6_swings 48 = .ok (.iconst 2, 1) := dk_5 (dk_at dksX6_swings_2 0 rfl rfl)
theorem dX6_swings_49 : decode cX6_swings 49 = .ok (.if_icmp .ne 7, 3) := dk_160 0 7 (dk_at dksX6_swings_2 1 rfl rfl)
theorem dX6_swings_52 : decode cX6_swings 52 = .ok (.iconst 1, 1) := dk_4 (dk_at dksX6_swings_2 4 rfl rfl)
theorem dX6_swings_53 : decode cX6_swings 53 = .ok (.goto 19, 3) := dk_167 0 19 (dk_at dksX6_swings_2 5 rfl rfl)
theorem dX6_swings_56 : decode cX6_swings 56 = .ok (.aload_n 0, 1) := dk_42 (dk_at dksX6_swings_2 8 rfl rfl)
theorem dX6_swings_57 : decode cX6_swings 57 = .ok (.iload_n 1, 1) := dk_27 (dk_at dksX6_swings_2 9 rfl rfl)
theorem dX6_swings_58 : decode cX6_swings 58 = .ok (.iload 5, 2) := dk_21 5 (dk_at dksX6_swings_2 10 rfl rfl)
theorem dX6_swings_60 : decode cX6_swings 60 = .ok (.invokevirtual 98, 3) := dk_182 0 98 (dk_at dksX6_swings_2 12 rfl rfl)
theorem dX6_swings_63 : decode cX6_swings 63 = .ok (.iconst 3, 1) := dk_6 (dk_at dksX6_swings_2 15 rfl rfl)
theorem dX6_swings_64 : decode cX6_swings 64 = .ok (.if_icmp .ne 7, 3) := dk_160 0 7 (dk_at dksX6_swings_2 16 rfl rfl)
theorem dX6_swings_67 : decode cX6_swings 67 = .ok (.iconst (-1), 1) := dk_2 (dk_at dksX6_swings_2 19 rfl rfl)
theorem dX6_swings_68 : decode cX6_swings 68 = .ok (.goto 4, 3) := dk_167 0 4 (dk_at dksX6_swings_2 20 rfl rfl)
theorem dX6_swings_71 : decode cX6_swings 71 = .ok (.iconst 0, 1) := dk_3 (dk_at dksX6_swings_2 23 rfl rfl)
theorem dX6_swings_72 : decode cX6_swings 72 = .ok (.iadd, 1) := dk_96 (dk_at dksX6_swings_3 0 rfl rfl)
theorem dX6_swings_73 : decode cX6_swings 73 = .ok (.istore 4, 2) := dk_54 4 (dk_at dksX6_swings_3 1 rfl rfl)
theorem dX6_swings_75 : decode cX6_swings 75 = .ok (.aload_n 0, 1) := dk_42 (dk_at dksX6_swings_3 3 rfl rfl)
theorem dX6_swings_76 : decode cX6_swings 76 = .ok (.iload_n 1, 1) := dk_27 (dk_at dksX6_swings_3 4 rfl rfl)
theorem dX6_swings_77 : decode cX6_swings 77 = .ok (.iload 5, 2) := dk_21 5 (dk_at dksX6_swings_3 5 rfl rfl)
theorem dX6_swings_79 : decode cX6_swings 79 = .ok (.invokevirtual 98, 3) := dk_182 0 98 (dk_at dksX6_swings_3 7 rfl rfl)
theorem dX6_swings_82 : decode cX6_swings 82 = .ok (.iconst 4, 1) := dk_7 (dk_at dksX6_swings_3 10 rfl rfl)
theorem dX6_swings_83 : decode cX6_swings 83 = .ok (.if_icmp .ne 11, 3) := dk_160 0 11 (dk_at dksX6_swings_3 11 rfl rfl)
theorem dX6_swings_86 : decode cX6_swings 86 = .ok (.iload 4, 2) := dk_21 4 (dk_at dksX6_swings_3 14 rfl rfl)
theorem dX6_swings_88 : decode cX6_swings 88 = .ok (.ifCond .ne 6, 3) := dk_154 0 6 (dk_at dksX6_swings_3 16 rfl rfl)
theorem dX6_swings_91 : decode cX6_swings 91 = .ok (.iload 5, 2) := dk_21 5 (dk_at dksX6_swings_3 19 rfl rfl)
theorem dX6_swings_93 : decode cX6_swings 93 = .ok (.istore_n 3, 1) := dk_62 (dk_at dksX6_swings_3 21 rfl rfl)
theorem dX6_swings_94 : decode cX6_swings 94 = .ok (.iinc 5 1, 3) := dk_132 5 1 (dk_at dksX6_swings_4 0 rfl rfl)
theorem dX6_swings_97 : decode cX6_swings 97 = .ok (.goto (-64), 3) := dk_167 255 192 (dk_at dksX6_swings_4 3 rfl rfl)
theorem dX6_swings_100 : decode cX6_swings 100 = .ok (.iload_n 3, 1) := dk_29 (dk_at dksX6_swings_4 6 rfl rfl)
theorem dX6_swings_101 : decode cX6_swings 101 = .ok (.iconst (-1), 1) := dk_2 (dk_at dksX6_swings_4 7 rfl rfl)
theorem dX6_swings_102 : decode cX6_swings 102 = .ok (.if_icmp .ne 5, 3) := dk_160 0 5 (dk_at dksX6_swings_4 8 rfl rfl)
theorem dX6_swings_105 : decode cX6_swings 105 = .ok (.iconst 2, 1) := dk_5 (dk_at dksX6_swings_4 11 rfl rfl)
theorem dX6_swings_106 : decode cX6_swings 106 = .ok (.ireturn, 1) := dk_172 (dk_at dksX6_swings_4 12 rfl rfl)
theorem dX6_swings_107 : decode cX6_swings 107 = .ok (.bipush 18, 2) := dk_16 18 (dk_at dksX6_swings_4 13 rfl rfl)
theorem dX6_swings_109 : decode cX6_swings 109 = .ok (.bipush 74, 2) := dk_16 74 (dk_at dksX6_swings_4 15 rfl rfl)
theorem dX6_swings_111 : decode cX6_swings 111 = .ok (.iload_n 1, 1) := dk_27 (dk_at dksX6_swings_4 17 rfl rfl)
theorem dX6_swings_112 : decode cX6_swings 112 = .ok (.imul, 1) := dk_104 (dk_at dksX6_swings_4 18 rfl rfl)
theorem dX6_swings_113 : decode cX6_swings 113 = .ok (.iadd, 1) := dk_96 (dk_at dksX6_swings_4 19 rfl rfl)
theorem dX6_swings_114 : decode cX6_swings 114 = .ok (.iconst 2, 1) := dk_5 (dk_at dksX6_swings_4 20 rfl rfl)
theorem dX6_swings_115 : decode cX6_swings 115 = .ok (.iadd, 1) := dk_96 (dk_at dksX6_swings_4 21 rfl rfl)
theorem dX6_swings_116 : decode cX6_swings 116 = .ok (.istore 5, 2) := dk_54 5 (dk_at dksX6_swings_4 22 rfl rfl)
theorem dX6_swings_118 : decode cX6_swings 118 = .ok (.iload_n 2, 1) := dk_28 (dk_at dksX6_swings_5 0 rfl rfl)
theorem dX6_swings_119 : decode cX6_swings 119 = .ok (.iload_n 3, 1) := dk_29 (dk_at dksX6_swings_5 1 rfl rfl)
theorem dX6_swings_120 : decode cX6_swings 120 = .ok (.isub, 1) := dk_100 (dk_at dksX6_swings_5 2 rfl rfl)
theorem dX6_swings_121 : decode cX6_swings 121 = .ok (.iconst 1, 1) := dk_4 (dk_at dksX6_swings_5 3 rfl rfl)
theorem dX6_swings_122 : decode cX6_swings 122 = .ok (.isub, 1) := dk_100 (dk_at dksX6_swings_5 4 rfl rfl)
theorem dX6_swings_123 : decode cX6_swings 123 = .ok (.istore 6, 2) := dk_54 6 (dk_at dksX6_swings_5 5 rfl rfl)
theorem dX6_swings_125 : decode cX6_swings 125 = .ok (.iconst 0, 1) := dk_3 (dk_at dksX6_swings_5 7 rfl rfl)
theorem dX6_swings_126 : decode cX6_swings 126 = .ok (.istore 7, 2) := dk_54 7 (dk_at dksX6_swings_5 8 rfl rfl)
theorem dX6_swings_128 : decode cX6_swings 128 = .ok (.iload 7, 2) := dk_21 7 (dk_at dksX6_swings_5 10 rfl rfl)
theorem dX6_swings_130 : decode cX6_swings 130 = .ok (.iconst 3, 1) := dk_6 (dk_at dksX6_swings_5 12 rfl rfl)
theorem dX6_swings_131 : decode cX6_swings 131 = .ok (.iload_n 2, 1) := dk_28 (dk_at dksX6_swings_5 13 rfl rfl)
theorem dX6_swings_132 : decode cX6_swings 132 = .ok (.imul, 1) := dk_104 (dk_at dksX6_swings_5 14 rfl rfl)
theorem dX6_swings_133 : decode cX6_swings 133 = .ok (.if_icmp .ge 26, 3) := dk_162 0 26 (dk_at dksX6_swings_5 15 rfl rfl)
theorem dX6_swings_136 : decode cX6_swings 136 = .ok (.aload_n 0, 1) := dk_42 (dk_at dksX6_swings_5 18 rfl rfl)
theorem dX6_swings_137 : decode cX6_swings 137 = .ok (.getfield 59, 3) := dk_180 0 59 (dk_at dksX6_swings_5 19 rfl rfl)
theorem dX6_swings_140 : decode cX6_swings 140 = .ok (.iload 7, 2) := dk_21 7 (dk_at dksX6_swings_5 22 rfl rfl)
theorem dX6_swings_142 : decode cX6_swings 142 = .ok (.aload_n 0, 1) := dk_42 (dk_at dksX6_swings_6 0 rfl rfl)
theorem dX6_swings_143 : decode cX6_swings 143 = .ok (.getfield 7, 3) := dk_180 0 7 (dk_at dksX6_swings_6 1 rfl rfl)
theorem dX6_swings_146 : decode cX6_swings 146 = .ok (.iload 5, 2) := dk_21 5 (dk_at dksX6_swings_6 4 rfl rfl)
theorem dX6_swings_148 : decode cX6_swings 148 = .ok (.iload 7, 2) := dk_21 7 (dk_at dksX6_swings_6 6 rfl rfl)
theorem dX6_swings_150 : decode cX6_swings 150 = .ok (.iadd, 1) := dk_96 (dk_at dksX6_swings_6 8 rfl rfl)
theorem dX6_swings_151 : decode cX6_swings 151 = .ok (.iaload, 1) := dk_46 (dk_at dksX6_swings_6 9 rfl rfl)
theorem dX6_swings_152 : decode cX6_swings 152 = .ok (.iastore, 1) := dk_79 (dk_at dksX6_swings_6 10 rfl rfl)
theorem dX6_swings_153 : decode cX6_swings 153 = .ok (.iinc 7 1, 3) := dk_132 7 1 (dk_at dksX6_swings_6 11 rfl rfl)
theorem dX6_swings_156 : decode cX6_swings 156 = .ok (.goto (-28), 3) := dk_167 255 228 (dk_at dksX6_swings_6 14 rfl rfl)
theorem dX6_swings_159 : decode cX6_swings 159 = .ok (.iconst 0, 1) := dk_3 (dk_at dksX6_swings_6 17 rfl rfl)
theorem dX6_swings_160 : decode cX6_swings 160 = .ok (.istore 7, 2) := dk_54 7 (dk_at dksX6_swings_6 18 rfl rfl)
theorem dX6_swings_162 : decode cX6_swings 162 = .ok (.iload 7, 2) := dk_21 7 (dk_at dksX6_swings_6 20 rfl rfl)
theorem dX6_swings_164 : decode cX6_swings 164 = .ok (.iload_n 2, 1) := dk_28 (dk_at dksX6_swings_6 22 rfl rfl)
theorem dX6_swings_165 : decode cX6_swings 165 = .ok (.if_icmp .ge 87, 3) := dk_162 0 87 (dk_at dksX6_swings_7 0 rfl rfl)
theorem dX6_swings_168 : decode cX6_swings 168 = .ok (.iload 7, 2) := dk_21 7 (dk_at dksX6_swings_7 3 rfl rfl)
theorem dX6_swings_170 : decode cX6_swings 170 = .ok (.iload 6, 2) := dk_21 6 (dk_at dksX6_swings_7 5 rfl rfl)
theorem dX6_swings_172 : decode cX6_swings 172 = .ok (.if_icmp .ge 12, 3) := dk_162 0 12 (dk_at dksX6_swings_7 7 rfl rfl)
theorem dX6_swings_175 : decode cX6_swings 175 = .ok (.iload_n 3, 1) := dk_29 (dk_at dksX6_swings_7 10 rfl rfl)
theorem dX6_swings_176 : decode cX6_swings 176 = .ok (.iconst 1, 1) := dk_4 (dk_at dksX6_swings_7 11 rfl rfl)
theorem dX6_swings_177 : decode cX6_swings 177 = .ok (.iadd, 1) := dk_96 (dk_at dksX6_swings_7 12 rfl rfl)
theorem dX6_swings_178 : decode cX6_swings 178 = .ok (.iload 7, 2) := dk_21 7 (dk_at dksX6_swings_7 13 rfl rfl)
theorem dX6_swings_180 : decode cX6_swings 180 = .ok (.iadd, 1) := dk_96 (dk_at dksX6_swings_7 15 rfl rfl)
theorem dX6_swings_181 : decode cX6_swings 181 = .ok (.goto 21, 3) := dk_167 0 21 (dk_at dksX6_swings_7 16 rfl rfl)
theorem dX6_swings_184 : decode cX6_swings 184 = .ok (.iload 7, 2) := dk_21 7 (dk_at dksX6_swings_7 19 rfl rfl)
theorem dX6_swings_186 : decode cX6_swings 186 = .ok (.iload 6, 2) := dk_21 6 (dk_at dksX6_swings_7 21 rfl rfl)
theorem dX6_swings_188 : decode cX6_swings 188 = .ok (.if_icmp .ne 7, 3) := dk_160 0 7 (dk_at dksX6_swings_8 0 rfl rfl)
theorem dX6_swings_191 : decode cX6_swings 191 = .ok (.iload_n 3, 1) := dk_29 (dk_at dksX6_swings_8 3 rfl rfl)
theorem dX6_swings_192 : decode cX6_swings 192 = .ok (.goto 10, 3) := dk_167 0 10 (dk_at dksX6_swings_8 4 rfl rfl)
theorem dX6_swings_195 : decode cX6_swings 195 = .ok (.iload 7, 2) := dk_21 7 (dk_at dksX6_swings_8 7 rfl rfl)
theorem dX6_swings_197 : decode cX6_swings 197 = .ok (.iload 6, 2) := dk_21 6 (dk_at dksX6_swings_8 9 rfl rfl)
theorem dX6_swings_199 : decode cX6_swings 199 = .ok (.isub, 1) := dk_100 (dk_at dksX6_swings_8 11 rfl rfl)
theorem dX6_swings_200 : decode cX6_swings 200 = .ok (.iconst 1, 1) := dk_4 (dk_at dksX6_swings_8 12 rfl rfl)
theorem dX6_swings_201 : decode cX6_swings 201 = .ok (.isub, 1) := dk_100 (dk_at dksX6_swings_8 13 rfl rfl)
theorem dX6_swings_202 : decode cX6_swings 202 = .ok (.istore 8, 2) := dk_54 8 (dk_at dksX6_swings_8 14 rfl rfl)
theorem dX6_swings_204 : decode cX6_swings 204 = .ok (.iconst 0, 1) := dk_3 (dk_at dksX6_swings_8 16 rfl rfl)
theorem dX6_swings_205 : decode cX6_swings 205 = .ok (.istore 9, 2) := dk_54 9 (dk_at dksX6_swings_8 17 rfl rfl)
theorem dX6_swings_207 : decode cX6_swings 207 = .ok (.iload 9, 2) := dk_21 9 (dk_at dksX6_swings_8 19 rfl rfl)
theorem dX6_swings_209 : decode cX6_swings 209 = .ok (.iconst 3, 1) := dk_6 (dk_at dksX6_swings_8 21 rfl rfl)
theorem dX6_swings_210 : decode cX6_swings 210 = .ok (.if_icmp .ge 36, 3) := dk_162 0 36 (dk_at dksX6_swings_9 0 rfl rfl)
theorem dX6_swings_213 : decode cX6_swings 213 = .ok (.aload_n 0, 1) := dk_42 (dk_at dksX6_swings_9 3 rfl rfl)
theorem dX6_swings_214 : decode cX6_swings 214 = .ok (.getfield 7, 3) := dk_180 0 7 (dk_at dksX6_swings_9 4 rfl rfl)
theorem dX6_swings_217 : decode cX6_swings 217 = .ok (.iload 5, 2) := dk_21 5 (dk_at dksX6_swings_9 7 rfl rfl)
theorem dX6_swings_219 : decode cX6_swings 219 = .ok (.iconst 3, 1) := dk_6 (dk_at dksX6_swings_9 9 rfl rfl)
theorem dX6_swings_220 : decode cX6_swings 220 = .ok (.iload 7, 2) := dk_21 7 (dk_at dksX6_swings_9 10 rfl rfl)
theorem dX6_swings_222 : decode cX6_swings 222 = .ok (.imul, 1) := dk_104 (dk_at dksX6_swings_9 12 rfl rfl)
theorem dX6_swings_223 : decode cX6_swings 223 = .ok (.iadd, 1) := dk_96 (dk_at dksX6_swings_9 13 rfl rfl)
theorem dX6_swings_224 : decode cX6_swings 224 = .ok (.iload 9, 2) := dk_21 9 (dk_at dksX6_swings_9 14 rfl rfl)
theorem dX6_swings_226 : decode cX6_swings 226 = .ok (.iadd, 1) := dk_96 (dk_at dksX6_swings_9 16 rfl rfl)
theorem dX6_swings_227 : decode cX6_swings 227 = .ok (.aload_n 0, 1) := dk_42 (dk_at dksX6_swings_9 17 rfl rfl)
theorem dX6_swings_228 : decode cX6_swings 228 = .ok (.getfield 59, 3) := dk_180 0 59 (dk_at dksX6_swings_9 18 rfl rfl)
theorem dX6_swings_231 : decode cX6_swings 231 = .ok (.iconst 3, 1) := dk_6 (dk_at dksX6_swings_9 21 rfl rfl)
theorem dX6_swings_232 : decode cX6_swings 232 = .ok (.iload 8, 2) := dk_21 8 (dk_at dksX6_swings_9 22 rfl rfl)
theorem dX6_swings_234 : decode cX6_swings 234 = .ok (.imul, 1) := dk_104 (dk_at dksX6_swings_10 0 rfl rfl)
theorem dX6_swings_235 : decode cX6_swings 235 = .ok (.iload 9, 2) := dk_21 9 (dk_at dksX6_swings_10 1 rfl rfl)
theorem dX6_swings_237 : decode cX6_swings 237 = .ok (.iadd, 1) := dk_96 (dk_at dksX6_swings_10 3 rfl rfl)
theorem dX6_swings_238 : decode cX6_swings 238 = .ok (.iaload, 1) := dk_46 (dk_at dksX6_swings_10 4 rfl rfl)
theorem dX6_swings_239 : decode cX6_swings 239 = .ok (.iastore, 1) := dk_79 (dk_at dksX6_swings_10 5 rfl rfl)
theorem dX6_swings_240 : decode cX6_swings 240 = .ok (.iinc 9 1, 3) := dk_132 9 1 (dk_at dksX6_swings_10 6 rfl rfl)
theorem dX6_swings_243 : decode cX6_swings 243 = .ok (.goto (-36), 3) := dk_167 255 220 (dk_at dksX6_swings_10 9 rfl rfl)
theorem dX6_swings_246 : decode cX6_swings 246 = .ok (.iinc 7 1, 3) := dk_132 7 1 (dk_at dksX6_swings_10 12 rfl rfl)
theorem dX6_swings_249 : decode cX6_swings 249 = .ok (.goto (-87), 3) := dk_167 255 169 (dk_at dksX6_swings_10 15 rfl rfl)
theorem dX6_swings_252 : decode cX6_swings 252 = .ok (.aload_n 0, 1) := dk_42 (dk_at dksX6_swings_10 18 rfl rfl)
theorem dX6_swings_253 : decode cX6_swings 253 = .ok (.iload 6, 2) := dk_21 6 (dk_at dksX6_swings_10 19 rfl rfl)
theorem dX6_swings_255 : decode cX6_swings 255 = .ok (.invokevirtual 133, 3) := dk_182 0 133 (dk_at dksX6_swings_10 21 rfl rfl)
theorem dX6_swings_258 : decode cX6_swings 258 = .ok (.ireturn, 1) := dk_172 (dk_at dksX6_swings_11 0 rfl rfl)
abbrev cX6_isSentence : ByteArray := prog_23_method_15_code
def yX6_isSentence : MethodName := ⟨RX6, "isSentence", "(I)Z"⟩
def dkwX6_isSentence_1 : List UInt8 := [180, 0, 89, 154, 0, 7, 4, 167, 0, 4, 3, 172]
abbrev dktX6_isSentence_1 : List UInt8 := dkwX6_isSentence_1 ++ []
def dkwX6_isSentence_0 : List UInt8 := [42, 27, 42, 27, 182, 0, 106, 182, 0, 109, 2, 160, 0, 22, 42, 180, 0, 95, 5, 161, 0, 14, 42]
abbrev dktX6_isSentence_0 : List UInt8 := dkwX6_isSentence_0 ++ dktX6_isSentence_1
theorem dksX6_isSentence_0 : cX6_isSentence.data.toList.drop 0 = dktX6_isSentence_0 := by decide +kernel
theorem dksX6_isSentence_1 : cX6_isSentence.data.toList.drop 23 = dktX6_isSentence_1 := dk_seg dksX6_isSentence_0 23 rfl rfl
theorem dX6_isSentence_0 : decode cX6_isSentence 0 = .ok (.aload_n 0, 1) := dk_42 (dk_at dksX6_isSentence_0 0 rfl rfl)
theorem dX6_isSentence_1 : decode cX6_isSentence 1 = .ok (.iload_n 1, 1) := dk_27 (dk_at dksX6_isSentence_0 1 rfl rfl)
theorem dX6_isSentence_2 : decode cX6_isSentence 2 = .ok (.aload_n 0, 1) := dk_42 (dk_at dksX6_isSentence_0 2 rfl rfl)
theorem dX6_isSentence_3 : decode cX6_isSentence 3 = .ok (.iload_n 1, 1) := dk_27 (dk_at dksX6_isSentence_0 3 rfl rfl)
theorem dX6_isSentence_4 : decode cX6_isSentence 4 = .ok (.invokevirtual 106, 3) := dk_182 0 106 (dk_at dksX6_isSentence_0 4 rfl rfl)
theorem dX6_isSentence_7 : decode cX6_isSentence 7 = .ok (.invokevirtual 109, 3) := dk_182 0 109 (dk_at dksX6_isSentence_0 7 rfl rfl)
theorem dX6_isSentence_10 : decode cX6_isSentence 10 = .ok (.iconst (-1), 1) := dk_2 (dk_at dksX6_isSentence_0 10 rfl rfl)
theorem dX6_isSentence_11 : decode cX6_isSentence 11 = .ok (.if_icmp .ne 22, 3) := dk_160 0 22 (dk_at dksX6_isSentence_0 11 rfl rfl)
theorem dX6_isSentence_14 : decode cX6_isSentence 14 = .ok (.aload_n 0, 1) := dk_42 (dk_at dksX6_isSentence_0 14 rfl rfl)
theorem dX6_isSentence_15 : decode cX6_isSentence 15 = .ok (.getfield 95, 3) := dk_180 0 95 (dk_at dksX6_isSentence_0 15 rfl rfl)
theorem dX6_isSentence_18 : decode cX6_isSentence 18 = .ok (.iconst 2, 1) := dk_5 (dk_at dksX6_isSentence_0 18 rfl rfl)
theorem dX6_isSentence_19 : decode cX6_isSentence 19 = .ok (.if_icmp .lt 14, 3) := dk_161 0 14 (dk_at dksX6_isSentence_0 19 rfl rfl)
theorem dX6_isSentence_22 : decode cX6_isSentence 22 = .ok (.aload_n 0, 1) := dk_42 (dk_at dksX6_isSentence_0 22 rfl rfl)
theorem dX6_isSentence_23 : decode cX6_isSentence 23 = .ok (.getfield 89, 3) := dk_180 0 89 (dk_at dksX6_isSentence_1 0 rfl rfl)
theorem dX6_isSentence_26 : decode cX6_isSentence 26 = .ok (.ifCond .ne 7, 3) := dk_154 0 7 (dk_at dksX6_isSentence_1 3 rfl rfl)
theorem dX6_isSentence_29 : decode cX6_isSentence 29 = .ok (.iconst 1, 1) := dk_4 (dk_at dksX6_isSentence_1 6 rfl rfl)
theorem dX6_isSentence_30 : decode cX6_isSentence 30 = .ok (.goto 4, 3) := dk_167 0 4 (dk_at dksX6_isSentence_1 7 rfl rfl)
theorem dX6_isSentence_33 : decode cX6_isSentence 33 = .ok (.iconst 0, 1) := dk_3 (dk_at dksX6_isSentence_1 10 rfl rfl)
theorem dX6_isSentence_34 : decode cX6_isSentence 34 = .ok (.ireturn, 1) := dk_172 (dk_at dksX6_isSentence_1 11 rfl rfl)
abbrev cX6_scans : ByteArray := prog_23_method_14_code
def yX6_scans : MethodName := ⟨RX6, "scans", "(II)I"⟩
def dkwX6_scans_13 : List UInt8 := [162, 0, 6, 21, 4, 172, 42, 3, 181, 0, 95, 3, 62, 132, 4, 1, 167, 254, 218, 2, 172]
abbrev dktX6_scans_13 : List UInt8 := dkwX6_scans_13 ++ []
def dkwX6_scans_12 : List UInt8 := [42, 89, 180, 0, 89, 4, 100, 181, 0, 89, 42, 6, 181, 0, 95, 167, 0, 21, 42, 180, 0, 95, 5]
abbrev dktX6_scans_12 : List UInt8 := dkwX6_scans_12 ++ dktX6_scans_13
def dkwX6_scans_11 : List UInt8 := [21, 5, 6, 160, 0, 39, 42, 180, 0, 95, 5, 161, 0, 10, 42, 180, 0, 89, 154, 0, 6, 21, 4, 172]
abbrev dktX6_scans_11 : List UInt8 := dkwX6_scans_11 ++ dktX6_scans_12
def dkwX6_scans_10 : List UInt8 := [180, 0, 89, 167, 0, 7, 42, 180, 0, 92, 181, 0, 92, 42, 3, 181, 0, 95, 4, 62, 167, 0, 63]
abbrev dktX6_scans_10 : List UInt8 := dkwX6_scans_10 ++ dktX6_scans_11
def dkwX6_scans_9 : List UInt8 := [89, 180, 0, 89, 4, 96, 181, 0, 89, 42, 42, 180, 0, 89, 42, 180, 0, 92, 164, 0, 10, 42]
abbrev dktX6_scans_9 : List UInt8 := dkwX6_scans_9 ++ dktX6_scans_10
def dkwX6_scans_8 : List UInt8 := [180, 0, 86, 4, 100, 21, 4, 79, 42, 180, 0, 53, 42, 180, 0, 89, 42, 180, 0, 86, 4, 100, 79, 42]
abbrev dktX6_scans_8 : List UInt8 := dkwX6_scans_8 ++ dktX6_scans_9
def dkwX6_scans_7 : List UInt8 := [21, 5, 5, 160, 0, 88, 42, 180, 0, 95, 5, 159, 0, 6, 21, 4, 172, 42, 180, 0, 50, 42]
abbrev dktX6_scans_7 : List UInt8 := dkwX6_scans_7 ++ dktX6_scans_8
def dkwX6_scans_6 : List UInt8 := [21, 4, 172, 42, 180, 0, 47, 42, 180, 0, 86, 4, 100, 21, 4, 79, 42, 5, 181, 0, 95, 167, 0, 154]
abbrev dktX6_scans_6 : List UInt8 := dkwX6_scans_6 ++ dktX6_scans_7
def dkwX6_scans_5 : List UInt8 := [167, 0, 4, 4, 181, 0, 95, 167, 0, 192, 21, 5, 4, 160, 0, 35, 42, 180, 0, 95, 4, 159, 0, 6]
abbrev dktX6_scans_5 : List UInt8 := dkwX6_scans_5 ++ dktX6_scans_6
def dkwX6_scans_4 : List UInt8 := [180, 0, 44, 42, 180, 0, 86, 4, 100, 92, 46, 4, 96, 79, 42, 42, 180, 0, 95, 5, 160, 0, 7, 6]
abbrev dktX6_scans_4 : List UInt8 := dkwX6_scans_4 ++ dktX6_scans_5
def dkwX6_scans_3 : List UInt8 := [180, 0, 95, 5, 160, 0, 19, 42, 180, 0, 50, 42, 180, 0, 86, 4, 100, 21, 4, 79, 167, 0, 18, 42]
abbrev dktX6_scans_3 : List UInt8 := dkwX6_scans_3 ++ dktX6_scans_4
def dkwX6_scans_2 : List UInt8 := [180, 0, 95, 6, 160, 0, 6, 21, 4, 172, 42, 180, 0, 95, 154, 0, 8, 42, 29, 182, 0, 102, 42]
abbrev dktX6_scans_2 : List UInt8 := dkwX6_scans_2 ++ dktX6_scans_3
def dkwX6_scans_1 : List UInt8 := [54, 4, 21, 4, 28, 162, 1, 38, 42, 27, 21, 4, 182, 0, 98, 54, 5, 21, 5, 154, 0, 85, 42]
abbrev dktX6_scans_1 : List UInt8 := dkwX6_scans_1 ++ dktX6_scans_2
def dkwX6_scans_0 : List UInt8 := [42, 3, 181, 0, 86, 42, 3, 181, 0, 92, 42, 3, 181, 0, 89, 42, 3, 181, 0, 95, 4, 62, 3]
abbrev dktX6_scans_0 : List UInt8 := dkwX6_scans_0 ++ dktX6_scans_1
theorem dksX6_scans_0 : cX6_scans.data.toList.drop 0 = dktX6_scans_0 := by decide +kernel
theorem dksX6_scans_1 : cX6_scans.data.toList.drop 23 = dktX6_scans_1 := dk_seg dksX6_scans_0 23 rfl rfl
theorem dksX6_scans_2 : cX6_scans.data.toList.drop 46 = dktX6_scans_2 := dk_seg dksX6_scans_1 23 rfl rfl
theorem dksX6_scans_3 : cX6_scans.data.toList.drop 69 = dktX6_scans_3 := dk_seg dksX6_scans_2 23 rfl rfl
theorem dksX6_scans_4 : cX6_scans.data.toList.drop 93 = dktX6_scans_4 := dk_seg dksX6_scans_3 24 rfl rfl
theorem dksX6_scans_5 : cX6_scans.data.toList.drop 117 = dktX6_scans_5 := dk_seg dksX6_scans_4 24 rfl rfl
theorem dksX6_scans_6 : cX6_scans.data.toList.drop 141 = dktX6_scans_6 := dk_seg dksX6_scans_5 24 rfl rfl
theorem dksX6_scans_7 : cX6_scans.data.toList.drop 165 = dktX6_scans_7 := dk_seg dksX6_scans_6 24 rfl rfl
theorem dksX6_scans_8 : cX6_scans.data.toList.drop 187 = dktX6_scans_8 := dk_seg dksX6_scans_7 22 rfl rfl
theorem dksX6_scans_9 : cX6_scans.data.toList.drop 211 = dktX6_scans_9 := dk_seg dksX6_scans_8 24 rfl rfl
theorem dksX6_scans_10 : cX6_scans.data.toList.drop 233 = dktX6_scans_10 := dk_seg dksX6_scans_9 22 rfl rfl
theorem dksX6_scans_11 : cX6_scans.data.toList.drop 256 = dktX6_scans_11 := dk_seg dksX6_scans_10 23 rfl rfl
theorem dksX6_scans_12 : cX6_scans.data.toList.drop 280 = dktX6_scans_12 := dk_seg dksX6_scans_11 24 rfl rfl
theorem dksX6_scans_13 : cX6_scans.data.toList.drop 303 = dktX6_scans_13 := dk_seg dksX6_scans_12 23 rfl rfl
theorem dX6_scans_0 : decode cX6_scans 0 = .ok (.aload_n 0, 1) := dk_42 (dk_at dksX6_scans_0 0 rfl rfl)
theorem dX6_scans_1 : decode cX6_scans 1 = .ok (.iconst 0, 1) := dk_3 (dk_at dksX6_scans_0 1 rfl rfl)
theorem dX6_scans_2 : decode cX6_scans 2 = .ok (.putfield 86, 3) := dk_181 0 86 (dk_at dksX6_scans_0 2 rfl rfl)
theorem dX6_scans_5 : decode cX6_scans 5 = .ok (.aload_n 0, 1) := dk_42 (dk_at dksX6_scans_0 5 rfl rfl)
theorem dX6_scans_6 : decode cX6_scans 6 = .ok (.iconst 0, 1) := dk_3 (dk_at dksX6_scans_0 6 rfl rfl)
theorem dX6_scans_7 : decode cX6_scans 7 = .ok (.putfield 92, 3) := dk_181 0 92 (dk_at dksX6_scans_0 7 rfl rfl)
theorem dX6_scans_10 : decode cX6_scans 10 = .ok (.aload_n 0, 1) := dk_42 (dk_at dksX6_scans_0 10 rfl rfl)
theorem dX6_scans_11 : decode cX6_scans 11 = .ok (.iconst 0, 1) := dk_3 (dk_at dksX6_scans_0 11 rfl rfl)
theorem dX6_scans_12 : decode cX6_scans 12 = .ok (.putfield 89, 3) := dk_181 0 89 (dk_at dksX6_scans_0 12 rfl rfl)
theorem dX6_scans_15 : decode cX6_scans 15 = .ok (.aload_n 0, 1) := dk_42 (dk_at dksX6_scans_0 15 rfl rfl)
theorem dX6_scans_16 : decode cX6_scans 16 = .ok (.iconst 0, 1) := dk_3 (dk_at dksX6_scans_0 16 rfl rfl)
theorem dX6_scans_17 : decode cX6_scans 17 = .ok (.putfield 95, 3) := dk_181 0 95 (dk_at dksX6_scans_0 17 rfl rfl)
theorem dX6_scans_20 : decode cX6_scans 20 = .ok (.iconst 1, 1) := dk_4 (dk_at dksX6_scans_0 20 rfl rfl)
theorem dX6_scans_21 : decode cX6_scans 21 = .ok (.istore_n 3, 1) := dk_62 (dk_at dksX6_scans_0 21 rfl rfl)
theorem dX6_scans_22 : decode cX6_scans 22 = .ok (.iconst 0, 1) := dk_3 (dk_at dksX6_scans_0 22 rfl rfl)
theorem dX6_scans_23 : decode cX6_scans 23 = .ok (.istore 4, 2) := dk_54 4 (dk_at dksX6_scans_1 0 rfl rfl)
theorem dX6_scans_25 : decode cX6_scans 25 = .ok (.iload 4, 2) := dk_21 4 (dk_at dksX6_scans_1 2 rfl rfl)
theorem dX6_scans_27 : decode cX6_scans 27 = .ok (.iload_n 2, 1) := dk_28 (dk_at dksX6_scans_1 4 rfl rfl)
theorem dX6_scans_28 : decode cX6_scans 28 = .ok (.if_icmp .ge 294, 3) := dk_162 1 38 (dk_at dksX6_scans_1 5 rfl rfl)
theorem dX6_scans_31 : decode cX6_scans 31 = .ok (.aload_n 0, 1) := dk_42 (dk_at dksX6_scans_1 8 rfl rfl)
theorem dX6_scans_32 : decode cX6_scans 32 = .ok (.iload_n 1, 1) := dk_27 (dk_at dksX6_scans_1 9 rfl rfl)
theorem dX6_scans_33 : decode cX6_scans 33 = .ok (.iload 4, 2) := dk_21 4 (dk_at dksX6_scans_1 10 rfl rfl)
theorem dX6_scans_35 : decode cX6_scans 35 = .ok (.invokevirtual 98, 3) := dk_182 0 98 (dk_at dksX6_scans_1 12 rfl rfl)
theorem dX6_scans_38 : decode cX6_scans 38 = .ok (.istore 5, 2) := dk_54 5 (dk_at dksX6_scans_1 15 rfl rfl)
theorem dX6_scans_40 : decode cX6_scans 40 = .ok (.iload 5, 2) := dk_21 5 (dk_at dksX6_scans_1 17 rfl rfl)
theorem dX6_scans_42 : decode cX6_scans 42 = .ok (.ifCond .ne 85, 3) := dk_154 0 85 (dk_at dksX6_scans_1 19 rfl rfl)
theorem dX6_scans_45 : decode cX6_scans 45 = .ok (.aload_n 0, 1) := dk_42 (dk_at dksX6_scans_1 22 rfl rfl)
theorem dX6_scans_46 : decode cX6_scans 46 = .ok (.getfield 95, 3) := dk_180 0 95 (dk_at dksX6_scans_2 0 rfl rfl)
theorem dX6_scans_49 : decode cX6_scans 49 = .ok (.iconst 3, 1) := dk_6 (dk_at dksX6_scans_2 3 rfl rfl)
theorem dX6_scans_50 : decode cX6_scans 50 = .ok (.if_icmp .ne 6, 3) := dk_160 0 6 (dk_at dksX6_scans_2 4 rfl rfl)
theorem dX6_scans_53 : decode cX6_scans 53 = .ok (.iload 4, 2) := dk_21 4 (dk_at dksX6_scans_2 7 rfl rfl)
theorem dX6_scans_55 : decode cX6_scans 55 = .ok (.ireturn, 1) := dk_172 (dk_at dksX6_scans_2 9 rfl rfl)
theorem dX6_scans_56 : decode cX6_scans 56 = .ok (.aload_n 0, 1) := dk_42 (dk_at dksX6_scans_2 10 rfl rfl)
theorem dX6_scans_57 : decode cX6_scans 57 = .ok (.getfield 95, 3) := dk_180 0 95 (dk_at dksX6_scans_2 11 rfl rfl)
theorem dX6_scans_60 : decode cX6_scans 60 = .ok (.ifCond .ne 8, 3) := dk_154 0 8 (dk_at dksX6_scans_2 14 rfl rfl)
theorem dX6_scans_63 : decode cX6_scans 63 = .ok (.aload_n 0, 1) := dk_42 (dk_at dksX6_scans_2 17 rfl rfl)
theorem dX6_scans_64 : decode cX6_scans 64 = .ok (.iload_n 3, 1) := dk_29 (dk_at dksX6_scans_2 18 rfl rfl)
theorem dX6_scans_65 : decode cX6_scans 65 = .ok (.invokevirtual 102, 3) := dk_182 0 102 (dk_at dksX6_scans_2 19 rfl rfl)
theorem dX6_scans_68 : decode cX6_scans 68 = .ok (.aload_n 0, 1) := dk_42 (dk_at dksX6_scans_2 22 rfl rfl)
theorem dX6_scans_69 : decode cX6_scans 69 = .ok (.getfield 95, 3) := dk_180 0 95 (dk_at dksX6_scans_3 0 rfl rfl)
theorem dX6_scans_72 : decode cX6_scans 72 = .ok (.iconst 2, 1) := dk_5 (dk_at dksX6_scans_3 3 rfl rfl)
theorem dX6_scans_73 : decode cX6_scans 73 = .ok (.if_icmp .ne 19, 3) := dk_160 0 19 (dk_at dksX6_scans_3 4 rfl rfl)
theorem dX6_scans_76 : decode cX6_scans 76 = .ok (.aload_n 0, 1) := dk_42 (dk_at dksX6_scans_3 7 rfl rfl)
theorem dX6_scans_77 : decode cX6_scans 77 = .ok (.getfield 50, 3) := dk_180 0 50 (dk_at dksX6_scans_3 8 rfl rfl)
theorem dX6_scans_80 : decode cX6_scans 80 = .ok (.aload_n 0, 1) := dk_42 (dk_at dksX6_scans_3 11 rfl rfl)
theorem dX6_scans_81 : decode cX6_scans 81 = .ok (.getfield 86, 3) := dk_180 0 86 (dk_at dksX6_scans_3 12 rfl rfl)
theorem dX6_scans_84 : decode cX6_scans 84 = .ok (.iconst 1, 1) := dk_4 (dk_at dksX6_scans_3 15 rfl rfl)
theorem dX6_scans_85 : decode cX6_scans 85 = .ok (.isub, 1) := dk_100 (dk_at dksX6_scans_3 16 rfl rfl)
theorem dX6_scans_86 : decode cX6_scans 86 = .ok (.iload 4, 2) := dk_21 4 (dk_at dksX6_scans_3 17 rfl rfl)
theorem dX6_scans_88 : decode cX6_scans 88 = .ok (.iastore, 1) := dk_79 (dk_at dksX6_scans_3 19 rfl rfl)
theorem dX6_scans_89 : decode cX6_scans 89 = .ok (.goto 18, 3) := dk_167 0 18 (dk_at dksX6_scans_3 20 rfl rfl)
theorem dX6_scans_92 : decode cX6_scans 92 = .ok (.aload_n 0, 1) := dk_42 (dk_at dksX6_scans_3 23 rfl rfl)
theorem dX6_scans_93 : decode cX6_scans 93 = .ok (.getfield 44, 3) := dk_180 0 44 (dk_at dksX6_scans_4 0 rfl rfl)
theorem dX6_scans_96 : decode cX6_scans 96 = .ok (.aload_n 0, 1) := dk_42 (dk_at dksX6_scans_4 3 rfl rfl)
theorem dX6_scans_97 : decode cX6_scans 97 = .ok (.getfield 86, 3) := dk_180 0 86 (dk_at dksX6_scans_4 4 rfl rfl)
theorem dX6_scans_100 : decode cX6_scans 100 = .ok (.iconst 1, 1) := dk_4 (dk_at dksX6_scans_4 7 rfl rfl)
theorem dX6_scans_101 : decode cX6_scans 101 = .ok (.isub, 1) := dk_100 (dk_at dksX6_scans_4 8 rfl rfl)
theorem dX6_scans_102 : decode cX6_scans 102 = .ok (.dup2, 1) := dk_92 (dk_at dksX6_scans_4 9 rfl rfl)
theorem dX6_scans_103 : decode cX6_scans 103 = .ok (.iaload, 1) := dk_46 (dk_at dksX6_scans_4 10 rfl rfl)
theorem dX6_scans_104 : decode cX6_scans 104 = .ok (.iconst 1, 1) := dk_4 (dk_at dksX6_scans_4 11 rfl rfl)
theorem dX6_scans_105 : decode cX6_scans 105 = .ok (.iadd, 1) := dk_96 (dk_at dksX6_scans_4 12 rfl rfl)
theorem dX6_scans_106 : decode cX6_scans 106 = .ok (.iastore, 1) := dk_79 (dk_at dksX6_scans_4 13 rfl rfl)
theorem dX6_scans_107 : decode cX6_scans 107 = .ok (.aload_n 0, 1) := dk_42 (dk_at dksX6_scans_4 14 rfl rfl)
theorem dX6_scans_108 : decode cX6_scans 108 = .ok (.aload_n 0, 1) := dk_42 (dk_at dksX6_scans_4 15 rfl rfl)
theorem dX6_scans_109 : decode cX6_scans 109 = .ok (.getfield 95, 3) := dk_180 0 95 (dk_at dksX6_scans_4 16 rfl rfl)
theorem dX6_scans_112 : decode cX6_scans 112 = .ok (.iconst 2, 1) := dk_5 (dk_at dksX6_scans_4 19 rfl rfl)
theorem dX6_scans_113 : decode cX6_scans 113 = .ok (.if_icmp .ne 7, 3) := dk_160 0 7 (dk_at dksX6_scans_4 20 rfl rfl)
theorem dX6_scans_116 : decode cX6_scans 116 = .ok (.iconst 3, 1) := dk_6 (dk_at dksX6_scans_4 23 rfl rfl)
theorem dX6_scans_117 : decode cX6_scans 117 = .ok (.goto 4, 3) := dk_167 0 4 (dk_at dksX6_scans_5 0 rfl rfl)
theorem dX6_scans_120 : decode cX6_scans 120 = .ok (.iconst 1, 1) := dk_4 (dk_at dksX6_scans_5 3 rfl rfl)
theorem dX6_scans_121 : decode cX6_scans 121 = .ok (.putfield 95, 3) := dk_181 0 95 (dk_at dksX6_scans_5 4 rfl rfl)
theorem dX6_scans_124 : decode cX6_scans 124 = .ok (.goto 192, 3) := dk_167 0 192 (dk_at dksX6_scans_5 7 rfl rfl)
theorem dX6_scans_127 : decode cX6_scans 127 = .ok (.iload 5, 2) := dk_21 5 (dk_at dksX6_scans_5 10 rfl rfl)
theorem dX6_scans_129 : decode cX6_scans 129 = .ok (.iconst 1, 1) := dk_4 (dk_at dksX6_scans_5 12 rfl rfl)
theorem dX6_scans_130 : decode cX6_scans 130 = .ok (.if_icmp .ne 35, 3) := dk_160 0 35 (dk_at dksX6_scans_5 13 rfl rfl)
theorem dX6_scans_133 : decode cX6_scans 133 = .ok (.aload_n 0, 1) := dk_42 (dk_at dksX6_scans_5 16 rfl rfl)
theorem dX6_scans_134 : decode cX6_scans 134 = .ok (.getfield 95, 3) := dk_180 0 95 (dk_at dksX6_scans_5 17 rfl rfl)
theorem dX6_scans_137 : decode cX6_scans 137 = .ok (.iconst 1, 1) := dk_4 (dk_at dksX6_scans_5 20 rfl rfl)
theorem dX6_scans_138 : decode cX6_scans 138 = .ok (.if_icmp .eq 6, 3) := dk_159 0 6 (dk_at dksX6_scans_5 21 rfl rfl)
theorem dX6_scans_141 : decode cX6_scans 141 = .ok (.iload 4, 2) := dk_21 4 (dk_at dksX6_scans_6 0 rfl rfl)
theorem dX6_scans_143 : decode cX6_scans 143 = .ok (.ireturn, 1) := dk_172 (dk_at dksX6_scans_6 2 rfl rfl)
theorem dX6_scans_144 : decode cX6_scans 144 = .ok (.aload_n 0, 1) := dk_42 (dk_at dksX6_scans_6 3 rfl rfl)
theorem dX6_scans_145 : decode cX6_scans 145 = .ok (.getfield 47, 3) := dk_180 0 47 (dk_at dksX6_scans_6 4 rfl rfl)
theorem dX6_scans_148 : decode cX6_scans 148 = .ok (.aload_n 0, 1) := dk_42 (dk_at dksX6_scans_6 7 rfl rfl)
theorem dX6_scans_149 : decode cX6_scans 149 = .ok (.getfield 86, 3) := dk_180 0 86 (dk_at dksX6_scans_6 8 rfl rfl)
theorem dX6_scans_152 : decode cX6_scans 152 = .ok (.iconst 1, 1) := dk_4 (dk_at dksX6_scans_6 11 rfl rfl)
theorem dX6_scans_153 : decode cX6_scans 153 = .ok (.isub, 1) := dk_100 (dk_at dksX6_scans_6 12 rfl rfl)
theorem dX6_scans_154 : decode cX6_scans 154 = .ok (.iload 4, 2) := dk_21 4 (dk_at dksX6_scans_6 13 rfl rfl)
theorem dX6_scans_156 : decode cX6_scans 156 = .ok (.iastore, 1) := dk_79 (dk_at dksX6_scans_6 15 rfl rfl)
theorem dX6_scans_157 : decode cX6_scans 157 = .ok (.aload_n 0, 1) := dk_42 (dk_at dksX6_scans_6 16 rfl rfl)
theorem dX6_scans_158 : decode cX6_scans 158 = .ok (.iconst 2, 1) := dk_5 (dk_at dksX6_scans_6 17 rfl rfl)
theorem dX6_scans_159 : decode cX6_scans 159 = .ok (.putfield 95, 3) := dk_181 0 95 (dk_at dksX6_scans_6 18 rfl rfl)
theorem dX6_scans_162 : decode cX6_scans 162 = .ok (.goto 154, 3) := dk_167 0 154 (dk_at dksX6_scans_6 21 rfl rfl)
theorem dX6_scans_165 : decode cX6_scans 165 = .ok (.iload 5, 2) := dk_21 5 (dk_at dksX6_scans_7 0 rfl rfl)
theorem dX6_scans_167 : decode cX6_scans 167 = .ok (.iconst 2, 1) := dk_5 (dk_at dksX6_scans_7 2 rfl rfl)
theorem dX6_scans_168 : decode cX6_scans 168 = .ok (.if_icmp .ne 88, 3) := dk_160 0 88 (dk_at dksX6_scans_7 3 rfl rfl)
theorem dX6_scans_171 : decode cX6_scans 171 = .ok (.aload_n 0, 1) := dk_42 (dk_at dksX6_scans_7 6 rfl rfl)
theorem dX6_scans_172 : decode cX6_scans 172 = .ok (.getfield 95, 3) := dk_180 0 95 (dk_at dksX6_scans_7 7 rfl rfl)
theorem dX6_scans_175 : decode cX6_scans 175 = .ok (.iconst 2, 1) := dk_5 (dk_at dksX6_scans_7 10 rfl rfl)
theorem dX6_scans_176 : decode cX6_scans 176 = .ok (.if_icmp .eq 6, 3) := dk_159 0 6 (dk_at dksX6_scans_7 11 rfl rfl)
theorem dX6_scans_179 : decode cX6_scans 179 = .ok (.iload 4, 2) := dk_21 4 (dk_at dksX6_scans_7 14 rfl rfl)
theorem dX6_scans_181 : decode cX6_scans 181 = .ok (.ireturn, 1) := dk_172 (dk_at dksX6_scans_7 16 rfl rfl)
theorem dX6_scans_182 : decode cX6_scans 182 = .ok (.aload_n 0, 1) := dk_42 (dk_at dksX6_scans_7 17 rfl rfl)
theorem dX6_scans_183 : decode cX6_scans 183 = .ok (.getfield 50, 3) := dk_180 0 50 (dk_at dksX6_scans_7 18 rfl rfl)
theorem dX6_scans_186 : decode cX6_scans 186 = .ok (.aload_n 0, 1) := dk_42 (dk_at dksX6_scans_7 21 rfl rfl)
theorem dX6_scans_187 : decode cX6_scans 187 = .ok (.getfield 86, 3) := dk_180 0 86 (dk_at dksX6_scans_8 0 rfl rfl)
theorem dX6_scans_190 : decode cX6_scans 190 = .ok (.iconst 1, 1) := dk_4 (dk_at dksX6_scans_8 3 rfl rfl)
theorem dX6_scans_191 : decode cX6_scans 191 = .ok (.isub, 1) := dk_100 (dk_at dksX6_scans_8 4 rfl rfl)
theorem dX6_scans_192 : decode cX6_scans 192 = .ok (.iload 4, 2) := dk_21 4 (dk_at dksX6_scans_8 5 rfl rfl)
theorem dX6_scans_194 : decode cX6_scans 194 = .ok (.iastore, 1) := dk_79 (dk_at dksX6_scans_8 7 rfl rfl)
theorem dX6_scans_195 : decode cX6_scans 195 = .ok (.aload_n 0, 1) := dk_42 (dk_at dksX6_scans_8 8 rfl rfl)
theorem dX6_scans_196 : decode cX6_scans 196 = .ok (.getfield 53, 3) := dk_180 0 53 (dk_at dksX6_scans_8 9 rfl rfl)
theorem dX6_scans_199 : decode cX6_scans 199 = .ok (.aload_n 0, 1) := dk_42 (dk_at dksX6_scans_8 12 rfl rfl)
theorem dX6_scans_200 : decode cX6_scans 200 = .ok (.getfield 89, 3) := dk_180 0 89 (dk_at dksX6_scans_8 13 rfl rfl)
theorem dX6_scans_203 : decode cX6_scans 203 = .ok (.aload_n 0, 1) := dk_42 (dk_at dksX6_scans_8 16 rfl rfl)
theorem dX6_scans_204 : decode cX6_scans 204 = .ok (.getfield 86, 3) := dk_180 0 86 (dk_at dksX6_scans_8 17 rfl rfl)
theorem dX6_scans_207 : decode cX6_scans 207 = .ok (.iconst 1, 1) := dk_4 (dk_at dksX6_scans_8 20 rfl rfl)
theorem dX6_scans_208 : decode cX6_scans 208 = .ok (.isub, 1) := dk_100 (dk_at dksX6_scans_8 21 rfl rfl)
theorem dX6_scans_209 : decode cX6_scans 209 = .ok (.iastore, 1) := dk_79 (dk_at dksX6_scans_8 22 rfl rfl)
theorem dX6_scans_210 : decode cX6_scans 210 = .ok (.aload_n 0, 1) := dk_42 (dk_at dksX6_scans_8 23 rfl rfl)
theorem dX6_scans_211 : decode cX6_scans 211 = .ok (.dup, 1) := dk_89 (dk_at dksX6_scans_9 0 rfl rfl)
theorem dX6_scans_212 : decode cX6_scans 212 = .ok (.getfield 89, 3) := dk_180 0 89 (dk_at dksX6_scans_9 1 rfl rfl)
theorem dX6_scans_215 : decode cX6_scans 215 = .ok (.iconst 1, 1) := dk_4 (dk_at dksX6_scans_9 4 rfl rfl)
theorem dX6_scans_216 : decode cX6_scans 216 = .ok (.iadd, 1) := dk_96 (dk_at dksX6_scans_9 5 rfl rfl)
theorem dX6_scans_217 : decode cX6_scans 217 = .ok (.putfield 89, 3) := dk_181 0 89 (dk_at dksX6_scans_9 6 rfl rfl)
theorem dX6_scans_220 : decode cX6_scans 220 = .ok (.aload_n 0, 1) := dk_42 (dk_at dksX6_scans_9 9 rfl rfl)
theorem dX6_scans_221 : decode cX6_scans 221 = .ok (.aload_n 0, 1) := dk_42 (dk_at dksX6_scans_9 10 rfl rfl)
theorem dX6_scans_222 : decode cX6_scans 222 = .ok (.getfield 89, 3) := dk_180 0 89 (dk_at dksX6_scans_9 11 rfl rfl)
theorem dX6_scans_225 : decode cX6_scans 225 = .ok (.aload_n 0, 1) := dk_42 (dk_at dksX6_scans_9 14 rfl rfl)
theorem dX6_scans_226 : decode cX6_scans 226 = .ok (.getfield 92, 3) := dk_180 0 92 (dk_at dksX6_scans_9 15 rfl rfl)
theorem dX6_scans_229 : decode cX6_scans 229 = .ok (.if_icmp .le 10, 3) := dk_164 0 10 (dk_at dksX6_scans_9 18 rfl rfl)
theorem dX6_scans_232 : decode cX6_scans 232 = .ok (.aload_n 0, 1) := dk_42 (dk_at dksX6_scans_9 21 rfl rfl)
theorem dX6_scans_233 : decode cX6_scans 233 = .ok (.getfield 89, 3) := dk_180 0 89 (dk_at dksX6_scans_10 0 rfl rfl)
theorem dX6_scans_236 : decode cX6_scans 236 = .ok (.goto 7, 3) := dk_167 0 7 (dk_at dksX6_scans_10 3 rfl rfl)
theorem dX6_scans_239 : decode cX6_scans 239 = .ok (.aload_n 0, 1) := dk_42 (dk_at dksX6_scans_10 6 rfl rfl)
theorem dX6_scans_240 : decode cX6_scans 240 = .ok (.getfield 92, 3) := dk_180 0 92 (dk_at dksX6_scans_10 7 rfl rfl)
theorem dX6_scans_243 : decode cX6_scans 243 = .ok (.putfield 92, 3) := dk_181 0 92 (dk_at dksX6_scans_10 10 rfl rfl)
theorem dX6_scans_246 : decode cX6_scans 246 = .ok (.aload_n 0, 1) := dk_42 (dk_at dksX6_scans_10 13 rfl rfl)
theorem dX6_scans_247 : decode cX6_scans 247 = .ok (.iconst 0, 1) := dk_3 (dk_at dksX6_scans_10 14 rfl rfl)
theorem dX6_scans_248 : decode cX6_scans 248 = .ok (.putfield 95, 3) := dk_181 0 95 (dk_at dksX6_scans_10 15 rfl rfl)
theorem dX6_scans_251 : decode cX6_scans 251 = .ok (.iconst 1, 1) := dk_4 (dk_at dksX6_scans_10 18 rfl rfl)
theorem dX6_scans_252 : decode cX6_scans 252 = .ok (.istore_n 3, 1) := dk_62 (dk_at dksX6_scans_10 19 rfl rfl)
theorem dX6_scans_253 : decode cX6_scans 253 = .ok (.goto 63, 3) := dk_167 0 63 (dk_at dksX6_scans_10 20 rfl rfl)
theorem dX6_scans_256 : decode cX6_scans 256 = .ok (.iload 5, 2) := dk_21 5 (dk_at dksX6_scans_11 0 rfl rfl)
theorem dX6_scans_258 : decode cX6_scans 258 = .ok (.iconst 3, 1) := dk_6 (dk_at dksX6_scans_11 2 rfl rfl)
theorem dX6_scans_259 : decode cX6_scans 259 = .ok (.if_icmp .ne 39, 3) := dk_160 0 39 (dk_at dksX6_scans_11 3 rfl rfl)
theorem dX6_scans_262 : decode cX6_scans 262 = .ok (.aload_n 0, 1) := dk_42 (dk_at dksX6_scans_11 6 rfl rfl)
theorem dX6_scans_263 : decode cX6_scans 263 = .ok (.getfield 95, 3) := dk_180 0 95 (dk_at dksX6_scans_11 7 rfl rfl)
theorem dX6_scans_266 : decode cX6_scans 266 = .ok (.iconst 2, 1) := dk_5 (dk_at dksX6_scans_11 10 rfl rfl)
theorem dX6_scans_267 : decode cX6_scans 267 = .ok (.if_icmp .lt 10, 3) := dk_161 0 10 (dk_at dksX6_scans_11 11 rfl rfl)
theorem dX6_scans_270 : decode cX6_scans 270 = .ok (.aload_n 0, 1) := dk_42 (dk_at dksX6_scans_11 14 rfl rfl)
theorem dX6_scans_271 : decode cX6_scans 271 = .ok (.getfield 89, 3) := dk_180 0 89 (dk_at dksX6_scans_11 15 rfl rfl)
theorem dX6_scans_274 : decode cX6_scans 274 = .ok (.ifCond .ne 6, 3) := dk_154 0 6 (dk_at dksX6_scans_11 18 rfl rfl)
theorem dX6_scans_277 : decode cX6_scans 277 = .ok (.iload 4, 2) := dk_21 4 (dk_at dksX6_scans_11 21 rfl rfl)
theorem dX6_scans_279 : decode cX6_scans 279 = .ok (.ireturn, 1) := dk_172 (dk_at dksX6_scans_11 23 rfl rfl)
theorem dX6_scans_280 : decode cX6_scans 280 = .ok (.aload_n 0, 1) := dk_42 (dk_at dksX6_scans_12 0 rfl rfl)
theorem dX6_scans_281 : decode cX6_scans 281 = .ok (.dup, 1) := dk_89 (dk_at dksX6_scans_12 1 rfl rfl)
theorem dX6_scans_282 : decode cX6_scans 282 = .ok (.getfield 89, 3) := dk_180 0 89 (dk_at dksX6_scans_12 2 rfl rfl)
theorem dX6_scans_285 : decode cX6_scans 285 = .ok (.iconst 1, 1) := dk_4 (dk_at dksX6_scans_12 5 rfl rfl)
theorem dX6_scans_286 : decode cX6_scans 286 = .ok (.isub, 1) := dk_100 (dk_at dksX6_scans_12 6 rfl rfl)
theorem dX6_scans_287 : decode cX6_scans 287 = .ok (.putfield 89, 3) := dk_181 0 89 (dk_at dksX6_scans_12 7 rfl rfl)
theorem dX6_scans_290 : decode cX6_scans 290 = .ok (.aload_n 0, 1) := dk_42 (dk_at dksX6_scans_12 10 rfl rfl)
theorem dX6_scans_291 : decode cX6_scans 291 = .ok (.iconst 3, 1) := dk_6 (dk_at dksX6_scans_12 11 rfl rfl)
theorem dX6_scans_292 : decode cX6_scans 292 = .ok (.putfield 95, 3) := dk_181 0 95 (dk_at dksX6_scans_12 12 rfl rfl)
theorem dX6_scans_295 : decode cX6_scans 295 = .ok (.goto 21, 3) := dk_167 0 21 (dk_at dksX6_scans_12 15 rfl rfl)
theorem dX6_scans_298 : decode cX6_scans 298 = .ok (.aload_n 0, 1) := dk_42 (dk_at dksX6_scans_12 18 rfl rfl)
theorem dX6_scans_299 : decode cX6_scans 299 = .ok (.getfield 95, 3) := dk_180 0 95 (dk_at dksX6_scans_12 19 rfl rfl)
theorem dX6_scans_302 : decode cX6_scans 302 = .ok (.iconst 2, 1) := dk_5 (dk_at dksX6_scans_12 22 rfl rfl)
theorem dX6_scans_303 : decode cX6_scans 303 = .ok (.if_icmp .ge 6, 3) := dk_162 0 6 (dk_at dksX6_scans_13 0 rfl rfl)
theorem dX6_scans_306 : decode cX6_scans 306 = .ok (.iload 4, 2) := dk_21 4 (dk_at dksX6_scans_13 3 rfl rfl)
theorem dX6_scans_308 : decode cX6_scans 308 = .ok (.ireturn, 1) := dk_172 (dk_at dksX6_scans_13 5 rfl rfl)
theorem dX6_scans_309 : decode cX6_scans 309 = .ok (.aload_n 0, 1) := dk_42 (dk_at dksX6_scans_13 6 rfl rfl)
theorem dX6_scans_310 : decode cX6_scans 310 = .ok (.iconst 0, 1) := dk_3 (dk_at dksX6_scans_13 7 rfl rfl)
theorem dX6_scans_311 : decode cX6_scans 311 = .ok (.putfield 95, 3) := dk_181 0 95 (dk_at dksX6_scans_13 8 rfl rfl)
theorem dX6_scans_314 : decode cX6_scans 314 = .ok (.iconst 0, 1) := dk_3 (dk_at dksX6_scans_13 11 rfl rfl)
theorem dX6_scans_315 : decode cX6_scans 315 = .ok (.istore_n 3, 1) := dk_62 (dk_at dksX6_scans_13 12 rfl rfl)
theorem dX6_scans_316 : decode cX6_scans 316 = .ok (.iinc 4 1, 3) := dk_132 4 1 (dk_at dksX6_scans_13 13 rfl rfl)
theorem dX6_scans_319 : decode cX6_scans 319 = .ok (.goto (-294), 3) := dk_167 254 218 (dk_at dksX6_scans_13 16 rfl rfl)
theorem dX6_scans_322 : decode cX6_scans 322 = .ok (.iconst (-1), 1) := dk_2 (dk_at dksX6_scans_13 19 rfl rfl)
theorem dX6_scans_323 : decode cX6_scans 323 = .ok (.ireturn, 1) := dk_172 (dk_at dksX6_scans_13 20 rfl rfl)
abbrev cX6_begins : ByteArray := prog_23_method_13_code
def yX6_begins : MethodName := ⟨RX6, "begins", "(Z)V"⟩
def dkwX6_begins_4 : List UInt8 := [180, 0, 56, 42, 180, 0, 89, 42, 180, 0, 86, 79, 42, 89, 180, 0, 86, 4, 96, 181, 0, 86, 177]
abbrev dktX6_begins_4 : List UInt8 := dkwX6_begins_4 ++ []
def dkwX6_begins_3 : List UInt8 := [180, 0, 47, 42, 180, 0, 86, 2, 79, 42, 180, 0, 50, 42, 180, 0, 86, 2, 79, 27, 153, 0, 16, 42]
abbrev dktX6_begins_3 : List UInt8 := dkwX6_begins_3 ++ dktX6_begins_4
def dkwX6_begins_2 : List UInt8 := [167, 0, 12, 42, 180, 0, 56, 42, 180, 0, 89, 46, 79, 42, 180, 0, 44, 42, 180, 0, 86, 3, 79, 42]
abbrev dktX6_begins_2 : List UInt8 := dkwX6_begins_2 ++ dktX6_begins_3
def dkwX6_begins_1 : List UInt8 := [180, 0, 89, 4, 100, 46, 79, 42, 180, 0, 41, 42, 180, 0, 86, 27, 153, 0, 10, 42, 180, 0, 86]
abbrev dktX6_begins_1 : List UInt8 := dkwX6_begins_1 ++ dktX6_begins_2
def dkwX6_begins_0 : List UInt8 := [42, 180, 0, 38, 42, 180, 0, 86, 42, 180, 0, 89, 154, 0, 7, 2, 167, 0, 14, 42, 180, 0, 53, 42]
abbrev dktX6_begins_0 : List UInt8 := dkwX6_begins_0 ++ dktX6_begins_1
theorem dksX6_begins_0 : cX6_begins.data.toList.drop 0 = dktX6_begins_0 := by decide +kernel
theorem dksX6_begins_1 : cX6_begins.data.toList.drop 24 = dktX6_begins_1 := dk_seg dksX6_begins_0 24 rfl rfl
theorem dksX6_begins_2 : cX6_begins.data.toList.drop 47 = dktX6_begins_2 := dk_seg dksX6_begins_1 23 rfl rfl
theorem dksX6_begins_3 : cX6_begins.data.toList.drop 71 = dktX6_begins_3 := dk_seg dksX6_begins_2 24 rfl rfl
theorem dksX6_begins_4 : cX6_begins.data.toList.drop 95 = dktX6_begins_4 := dk_seg dksX6_begins_3 24 rfl rfl
theorem dX6_begins_0 : decode cX6_begins 0 = .ok (.aload_n 0, 1) := dk_42 (dk_at dksX6_begins_0 0 rfl rfl)
theorem dX6_begins_1 : decode cX6_begins 1 = .ok (.getfield 38, 3) := dk_180 0 38 (dk_at dksX6_begins_0 1 rfl rfl)
theorem dX6_begins_4 : decode cX6_begins 4 = .ok (.aload_n 0, 1) := dk_42 (dk_at dksX6_begins_0 4 rfl rfl)
theorem dX6_begins_5 : decode cX6_begins 5 = .ok (.getfield 86, 3) := dk_180 0 86 (dk_at dksX6_begins_0 5 rfl rfl)
theorem dX6_begins_8 : decode cX6_begins 8 = .ok (.aload_n 0, 1) := dk_42 (dk_at dksX6_begins_0 8 rfl rfl)
theorem dX6_begins_9 : decode cX6_begins 9 = .ok (.getfield 89, 3) := dk_180 0 89 (dk_at dksX6_begins_0 9 rfl rfl)
theorem dX6_begins_12 : decode cX6_begins 12 = .ok (.ifCond .ne 7, 3) := dk_154 0 7 (dk_at dksX6_begins_0 12 rfl rfl)
theorem dX6_begins_15 : decode cX6_begins 15 = .ok (.iconst (-1), 1) := dk_2 (dk_at dksX6_begins_0 15 rfl rfl)
theorem dX6_begins_16 : decode cX6_begins 16 = .ok (.goto 14, 3) := dk_167 0 14 (dk_at dksX6_begins_0 16 rfl rfl)
theorem dX6_begins_19 : decode cX6_begins 19 = .ok (.aload_n 0, 1) := dk_42 (dk_at dksX6_begins_0 19 rfl rfl)
theorem dX6_begins_20 : decode cX6_begins 20 = .ok (.getfield 53, 3) := dk_180 0 53 (dk_at dksX6_begins_0 20 rfl rfl)
theorem dX6_begins_23 : decode cX6_begins 23 = .ok (.aload_n 0, 1) := dk_42 (dk_at dksX6_begins_0 23 rfl rfl)
theorem dX6_begins_24 : decode cX6_begins 24 = .ok (.getfield 89, 3) := dk_180 0 89 (dk_at dksX6_begins_1 0 rfl rfl)
theorem dX6_begins_27 : decode cX6_begins 27 = .ok (.iconst 1, 1) := dk_4 (dk_at dksX6_begins_1 3 rfl rfl)
theorem dX6_begins_28 : decode cX6_begins 28 = .ok (.isub, 1) := dk_100 (dk_at dksX6_begins_1 4 rfl rfl)
theorem dX6_begins_29 : decode cX6_begins 29 = .ok (.iaload, 1) := dk_46 (dk_at dksX6_begins_1 5 rfl rfl)
theorem dX6_begins_30 : decode cX6_begins 30 = .ok (.iastore, 1) := dk_79 (dk_at dksX6_begins_1 6 rfl rfl)
theorem dX6_begins_31 : decode cX6_begins 31 = .ok (.aload_n 0, 1) := dk_42 (dk_at dksX6_begins_1 7 rfl rfl)
theorem dX6_begins_32 : decode cX6_begins 32 = .ok (.getfield 41, 3) := dk_180 0 41 (dk_at dksX6_begins_1 8 rfl rfl)
theorem dX6_begins_35 : decode cX6_begins 35 = .ok (.aload_n 0, 1) := dk_42 (dk_at dksX6_begins_1 11 rfl rfl)
theorem dX6_begins_36 : decode cX6_begins 36 = .ok (.getfield 86, 3) := dk_180 0 86 (dk_at dksX6_begins_1 12 rfl rfl)
theorem dX6_begins_39 : decode cX6_begins 39 = .ok (.iload_n 1, 1) := dk_27 (dk_at dksX6_begins_1 15 rfl rfl)
theorem dX6_begins_40 : decode cX6_begins 40 = .ok (.ifCond .eq 10, 3) := dk_153 0 10 (dk_at dksX6_begins_1 16 rfl rfl)
theorem dX6_begins_43 : decode cX6_begins 43 = .ok (.aload_n 0, 1) := dk_42 (dk_at dksX6_begins_1 19 rfl rfl)
theorem dX6_begins_44 : decode cX6_begins 44 = .ok (.getfield 86, 3) := dk_180 0 86 (dk_at dksX6_begins_1 20 rfl rfl)
theorem dX6_begins_47 : decode cX6_begins 47 = .ok (.goto 12, 3) := dk_167 0 12 (dk_at dksX6_begins_2 0 rfl rfl)
theorem dX6_begins_50 : decode cX6_begins 50 = .ok (.aload_n 0, 1) := dk_42 (dk_at dksX6_begins_2 3 rfl rfl)
theorem dX6_begins_51 : decode cX6_begins 51 = .ok (.getfield 56, 3) := dk_180 0 56 (dk_at dksX6_begins_2 4 rfl rfl)
theorem dX6_begins_54 : decode cX6_begins 54 = .ok (.aload_n 0, 1) := dk_42 (dk_at dksX6_begins_2 7 rfl rfl)
theorem dX6_begins_55 : decode cX6_begins 55 = .ok (.getfield 89, 3) := dk_180 0 89 (dk_at dksX6_begins_2 8 rfl rfl)
theorem dX6_begins_58 : decode cX6_begins 58 = .ok (.iaload, 1) := dk_46 (dk_at dksX6_begins_2 11 rfl rfl)
theorem dX6_begins_59 : decode cX6_begins 59 = .ok (.iastore, 1) := dk_79 (dk_at dksX6_begins_2 12 rfl rfl)
theorem dX6_begins_60 : decode cX6_begins 60 = .ok (.aload_n 0, 1) := dk_42 (dk_at dksX6_begins_2 13 rfl rfl)
theorem dX6_begins_61 : decode cX6_begins 61 = .ok (.getfield 44, 3) := dk_180 0 44 (dk_at dksX6_begins_2 14 rfl rfl)
theorem dX6_begins_64 : decode cX6_begins 64 = .ok (.aload_n 0, 1) := dk_42 (dk_at dksX6_begins_2 17 rfl rfl)
theorem dX6_begins_65 : decode cX6_begins 65 = .ok (.getfield 86, 3) := dk_180 0 86 (dk_at dksX6_begins_2 18 rfl rfl)
theorem dX6_begins_68 : decode cX6_begins 68 = .ok (.iconst 0, 1) := dk_3 (dk_at dksX6_begins_2 21 rfl rfl)
theorem dX6_begins_69 : decode cX6_begins 69 = .ok (.iastore, 1) := dk_79 (dk_at dksX6_begins_2 22 rfl rfl)
theorem dX6_begins_70 : decode cX6_begins 70 = .ok (.aload_n 0, 1) := dk_42 (dk_at dksX6_begins_2 23 rfl rfl)
theorem dX6_begins_71 : decode cX6_begins 71 = .ok (.getfield 47, 3) := dk_180 0 47 (dk_at dksX6_begins_3 0 rfl rfl)
theorem dX6_begins_74 : decode cX6_begins 74 = .ok (.aload_n 0, 1) := dk_42 (dk_at dksX6_begins_3 3 rfl rfl)
theorem dX6_begins_75 : decode cX6_begins 75 = .ok (.getfield 86, 3) := dk_180 0 86 (dk_at dksX6_begins_3 4 rfl rfl)
theorem dX6_begins_78 : decode cX6_begins 78 = .ok (.iconst (-1), 1) := dk_2 (dk_at dksX6_begins_3 7 rfl rfl)
theorem dX6_begins_79 : decode cX6_begins 79 = .ok (.iastore, 1) := dk_79 (dk_at dksX6_begins_3 8 rfl rfl)
theorem dX6_begins_80 : decode cX6_begins 80 = .ok (.aload_n 0, 1) := dk_42 (dk_at dksX6_begins_3 9 rfl rfl)
theorem dX6_begins_81 : decode cX6_begins 81 = .ok (.getfield 50, 3) := dk_180 0 50 (dk_at dksX6_begins_3 10 rfl rfl)
theorem dX6_begins_84 : decode cX6_begins 84 = .ok (.aload_n 0, 1) := dk_42 (dk_at dksX6_begins_3 13 rfl rfl)
theorem dX6_begins_85 : decode cX6_begins 85 = .ok (.getfield 86, 3) := dk_180 0 86 (dk_at dksX6_begins_3 14 rfl rfl)
theorem dX6_begins_88 : decode cX6_begins 88 = .ok (.iconst (-1), 1) := dk_2 (dk_at dksX6_begins_3 17 rfl rfl)
theorem dX6_begins_89 : decode cX6_begins 89 = .ok (.iastore, 1) := dk_79 (dk_at dksX6_begins_3 18 rfl rfl)
theorem dX6_begins_90 : decode cX6_begins 90 = .ok (.iload_n 1, 1) := dk_27 (dk_at dksX6_begins_3 19 rfl rfl)
theorem dX6_begins_91 : decode cX6_begins 91 = .ok (.ifCond .eq 16, 3) := dk_153 0 16 (dk_at dksX6_begins_3 20 rfl rfl)
theorem dX6_begins_94 : decode cX6_begins 94 = .ok (.aload_n 0, 1) := dk_42 (dk_at dksX6_begins_3 23 rfl rfl)
theorem dX6_begins_95 : decode cX6_begins 95 = .ok (.getfield 56, 3) := dk_180 0 56 (dk_at dksX6_begins_4 0 rfl rfl)
theorem dX6_begins_98 : decode cX6_begins 98 = .ok (.aload_n 0, 1) := dk_42 (dk_at dksX6_begins_4 3 rfl rfl)
theorem dX6_begins_99 : decode cX6_begins 99 = .ok (.getfield 89, 3) := dk_180 0 89 (dk_at dksX6_begins_4 4 rfl rfl)
theorem dX6_begins_102 : decode cX6_begins 102 = .ok (.aload_n 0, 1) := dk_42 (dk_at dksX6_begins_4 7 rfl rfl)
theorem dX6_begins_103 : decode cX6_begins 103 = .ok (.getfield 86, 3) := dk_180 0 86 (dk_at dksX6_begins_4 8 rfl rfl)
theorem dX6_begins_106 : decode cX6_begins 106 = .ok (.iastore, 1) := dk_79 (dk_at dksX6_begins_4 11 rfl rfl)
theorem dX6_begins_107 : decode cX6_begins 107 = .ok (.aload_n 0, 1) := dk_42 (dk_at dksX6_begins_4 12 rfl rfl)
theorem dX6_begins_108 : decode cX6_begins 108 = .ok (.dup, 1) := dk_89 (dk_at dksX6_begins_4 13 rfl rfl)
theorem dX6_begins_109 : decode cX6_begins 109 = .ok (.getfield 86, 3) := dk_180 0 86 (dk_at dksX6_begins_4 14 rfl rfl)
theorem dX6_begins_112 : decode cX6_begins 112 = .ok (.iconst 1, 1) := dk_4 (dk_at dksX6_begins_4 17 rfl rfl)
theorem dX6_begins_113 : decode cX6_begins 113 = .ok (.iadd, 1) := dk_96 (dk_at dksX6_begins_4 18 rfl rfl)
theorem dX6_begins_114 : decode cX6_begins 114 = .ok (.putfield 86, 3) := dk_181 0 86 (dk_at dksX6_begins_4 19 rfl rfl)
theorem dX6_begins_117 : decode cX6_begins 117 = .ok (.return_, 1) := dk_177 (dk_at dksX6_begins_4 22 rfl rfl)
abbrev cX6_tokenCount : ByteArray := prog_23_method_49_code
def yX6_tokenCount : MethodName := ⟨RX6, "tokenCount", "(I)I"⟩
def dkwX6_tokenCount_1 : List UInt8 := [167, 0, 8, 42, 27, 182, 0, 106, 172]
abbrev dktX6_tokenCount_1 : List UInt8 := dkwX6_tokenCount_1 ++ []
def dkwX6_tokenCount_0 : List UInt8 := [42, 27, 184, 0, 136, 153, 0, 7, 3, 167, 0, 4, 4, 181, 0, 62, 42, 180, 0, 62, 158, 0, 7, 3]
abbrev dktX6_tokenCount_0 : List UInt8 := dkwX6_tokenCount_0 ++ dktX6_tokenCount_1
theorem dksX6_tokenCount_0 : cX6_tokenCount.data.toList.drop 0 = dktX6_tokenCount_0 := by decide +kernel
theorem dksX6_tokenCount_1 : cX6_tokenCount.data.toList.drop 24 = dktX6_tokenCount_1 := dk_seg dksX6_tokenCount_0 24 rfl rfl
theorem dX6_tokenCount_0 : decode cX6_tokenCount 0 = .ok (.aload_n 0, 1) := dk_42 (dk_at dksX6_tokenCount_0 0 rfl rfl)
theorem dX6_tokenCount_1 : decode cX6_tokenCount 1 = .ok (.iload_n 1, 1) := dk_27 (dk_at dksX6_tokenCount_0 1 rfl rfl)
theorem dX6_tokenCount_2 : decode cX6_tokenCount 2 = .ok (.invokestatic 136, 3) := dk_184 0 136 (dk_at dksX6_tokenCount_0 2 rfl rfl)
theorem dX6_tokenCount_5 : decode cX6_tokenCount 5 = .ok (.ifCond .eq 7, 3) := dk_153 0 7 (dk_at dksX6_tokenCount_0 5 rfl rfl)
theorem dX6_tokenCount_8 : decode cX6_tokenCount 8 = .ok (.iconst 0, 1) := dk_3 (dk_at dksX6_tokenCount_0 8 rfl rfl)
theorem dX6_tokenCount_9 : decode cX6_tokenCount 9 = .ok (.goto 4, 3) := dk_167 0 4 (dk_at dksX6_tokenCount_0 9 rfl rfl)
theorem dX6_tokenCount_12 : decode cX6_tokenCount 12 = .ok (.iconst 1, 1) := dk_4 (dk_at dksX6_tokenCount_0 12 rfl rfl)
theorem dX6_tokenCount_13 : decode cX6_tokenCount 13 = .ok (.putfield 62, 3) := dk_181 0 62 (dk_at dksX6_tokenCount_0 13 rfl rfl)
theorem dX6_tokenCount_16 : decode cX6_tokenCount 16 = .ok (.aload_n 0, 1) := dk_42 (dk_at dksX6_tokenCount_0 16 rfl rfl)
theorem dX6_tokenCount_17 : decode cX6_tokenCount 17 = .ok (.getfield 62, 3) := dk_180 0 62 (dk_at dksX6_tokenCount_0 17 rfl rfl)
theorem dX6_tokenCount_20 : decode cX6_tokenCount 20 = .ok (.ifCond .le 7, 3) := dk_158 0 7 (dk_at dksX6_tokenCount_0 20 rfl rfl)
theorem dX6_tokenCount_23 : decode cX6_tokenCount 23 = .ok (.iconst 0, 1) := dk_3 (dk_at dksX6_tokenCount_0 23 rfl rfl)
theorem dX6_tokenCount_24 : decode cX6_tokenCount 24 = .ok (.goto 8, 3) := dk_167 0 8 (dk_at dksX6_tokenCount_1 0 rfl rfl)
theorem dX6_tokenCount_27 : decode cX6_tokenCount 27 = .ok (.aload_n 0, 1) := dk_42 (dk_at dksX6_tokenCount_1 3 rfl rfl)
theorem dX6_tokenCount_28 : decode cX6_tokenCount 28 = .ok (.iload_n 1, 1) := dk_27 (dk_at dksX6_tokenCount_1 4 rfl rfl)
theorem dX6_tokenCount_29 : decode cX6_tokenCount 29 = .ok (.invokevirtual 106, 3) := dk_182 0 106 (dk_at dksX6_tokenCount_1 5 rfl rfl)
theorem dX6_tokenCount_32 : decode cX6_tokenCount 32 = .ok (.ireturn, 1) := dk_172 (dk_at dksX6_tokenCount_1 8 rfl rfl)
abbrev cX6_tokenKind : ByteArray := prog_23_method_50_code
def yX6_tokenKind : MethodName := ⟨RX6, "tokenKind", "(II)I"⟩
def dkwX6_tokenKind_2 : List UInt8 := [172]
abbrev dktX6_tokenKind_2 : List UInt8 := dkwX6_tokenKind_2 ++ []
def dkwX6_tokenKind_1 : List UInt8 := [167, 0, 4, 4, 181, 0, 62, 42, 180, 0, 62, 158, 0, 7, 3, 167, 0, 9, 42, 27, 28, 182, 0, 98]
abbrev dktX6_tokenKind_1 : List UInt8 := dkwX6_tokenKind_1 ++ dktX6_tokenKind_2
def dkwX6_tokenKind_0 : List UInt8 := [42, 27, 184, 0, 136, 153, 0, 22, 28, 3, 42, 27, 182, 0, 106, 4, 100, 184, 0, 78, 153, 0, 7, 3]
abbrev dktX6_tokenKind_0 : List UInt8 := dkwX6_tokenKind_0 ++ dktX6_tokenKind_1
theorem dksX6_tokenKind_0 : cX6_tokenKind.data.toList.drop 0 = dktX6_tokenKind_0 := by decide +kernel
theorem dksX6_tokenKind_1 : cX6_tokenKind.data.toList.drop 24 = dktX6_tokenKind_1 := dk_seg dksX6_tokenKind_0 24 rfl rfl
theorem dksX6_tokenKind_2 : cX6_tokenKind.data.toList.drop 48 = dktX6_tokenKind_2 := dk_seg dksX6_tokenKind_1 24 rfl rfl
theorem dX6_tokenKind_0 : decode cX6_tokenKind 0 = .ok (.aload_n 0, 1) := dk_42 (dk_at dksX6_tokenKind_0 0 rfl rfl)
theorem dX6_tokenKind_1 : decode cX6_tokenKind 1 = .ok (.iload_n 1, 1) := dk_27 (dk_at dksX6_tokenKind_0 1 rfl rfl)
theorem dX6_tokenKind_2 : decode cX6_tokenKind 2 = .ok (.invokestatic 136, 3) := dk_184 0 136 (dk_at dksX6_tokenKind_0 2 rfl rfl)
theorem dX6_tokenKind_5 : decode cX6_tokenKind 5 = .ok (.ifCond .eq 22, 3) := dk_153 0 22 (dk_at dksX6_tokenKind_0 5 rfl rfl)
theorem dX6_tokenKind_8 : decode cX6_tokenKind 8 = .ok (.iload_n 2, 1) := dk_28 (dk_at dksX6_tokenKind_0 8 rfl rfl)
theorem dX6_tokenKind_9 : decode cX6_tokenKind 9 = .ok (.iconst 0, 1) := dk_3 (dk_at dksX6_tokenKind_0 9 rfl rfl)
theorem dX6_tokenKind_10 : decode cX6_tokenKind 10 = .ok (.aload_n 0, 1) := dk_42 (dk_at dksX6_tokenKind_0 10 rfl rfl)
theorem dX6_tokenKind_11 : decode cX6_tokenKind 11 = .ok (.iload_n 1, 1) := dk_27 (dk_at dksX6_tokenKind_0 11 rfl rfl)
theorem dX6_tokenKind_12 : decode cX6_tokenKind 12 = .ok (.invokevirtual 106, 3) := dk_182 0 106 (dk_at dksX6_tokenKind_0 12 rfl rfl)
theorem dX6_tokenKind_15 : decode cX6_tokenKind 15 = .ok (.iconst 1, 1) := dk_4 (dk_at dksX6_tokenKind_0 15 rfl rfl)
theorem dX6_tokenKind_16 : decode cX6_tokenKind 16 = .ok (.isub, 1) := dk_100 (dk_at dksX6_tokenKind_0 16 rfl rfl)
theorem dX6_tokenKind_17 : decode cX6_tokenKind 17 = .ok (.invokestatic 78, 3) := dk_184 0 78 (dk_at dksX6_tokenKind_0 17 rfl rfl)
theorem dX6_tokenKind_20 : decode cX6_tokenKind 20 = .ok (.ifCond .eq 7, 3) := dk_153 0 7 (dk_at dksX6_tokenKind_0 20 rfl rfl)
theorem dX6_tokenKind_23 : decode cX6_tokenKind 23 = .ok (.iconst 0, 1) := dk_3 (dk_at dksX6_tokenKind_0 23 rfl rfl)
theorem dX6_tokenKind_24 : decode cX6_tokenKind 24 = .ok (.goto 4, 3) := dk_167 0 4 (dk_at dksX6_tokenKind_1 0 rfl rfl)
theorem dX6_tokenKind_27 : decode cX6_tokenKind 27 = .ok (.iconst 1, 1) := dk_4 (dk_at dksX6_tokenKind_1 3 rfl rfl)
theorem dX6_tokenKind_28 : decode cX6_tokenKind 28 = .ok (.putfield 62, 3) := dk_181 0 62 (dk_at dksX6_tokenKind_1 4 rfl rfl)
theorem dX6_tokenKind_31 : decode cX6_tokenKind 31 = .ok (.aload_n 0, 1) := dk_42 (dk_at dksX6_tokenKind_1 7 rfl rfl)
theorem dX6_tokenKind_32 : decode cX6_tokenKind 32 = .ok (.getfield 62, 3) := dk_180 0 62 (dk_at dksX6_tokenKind_1 8 rfl rfl)
theorem dX6_tokenKind_35 : decode cX6_tokenKind 35 = .ok (.ifCond .le 7, 3) := dk_158 0 7 (dk_at dksX6_tokenKind_1 11 rfl rfl)
theorem dX6_tokenKind_38 : decode cX6_tokenKind 38 = .ok (.iconst 0, 1) := dk_3 (dk_at dksX6_tokenKind_1 14 rfl rfl)
theorem dX6_tokenKind_39 : decode cX6_tokenKind 39 = .ok (.goto 9, 3) := dk_167 0 9 (dk_at dksX6_tokenKind_1 15 rfl rfl)
theorem dX6_tokenKind_42 : decode cX6_tokenKind 42 = .ok (.aload_n 0, 1) := dk_42 (dk_at dksX6_tokenKind_1 18 rfl rfl)
theorem dX6_tokenKind_43 : decode cX6_tokenKind 43 = .ok (.iload_n 1, 1) := dk_27 (dk_at dksX6_tokenKind_1 19 rfl rfl)
theorem dX6_tokenKind_44 : decode cX6_tokenKind 44 = .ok (.iload_n 2, 1) := dk_28 (dk_at dksX6_tokenKind_1 20 rfl rfl)
theorem dX6_tokenKind_45 : decode cX6_tokenKind 45 = .ok (.invokevirtual 98, 3) := dk_182 0 98 (dk_at dksX6_tokenKind_1 21 rfl rfl)
theorem dX6_tokenKind_48 : decode cX6_tokenKind 48 = .ok (.ireturn, 1) := dk_172 (dk_at dksX6_tokenKind_2 0 rfl rfl)
abbrev cX6_syntaxError : ByteArray := prog_23_method_51_code
def yX6_syntaxError : MethodName := ⟨RX6, "syntaxError", "(I)I"⟩
def dkwX6_syntaxError_2 : List UInt8 := [182, 0, 125, 153, 0, 7, 2, 167, 0, 8, 42, 27, 182, 0, 106, 172]
abbrev dktX6_syntaxError_2 : List UInt8 := dkwX6_syntaxError_2 ++ []
def dkwX6_syntaxError_1 : List UInt8 := [172, 42, 27, 42, 27, 182, 0, 106, 182, 0, 109, 61, 28, 2, 159, 0, 7, 28, 167, 0, 20, 42, 27]
abbrev dktX6_syntaxError_1 : List UInt8 := dkwX6_syntaxError_1 ++ dktX6_syntaxError_2
def dkwX6_syntaxError_0 : List UInt8 := [42, 27, 184, 0, 136, 153, 0, 7, 3, 167, 0, 4, 4, 181, 0, 62, 42, 180, 0, 62, 158, 0, 5, 3]
abbrev dktX6_syntaxError_0 : List UInt8 := dkwX6_syntaxError_0 ++ dktX6_syntaxError_1
theorem dksX6_syntaxError_0 : cX6_syntaxError.data.toList.drop 0 = dktX6_syntaxError_0 := by decide +kernel
theorem dksX6_syntaxError_1 : cX6_syntaxError.data.toList.drop 24 = dktX6_syntaxError_1 := dk_seg dksX6_syntaxError_0 24 rfl rfl
theorem dksX6_syntaxError_2 : cX6_syntaxError.data.toList.drop 47 = dktX6_syntaxError_2 := dk_seg dksX6_syntaxError_1 23 rfl rfl
theorem dX6_syntaxError_0 : decode cX6_syntaxError 0 = .ok (.aload_n 0, 1) := dk_42 (dk_at dksX6_syntaxError_0 0 rfl rfl)
theorem dX6_syntaxError_1 : decode cX6_syntaxError 1 = .ok (.iload_n 1, 1) := dk_27 (dk_at dksX6_syntaxError_0 1 rfl rfl)
theorem dX6_syntaxError_2 : decode cX6_syntaxError 2 = .ok (.invokestatic 136, 3) := dk_184 0 136 (dk_at dksX6_syntaxError_0 2 rfl rfl)
theorem dX6_syntaxError_5 : decode cX6_syntaxError 5 = .ok (.ifCond .eq 7, 3) := dk_153 0 7 (dk_at dksX6_syntaxError_0 5 rfl rfl)
theorem dX6_syntaxError_8 : decode cX6_syntaxError 8 = .ok (.iconst 0, 1) := dk_3 (dk_at dksX6_syntaxError_0 8 rfl rfl)
theorem dX6_syntaxError_9 : decode cX6_syntaxError 9 = .ok (.goto 4, 3) := dk_167 0 4 (dk_at dksX6_syntaxError_0 9 rfl rfl)
theorem dX6_syntaxError_12 : decode cX6_syntaxError 12 = .ok (.iconst 1, 1) := dk_4 (dk_at dksX6_syntaxError_0 12 rfl rfl)
theorem dX6_syntaxError_13 : decode cX6_syntaxError 13 = .ok (.putfield 62, 3) := dk_181 0 62 (dk_at dksX6_syntaxError_0 13 rfl rfl)
theorem dX6_syntaxError_16 : decode cX6_syntaxError 16 = .ok (.aload_n 0, 1) := dk_42 (dk_at dksX6_syntaxError_0 16 rfl rfl)
theorem dX6_syntaxError_17 : decode cX6_syntaxError 17 = .ok (.getfield 62, 3) := dk_180 0 62 (dk_at dksX6_syntaxError_0 17 rfl rfl)
theorem dX6_syntaxError_20 : decode cX6_syntaxError 20 = .ok (.ifCond .le 5, 3) := dk_158 0 5 (dk_at dksX6_syntaxError_0 20 rfl rfl)
theorem dX6_syntaxError_23 : decode cX6_syntaxError 23 = .ok (.iconst 0, 1) := dk_3 (dk_at dksX6_syntaxError_0 23 rfl rfl)
theorem dX6_syntaxError_24 : decode cX6_syntaxError 24 = .ok (.ireturn, 1) := dk_172 (dk_at dksX6_syntaxError_1 0 rfl rfl)
theorem dX6_syntaxError_25 : decode cX6_syntaxError 25 = .ok (.aload_n 0, 1) := dk_42 (dk_at dksX6_syntaxError_1 1 rfl rfl)
theorem dX6_syntaxError_26 : decode cX6_syntaxError 26 = .ok (.iload_n 1, 1) := dk_27 (dk_at dksX6_syntaxError_1 2 rfl rfl)
theorem dX6_syntaxError_27 : decode cX6_syntaxError 27 = .ok (.aload_n 0, 1) := dk_42 (dk_at dksX6_syntaxError_1 3 rfl rfl)
theorem dX6_syntaxError_28 : decode cX6_syntaxError 28 = .ok (.iload_n 1, 1) := dk_27 (dk_at dksX6_syntaxError_1 4 rfl rfl)
theorem dX6_syntaxError_29 : decode cX6_syntaxError 29 = .ok (.invokevirtual 106, 3) := dk_182 0 106 (dk_at dksX6_syntaxError_1 5 rfl rfl)
theorem dX6_syntaxError_32 : decode cX6_syntaxError 32 = .ok (.invokevirtual 109, 3) := dk_182 0 109 (dk_at dksX6_syntaxError_1 8 rfl rfl)
theorem dX6_syntaxError_35 : decode cX6_syntaxError 35 = .ok (.istore_n 2, 1) := dk_61 (dk_at dksX6_syntaxError_1 11 rfl rfl)
theorem dX6_syntaxError_36 : decode cX6_syntaxError 36 = .ok (.iload_n 2, 1) := dk_28 (dk_at dksX6_syntaxError_1 12 rfl rfl)
theorem dX6_syntaxError_37 : decode cX6_syntaxError 37 = .ok (.iconst (-1), 1) := dk_2 (dk_at dksX6_syntaxError_1 13 rfl rfl)
theorem dX6_syntaxError_38 : decode cX6_syntaxError 38 = .ok (.if_icmp .eq 7, 3) := dk_159 0 7 (dk_at dksX6_syntaxError_1 14 rfl rfl)
theorem dX6_syntaxError_41 : decode cX6_syntaxError 41 = .ok (.iload_n 2, 1) := dk_28 (dk_at dksX6_syntaxError_1 17 rfl rfl)
theorem dX6_syntaxError_42 : decode cX6_syntaxError 42 = .ok (.goto 20, 3) := dk_167 0 20 (dk_at dksX6_syntaxError_1 18 rfl rfl)
theorem dX6_syntaxError_45 : decode cX6_syntaxError 45 = .ok (.aload_n 0, 1) := dk_42 (dk_at dksX6_syntaxError_1 21 rfl rfl)
theorem dX6_syntaxError_46 : decode cX6_syntaxError 46 = .ok (.iload_n 1, 1) := dk_27 (dk_at dksX6_syntaxError_1 22 rfl rfl)
theorem dX6_syntaxError_47 : decode cX6_syntaxError 47 = .ok (.invokevirtual 125, 3) := dk_182 0 125 (dk_at dksX6_syntaxError_2 0 rfl rfl)
theorem dX6_syntaxError_50 : decode cX6_syntaxError 50 = .ok (.ifCond .eq 7, 3) := dk_153 0 7 (dk_at dksX6_syntaxError_2 3 rfl rfl)
theorem dX6_syntaxError_53 : decode cX6_syntaxError 53 = .ok (.iconst (-1), 1) := dk_2 (dk_at dksX6_syntaxError_2 6 rfl rfl)
theorem dX6_syntaxError_54 : decode cX6_syntaxError 54 = .ok (.goto 8, 3) := dk_167 0 8 (dk_at dksX6_syntaxError_2 7 rfl rfl)
theorem dX6_syntaxError_57 : decode cX6_syntaxError 57 = .ok (.aload_n 0, 1) := dk_42 (dk_at dksX6_syntaxError_2 10 rfl rfl)
theorem dX6_syntaxError_58 : decode cX6_syntaxError 58 = .ok (.iload_n 1, 1) := dk_27 (dk_at dksX6_syntaxError_2 11 rfl rfl)
theorem dX6_syntaxError_59 : decode cX6_syntaxError 59 = .ok (.invokevirtual 106, 3) := dk_182 0 106 (dk_at dksX6_syntaxError_2 12 rfl rfl)
theorem dX6_syntaxError_62 : decode cX6_syntaxError 62 = .ok (.ireturn, 1) := dk_172 (dk_at dksX6_syntaxError_2 15 rfl rfl)
abbrev cX6_syntaxErrorByLoop : ByteArray := prog_23_method_52_code
def yX6_syntaxErrorByLoop : MethodName := ⟨RX6, "syntaxErrorByLoop", "(I)I"⟩
def dkwX6_syntaxErrorByLoop_0 : List UInt8 := [42, 27, 182, 0, 194, 172]
abbrev dktX6_syntaxErrorByLoop_0 : List UInt8 := dkwX6_syntaxErrorByLoop_0 ++ []
theorem dksX6_syntaxErrorByLoop_0 : cX6_syntaxErrorByLoop.data.toList.drop 0 = dktX6_syntaxErrorByLoop_0 := by decide +kernel
theorem dX6_syntaxErrorByLoop_0 : decode cX6_syntaxErrorByLoop 0 = .ok (.aload_n 0, 1) := dk_42 (dk_at dksX6_syntaxErrorByLoop_0 0 rfl rfl)
theorem dX6_syntaxErrorByLoop_1 : decode cX6_syntaxErrorByLoop 1 = .ok (.iload_n 1, 1) := dk_27 (dk_at dksX6_syntaxErrorByLoop_0 1 rfl rfl)
theorem dX6_syntaxErrorByLoop_2 : decode cX6_syntaxErrorByLoop 2 = .ok (.invokevirtual 194, 3) := dk_182 0 194 (dk_at dksX6_syntaxErrorByLoop_0 2 rfl rfl)
theorem dX6_syntaxErrorByLoop_5 : decode cX6_syntaxErrorByLoop 5 = .ok (.ireturn, 1) := dk_172 (dk_at dksX6_syntaxErrorByLoop_0 5 rfl rfl)
abbrev cX6_allowedKinds : ByteArray := prog_23_method_53_code
def yX6_allowedKinds : MethodName := ⟨RX6, "allowedKinds", "(I)I"⟩
def dkwX6_allowedKinds_3 : List UInt8 := [6, 167, 0, 22, 42, 180, 0, 95, 5, 160, 0, 10, 16, 21, 28, 96, 167, 0, 7, 16, 16, 28, 96, 172]
abbrev dktX6_allowedKinds_3 : List UInt8 := dkwX6_allowedKinds_3 ++ []
def dkwX6_allowedKinds_2 : List UInt8 := [167, 0, 4, 3, 61, 42, 180, 0, 95, 154, 0, 7, 4, 167, 0, 34, 42, 180, 0, 95, 4, 160, 0, 7]
abbrev dktX6_allowedKinds_2 : List UInt8 := dkwX6_allowedKinds_2 ++ dktX6_allowedKinds_3
def dkwX6_allowedKinds_1 : List UInt8 := [27, 42, 27, 182, 0, 106, 182, 0, 109, 2, 159, 0, 5, 3, 172, 42, 180, 0, 89, 158, 0, 8, 16, 8]
abbrev dktX6_allowedKinds_1 : List UInt8 := dkwX6_allowedKinds_1 ++ dktX6_allowedKinds_2
def dkwX6_allowedKinds_0 : List UInt8 := [42, 27, 184, 0, 136, 153, 0, 7, 3, 167, 0, 4, 4, 181, 0, 62, 42, 180, 0, 62, 157, 0, 17, 42]
abbrev dktX6_allowedKinds_0 : List UInt8 := dkwX6_allowedKinds_0 ++ dktX6_allowedKinds_1
theorem dksX6_allowedKinds_0 : cX6_allowedKinds.data.toList.drop 0 = dktX6_allowedKinds_0 := by decide +kernel
theorem dksX6_allowedKinds_1 : cX6_allowedKinds.data.toList.drop 24 = dktX6_allowedKinds_1 := dk_seg dksX6_allowedKinds_0 24 rfl rfl
theorem dksX6_allowedKinds_2 : cX6_allowedKinds.data.toList.drop 48 = dktX6_allowedKinds_2 := dk_seg dksX6_allowedKinds_1 24 rfl rfl
theorem dksX6_allowedKinds_3 : cX6_allowedKinds.data.toList.drop 72 = dktX6_allowedKinds_3 := dk_seg dksX6_allowedKinds_2 24 rfl rfl
theorem dX6_allowedKinds_0 : decode cX6_allowedKinds 0 = .ok (.aload_n 0, 1) := dk_42 (dk_at dksX6_allowedKinds_0 0 rfl rfl)
theorem dX6_allowedKinds_1 : decode cX6_allowedKinds 1 = .ok (.iload_n 1, 1) := dk_27 (dk_at dksX6_allowedKinds_0 1 rfl rfl)
theorem dX6_allowedKinds_2 : decode cX6_allowedKinds 2 = .ok (.invokestatic 136, 3) := dk_184 0 136 (dk_at dksX6_allowedKinds_0 2 rfl rfl)
theorem dX6_allowedKinds_5 : decode cX6_allowedKinds 5 = .ok (.ifCond .eq 7, 3) := dk_153 0 7 (dk_at dksX6_allowedKinds_0 5 rfl rfl)
theorem dX6_allowedKinds_8 : decode cX6_allowedKinds 8 = .ok (.iconst 0, 1) := dk_3 (dk_at dksX6_allowedKinds_0 8 rfl rfl)
theorem dX6_allowedKinds_9 : decode cX6_allowedKinds 9 = .ok (.goto 4, 3) := dk_167 0 4 (dk_at dksX6_allowedKinds_0 9 rfl rfl)
theorem dX6_allowedKinds_12 : decode cX6_allowedKinds 12 = .ok (.iconst 1, 1) := dk_4 (dk_at dksX6_allowedKinds_0 12 rfl rfl)
theorem dX6_allowedKinds_13 : decode cX6_allowedKinds 13 = .ok (.putfield 62, 3) := dk_181 0 62 (dk_at dksX6_allowedKinds_0 13 rfl rfl)
theorem dX6_allowedKinds_16 : decode cX6_allowedKinds 16 = .ok (.aload_n 0, 1) := dk_42 (dk_at dksX6_allowedKinds_0 16 rfl rfl)
theorem dX6_allowedKinds_17 : decode cX6_allowedKinds 17 = .ok (.getfield 62, 3) := dk_180 0 62 (dk_at dksX6_allowedKinds_0 17 rfl rfl)
theorem dX6_allowedKinds_20 : decode cX6_allowedKinds 20 = .ok (.ifCond .gt 17, 3) := dk_157 0 17 (dk_at dksX6_allowedKinds_0 20 rfl rfl)
theorem dX6_allowedKinds_23 : decode cX6_allowedKinds 23 = .ok (.aload_n 0, 1) := dk_42 (dk_at dksX6_allowedKinds_0 23 rfl rfl)
theorem dX6_allowedKinds_24 : decode cX6_allowedKinds 24 = .ok (.iload_n 1, 1) := dk_27 (dk_at dksX6_allowedKinds_1 0 rfl rfl)
theorem dX6_allowedKinds_25 : decode cX6_allowedKinds 25 = .ok (.aload_n 0, 1) := dk_42 (dk_at dksX6_allowedKinds_1 1 rfl rfl)
theorem dX6_allowedKinds_26 : decode cX6_allowedKinds 26 = .ok (.iload_n 1, 1) := dk_27 (dk_at dksX6_allowedKinds_1 2 rfl rfl)
theorem dX6_allowedKinds_27 : decode cX6_allowedKinds 27 = .ok (.invokevirtual 106, 3) := dk_182 0 106 (dk_at dksX6_allowedKinds_1 3 rfl rfl)
theorem dX6_allowedKinds_30 : decode cX6_allowedKinds 30 = .ok (.invokevirtual 109, 3) := dk_182 0 109 (dk_at dksX6_allowedKinds_1 6 rfl rfl)
theorem dX6_allowedKinds_33 : decode cX6_allowedKinds 33 = .ok (.iconst (-1), 1) := dk_2 (dk_at dksX6_allowedKinds_1 9 rfl rfl)
theorem dX6_allowedKinds_34 : decode cX6_allowedKinds 34 = .ok (.if_icmp .eq 5, 3) := dk_159 0 5 (dk_at dksX6_allowedKinds_1 10 rfl rfl)
theorem dX6_allowedKinds_37 : decode cX6_allowedKinds 37 = .ok (.iconst 0, 1) := dk_3 (dk_at dksX6_allowedKinds_1 13 rfl rfl)
theorem dX6_allowedKinds_38 : decode cX6_allowedKinds 38 = .ok (.ireturn, 1) := dk_172 (dk_at dksX6_allowedKinds_1 14 rfl rfl)
theorem dX6_allowedKinds_39 : decode cX6_allowedKinds 39 = .ok (.aload_n 0, 1) := dk_42 (dk_at dksX6_allowedKinds_1 15 rfl rfl)
theorem dX6_allowedKinds_40 : decode cX6_allowedKinds 40 = .ok (.getfield 89, 3) := dk_180 0 89 (dk_at dksX6_allowedKinds_1 16 rfl rfl)
theorem dX6_allowedKinds_43 : decode cX6_allowedKinds 43 = .ok (.ifCond .le 8, 3) := dk_158 0 8 (dk_at dksX6_allowedKinds_1 19 rfl rfl)
theorem dX6_allowedKinds_46 : decode cX6_allowedKinds 46 = .ok (.bipush 8, 2) := dk_16 8 (dk_at dksX6_allowedKinds_1 22 rfl rfl)
theorem dX6_allowedKinds_48 : decode cX6_allowedKinds 48 = .ok (.goto 4, 3) := dk_167 0 4 (dk_at dksX6_allowedKinds_2 0 rfl rfl)
theorem dX6_allowedKinds_51 : decode cX6_allowedKinds 51 = .ok (.iconst 0, 1) := dk_3 (dk_at dksX6_allowedKinds_2 3 rfl rfl)
theorem dX6_allowedKinds_52 : decode cX6_allowedKinds 52 = .ok (.istore_n 2, 1) := dk_61 (dk_at dksX6_allowedKinds_2 4 rfl rfl)
theorem dX6_allowedKinds_53 : decode cX6_allowedKinds 53 = .ok (.aload_n 0, 1) := dk_42 (dk_at dksX6_allowedKinds_2 5 rfl rfl)
theorem dX6_allowedKinds_54 : decode cX6_allowedKinds 54 = .ok (.getfield 95, 3) := dk_180 0 95 (dk_at dksX6_allowedKinds_2 6 rfl rfl)
theorem dX6_allowedKinds_57 : decode cX6_allowedKinds 57 = .ok (.ifCond .ne 7, 3) := dk_154 0 7 (dk_at dksX6_allowedKinds_2 9 rfl rfl)
theorem dX6_allowedKinds_60 : decode cX6_allowedKinds 60 = .ok (.iconst 1, 1) := dk_4 (dk_at dksX6_allowedKinds_2 12 rfl rfl)
theorem dX6_allowedKinds_61 : decode cX6_allowedKinds 61 = .ok (.goto 34, 3) := dk_167 0 34 (dk_at dksX6_allowedKinds_2 13 rfl rfl)
theorem dX6_allowedKinds_64 : decode cX6_allowedKinds 64 = .ok (.aload_n 0, 1) := dk_42 (dk_at dksX6_allowedKinds_2 16 rfl rfl)
theorem dX6_allowedKinds_65 : decode cX6_allowedKinds 65 = .ok (.getfield 95, 3) := dk_180 0 95 (dk_at dksX6_allowedKinds_2 17 rfl rfl)
theorem dX6_allowedKinds_68 : decode cX6_allowedKinds 68 = .ok (.iconst 1, 1) := dk_4 (dk_at dksX6_allowedKinds_2 20 rfl rfl)
theorem dX6_allowedKinds_69 : decode cX6_allowedKinds 69 = .ok (.if_icmp .ne 7, 3) := dk_160 0 7 (dk_at dksX6_allowedKinds_2 21 rfl rfl)
theorem dX6_allowedKinds_72 : decode cX6_allowedKinds 72 = .ok (.iconst 3, 1) := dk_6 (dk_at dksX6_allowedKinds_3 0 rfl rfl)
theorem dX6_allowedKinds_73 : decode cX6_allowedKinds 73 = .ok (.goto 22, 3) := dk_167 0 22 (dk_at dksX6_allowedKinds_3 1 rfl rfl)
theorem dX6_allowedKinds_76 : decode cX6_allowedKinds 76 = .ok (.aload_n 0, 1) := dk_42 (dk_at dksX6_allowedKinds_3 4 rfl rfl)
theorem dX6_allowedKinds_77 : decode cX6_allowedKinds 77 = .ok (.getfield 95, 3) := dk_180 0 95 (dk_at dksX6_allowedKinds_3 5 rfl rfl)
theorem dX6_allowedKinds_80 : decode cX6_allowedKinds 80 = .ok (.iconst 2, 1) := dk_5 (dk_at dksX6_allowedKinds_3 8 rfl rfl)
theorem dX6_allowedKinds_81 : decode cX6_allowedKinds 81 = .ok (.if_icmp .ne 10, 3) := dk_160 0 10 (dk_at dksX6_allowedKinds_3 9 rfl rfl)
theorem dX6_allowedKinds_84 : decode cX6_allowedKinds 84 = .ok (.bipush 21, 2) := dk_16 21 (dk_at dksX6_allowedKinds_3 12 rfl rfl)
theorem dX6_allowedKinds_86 : decode cX6_allowedKinds 86 = .ok (.iload_n 2, 1) := dk_28 (dk_at dksX6_allowedKinds_3 14 rfl rfl)
theorem dX6_allowedKinds_87 : decode cX6_allowedKinds 87 = .ok (.iadd, 1) := dk_96 (dk_at dksX6_allowedKinds_3 15 rfl rfl)
theorem dX6_allowedKinds_88 : decode cX6_allowedKinds 88 = .ok (.goto 7, 3) := dk_167 0 7 (dk_at dksX6_allowedKinds_3 16 rfl rfl)
theorem dX6_allowedKinds_91 : decode cX6_allowedKinds 91 = .ok (.bipush 16, 2) := dk_16 16 (dk_at dksX6_allowedKinds_3 19 rfl rfl)
theorem dX6_allowedKinds_93 : decode cX6_allowedKinds 93 = .ok (.iload_n 2, 1) := dk_28 (dk_at dksX6_allowedKinds_3 21 rfl rfl)
theorem dX6_allowedKinds_94 : decode cX6_allowedKinds 94 = .ok (.iadd, 1) := dk_96 (dk_at dksX6_allowedKinds_3 22 rfl rfl)
theorem dX6_allowedKinds_95 : decode cX6_allowedKinds 95 = .ok (.ireturn, 1) := dk_172 (dk_at dksX6_allowedKinds_3 23 rfl rfl)
abbrev cX6_excessTokens : ByteArray := prog_23_method_54_code
def yX6_excessTokens : MethodName := ⟨RX6, "excessTokens", "(I)I"⟩
def dkwX6_excessTokens_3 : List UInt8 := [132, 2, 255, 167, 255, 216, 42, 5, 182, 0, 75, 172]
abbrev dktX6_excessTokens_3 : List UInt8 := dkwX6_excessTokens_3 ++ []
def dkwX6_excessTokens_2 : List UInt8 := [180, 0, 95, 5, 161, 0, 18, 42, 180, 0, 89, 154, 0, 11, 42, 27, 182, 0, 106, 28, 100, 172]
abbrev dktX6_excessTokens_2 : List UInt8 := dkwX6_excessTokens_2 ++ dktX6_excessTokens_3
def dkwX6_excessTokens_1 : List UInt8 := [172, 42, 27, 182, 0, 106, 61, 28, 158, 0, 42, 42, 27, 28, 182, 0, 109, 2, 160, 0, 26, 42]
abbrev dktX6_excessTokens_1 : List UInt8 := dkwX6_excessTokens_1 ++ dktX6_excessTokens_2
def dkwX6_excessTokens_0 : List UInt8 := [42, 27, 184, 0, 136, 153, 0, 7, 3, 167, 0, 4, 4, 181, 0, 62, 42, 180, 0, 62, 158, 0, 5, 3]
abbrev dktX6_excessTokens_0 : List UInt8 := dkwX6_excessTokens_0 ++ dktX6_excessTokens_1
theorem dksX6_excessTokens_0 : cX6_excessTokens.data.toList.drop 0 = dktX6_excessTokens_0 := by decide +kernel
theorem dksX6_excessTokens_1 : cX6_excessTokens.data.toList.drop 24 = dktX6_excessTokens_1 := dk_seg dksX6_excessTokens_0 24 rfl rfl
theorem dksX6_excessTokens_2 : cX6_excessTokens.data.toList.drop 46 = dktX6_excessTokens_2 := dk_seg dksX6_excessTokens_1 22 rfl rfl
theorem dksX6_excessTokens_3 : cX6_excessTokens.data.toList.drop 68 = dktX6_excessTokens_3 := dk_seg dksX6_excessTokens_2 22 rfl rfl
theorem dX6_excessTokens_0 : decode cX6_excessTokens 0 = .ok (.aload_n 0, 1) := dk_42 (dk_at dksX6_excessTokens_0 0 rfl rfl)
theorem dX6_excessTokens_1 : decode cX6_excessTokens 1 = .ok (.iload_n 1, 1) := dk_27 (dk_at dksX6_excessTokens_0 1 rfl rfl)
theorem dX6_excessTokens_2 : decode cX6_excessTokens 2 = .ok (.invokestatic 136, 3) := dk_184 0 136 (dk_at dksX6_excessTokens_0 2 rfl rfl)
theorem dX6_excessTokens_5 : decode cX6_excessTokens 5 = .ok (.ifCond .eq 7, 3) := dk_153 0 7 (dk_at dksX6_excessTokens_0 5 rfl rfl)
theorem dX6_excessTokens_8 : decode cX6_excessTokens 8 = .ok (.iconst 0, 1) := dk_3 (dk_at dksX6_excessTokens_0 8 rfl rfl)
theorem dX6_excessTokens_9 : decode cX6_excessTokens 9 = .ok (.goto 4, 3) := dk_167 0 4 (dk_at dksX6_excessTokens_0 9 rfl rfl)
theorem dX6_excessTokens_12 : decode cX6_excessTokens 12 = .ok (.iconst 1, 1) := dk_4 (dk_at dksX6_excessTokens_0 12 rfl rfl)
theorem dX6_excessTokens_13 : decode cX6_excessTokens 13 = .ok (.putfield 62, 3) := dk_181 0 62 (dk_at dksX6_excessTokens_0 13 rfl rfl)
theorem dX6_excessTokens_16 : decode cX6_excessTokens 16 = .ok (.aload_n 0, 1) := dk_42 (dk_at dksX6_excessTokens_0 16 rfl rfl)
theorem dX6_excessTokens_17 : decode cX6_excessTokens 17 = .ok (.getfield 62, 3) := dk_180 0 62 (dk_at dksX6_excessTokens_0 17 rfl rfl)
theorem dX6_excessTokens_20 : decode cX6_excessTokens 20 = .ok (.ifCond .le 5, 3) := dk_158 0 5 (dk_at dksX6_excessTokens_0 20 rfl rfl)
theorem dX6_excessTokens_23 : decode cX6_excessTokens 23 = .ok (.iconst 0, 1) := dk_3 (dk_at dksX6_excessTokens_0 23 rfl rfl)
theorem dX6_excessTokens_24 : decode cX6_excessTokens 24 = .ok (.ireturn, 1) := dk_172 (dk_at dksX6_excessTokens_1 0 rfl rfl)
theorem dX6_excessTokens_25 : decode cX6_excessTokens 25 = .ok (.aload_n 0, 1) := dk_42 (dk_at dksX6_excessTokens_1 1 rfl rfl)
theorem dX6_excessTokens_26 : decode cX6_excessTokens 26 = .ok (.iload_n 1, 1) := dk_27 (dk_at dksX6_excessTokens_1 2 rfl rfl)
theorem dX6_excessTokens_27 : decode cX6_excessTokens 27 = .ok (.invokevirtual 106, 3) := dk_182 0 106 (dk_at dksX6_excessTokens_1 3 rfl rfl)
theorem dX6_excessTokens_30 : decode cX6_excessTokens 30 = .ok (.istore_n 2, 1) := dk_61 (dk_at dksX6_excessTokens_1 6 rfl rfl)
theorem dX6_excessTokens_31 : decode cX6_excessTokens 31 = .ok (.iload_n 2, 1) := dk_28 (dk_at dksX6_excessTokens_1 7 rfl rfl)
theorem dX6_excessTokens_32 : decode cX6_excessTokens 32 = .ok (.ifCond .le 42, 3) := dk_158 0 42 (dk_at dksX6_excessTokens_1 8 rfl rfl)
theorem dX6_excessTokens_35 : decode cX6_excessTokens 35 = .ok (.aload_n 0, 1) := dk_42 (dk_at dksX6_excessTokens_1 11 rfl rfl)
theorem dX6_excessTokens_36 : decode cX6_excessTokens 36 = .ok (.iload_n 1, 1) := dk_27 (dk_at dksX6_excessTokens_1 12 rfl rfl)
theorem dX6_excessTokens_37 : decode cX6_excessTokens 37 = .ok (.iload_n 2, 1) := dk_28 (dk_at dksX6_excessTokens_1 13 rfl rfl)
theorem dX6_excessTokens_38 : decode cX6_excessTokens 38 = .ok (.invokevirtual 109, 3) := dk_182 0 109 (dk_at dksX6_excessTokens_1 14 rfl rfl)
theorem dX6_excessTokens_41 : decode cX6_excessTokens 41 = .ok (.iconst (-1), 1) := dk_2 (dk_at dksX6_excessTokens_1 17 rfl rfl)
theorem dX6_excessTokens_42 : decode cX6_excessTokens 42 = .ok (.if_icmp .ne 26, 3) := dk_160 0 26 (dk_at dksX6_excessTokens_1 18 rfl rfl)
theorem dX6_excessTokens_45 : decode cX6_excessTokens 45 = .ok (.aload_n 0, 1) := dk_42 (dk_at dksX6_excessTokens_1 21 rfl rfl)
theorem dX6_excessTokens_46 : decode cX6_excessTokens 46 = .ok (.getfield 95, 3) := dk_180 0 95 (dk_at dksX6_excessTokens_2 0 rfl rfl)
theorem dX6_excessTokens_49 : decode cX6_excessTokens 49 = .ok (.iconst 2, 1) := dk_5 (dk_at dksX6_excessTokens_2 3 rfl rfl)
theorem dX6_excessTokens_50 : decode cX6_excessTokens 50 = .ok (.if_icmp .lt 18, 3) := dk_161 0 18 (dk_at dksX6_excessTokens_2 4 rfl rfl)
theorem dX6_excessTokens_53 : decode cX6_excessTokens 53 = .ok (.aload_n 0, 1) := dk_42 (dk_at dksX6_excessTokens_2 7 rfl rfl)
theorem dX6_excessTokens_54 : decode cX6_excessTokens 54 = .ok (.getfield 89, 3) := dk_180 0 89 (dk_at dksX6_excessTokens_2 8 rfl rfl)
theorem dX6_excessTokens_57 : decode cX6_excessTokens 57 = .ok (.ifCond .ne 11, 3) := dk_154 0 11 (dk_at dksX6_excessTokens_2 11 rfl rfl)
theorem dX6_excessTokens_60 : decode cX6_excessTokens 60 = .ok (.aload_n 0, 1) := dk_42 (dk_at dksX6_excessTokens_2 14 rfl rfl)
theorem dX6_excessTokens_61 : decode cX6_excessTokens 61 = .ok (.iload_n 1, 1) := dk_27 (dk_at dksX6_excessTokens_2 15 rfl rfl)
theorem dX6_excessTokens_62 : decode cX6_excessTokens 62 = .ok (.invokevirtual 106, 3) := dk_182 0 106 (dk_at dksX6_excessTokens_2 16 rfl rfl)
theorem dX6_excessTokens_65 : decode cX6_excessTokens 65 = .ok (.iload_n 2, 1) := dk_28 (dk_at dksX6_excessTokens_2 19 rfl rfl)
theorem dX6_excessTokens_66 : decode cX6_excessTokens 66 = .ok (.isub, 1) := dk_100 (dk_at dksX6_excessTokens_2 20 rfl rfl)
theorem dX6_excessTokens_67 : decode cX6_excessTokens 67 = .ok (.ireturn, 1) := dk_172 (dk_at dksX6_excessTokens_2 21 rfl rfl)
theorem dX6_excessTokens_68 : decode cX6_excessTokens 68 = .ok (.iinc 2 (-1), 3) := dk_132 2 255 (dk_at dksX6_excessTokens_3 0 rfl rfl)
theorem dX6_excessTokens_71 : decode cX6_excessTokens 71 = .ok (.goto (-40), 3) := dk_167 255 216 (dk_at dksX6_excessTokens_3 3 rfl rfl)
theorem dX6_excessTokens_74 : decode cX6_excessTokens 74 = .ok (.aload_n 0, 1) := dk_42 (dk_at dksX6_excessTokens_3 6 rfl rfl)
theorem dX6_excessTokens_75 : decode cX6_excessTokens 75 = .ok (.iconst 2, 1) := dk_5 (dk_at dksX6_excessTokens_3 7 rfl rfl)
theorem dX6_excessTokens_76 : decode cX6_excessTokens 76 = .ok (.invokevirtual 75, 3) := dk_182 0 75 (dk_at dksX6_excessTokens_3 8 rfl rfl)
theorem dX6_excessTokens_79 : decode cX6_excessTokens 79 = .ok (.ireturn, 1) := dk_172 (dk_at dksX6_excessTokens_3 11 rfl rfl)
abbrev cX6_clauseCount : ByteArray := prog_23_method_55_code
def yX6_clauseCount : MethodName := ⟨RX6, "clauseCount", "(I)I"⟩
def dkwX6_clauseCount_1 : List UInt8 := [27, 182, 0, 125, 154, 0, 7, 3, 167, 0, 7, 42, 180, 0, 86, 172]
abbrev dktX6_clauseCount_1 : List UInt8 := dkwX6_clauseCount_1 ++ []
def dkwX6_clauseCount_0 : List UInt8 := [42, 27, 184, 0, 136, 153, 0, 7, 3, 167, 0, 4, 4, 181, 0, 62, 42, 180, 0, 62, 157, 0, 11, 42]
abbrev dktX6_clauseCount_0 : List UInt8 := dkwX6_clauseCount_0 ++ dktX6_clauseCount_1
theorem dksX6_clauseCount_0 : cX6_clauseCount.data.toList.drop 0 = dktX6_clauseCount_0 := by decide +kernel
theorem dksX6_clauseCount_1 : cX6_clauseCount.data.toList.drop 24 = dktX6_clauseCount_1 := dk_seg dksX6_clauseCount_0 24 rfl rfl
theorem dX6_clauseCount_0 : decode cX6_clauseCount 0 = .ok (.aload_n 0, 1) := dk_42 (dk_at dksX6_clauseCount_0 0 rfl rfl)
theorem dX6_clauseCount_1 : decode cX6_clauseCount 1 = .ok (.iload_n 1, 1) := dk_27 (dk_at dksX6_clauseCount_0 1 rfl rfl)
theorem dX6_clauseCount_2 : decode cX6_clauseCount 2 = .ok (.invokestatic 136, 3) := dk_184 0 136 (dk_at dksX6_clauseCount_0 2 rfl rfl)
theorem dX6_clauseCount_5 : decode cX6_clauseCount 5 = .ok (.ifCond .eq 7, 3) := dk_153 0 7 (dk_at dksX6_clauseCount_0 5 rfl rfl)
theorem dX6_clauseCount_8 : decode cX6_clauseCount 8 = .ok (.iconst 0, 1) := dk_3 (dk_at dksX6_clauseCount_0 8 rfl rfl)
theorem dX6_clauseCount_9 : decode cX6_clauseCount 9 = .ok (.goto 4, 3) := dk_167 0 4 (dk_at dksX6_clauseCount_0 9 rfl rfl)
theorem dX6_clauseCount_12 : decode cX6_clauseCount 12 = .ok (.iconst 1, 1) := dk_4 (dk_at dksX6_clauseCount_0 12 rfl rfl)
theorem dX6_clauseCount_13 : decode cX6_clauseCount 13 = .ok (.putfield 62, 3) := dk_181 0 62 (dk_at dksX6_clauseCount_0 13 rfl rfl)
theorem dX6_clauseCount_16 : decode cX6_clauseCount 16 = .ok (.aload_n 0, 1) := dk_42 (dk_at dksX6_clauseCount_0 16 rfl rfl)
theorem dX6_clauseCount_17 : decode cX6_clauseCount 17 = .ok (.getfield 62, 3) := dk_180 0 62 (dk_at dksX6_clauseCount_0 17 rfl rfl)
theorem dX6_clauseCount_20 : decode cX6_clauseCount 20 = .ok (.ifCond .gt 11, 3) := dk_157 0 11 (dk_at dksX6_clauseCount_0 20 rfl rfl)
theorem dX6_clauseCount_23 : decode cX6_clauseCount 23 = .ok (.aload_n 0, 1) := dk_42 (dk_at dksX6_clauseCount_0 23 rfl rfl)
theorem dX6_clauseCount_24 : decode cX6_clauseCount 24 = .ok (.iload_n 1, 1) := dk_27 (dk_at dksX6_clauseCount_1 0 rfl rfl)
theorem dX6_clauseCount_25 : decode cX6_clauseCount 25 = .ok (.invokevirtual 125, 3) := dk_182 0 125 (dk_at dksX6_clauseCount_1 1 rfl rfl)
theorem dX6_clauseCount_28 : decode cX6_clauseCount 28 = .ok (.ifCond .ne 7, 3) := dk_154 0 7 (dk_at dksX6_clauseCount_1 4 rfl rfl)
theorem dX6_clauseCount_31 : decode cX6_clauseCount 31 = .ok (.iconst 0, 1) := dk_3 (dk_at dksX6_clauseCount_1 7 rfl rfl)
theorem dX6_clauseCount_32 : decode cX6_clauseCount 32 = .ok (.goto 7, 3) := dk_167 0 7 (dk_at dksX6_clauseCount_1 8 rfl rfl)
theorem dX6_clauseCount_35 : decode cX6_clauseCount 35 = .ok (.aload_n 0, 1) := dk_42 (dk_at dksX6_clauseCount_1 11 rfl rfl)
theorem dX6_clauseCount_36 : decode cX6_clauseCount 36 = .ok (.getfield 86, 3) := dk_180 0 86 (dk_at dksX6_clauseCount_1 12 rfl rfl)
theorem dX6_clauseCount_39 : decode cX6_clauseCount 39 = .ok (.ireturn, 1) := dk_172 (dk_at dksX6_clauseCount_1 15 rfl rfl)
abbrev cX6_depth : ByteArray := prog_23_method_56_code
def yX6_depth : MethodName := ⟨RX6, "depth", "(I)I"⟩
def dkwX6_depth_1 : List UInt8 := [5, 181, 0, 62, 42, 180, 0, 62, 158, 0, 7, 3, 167, 0, 7, 42, 180, 0, 92, 172]
abbrev dktX6_depth_1 : List UInt8 := dkwX6_depth_1 ++ []
def dkwX6_depth_0 : List UInt8 := [42, 27, 184, 0, 136, 154, 0, 7, 4, 167, 0, 16, 42, 27, 182, 0, 125, 153, 0, 7, 3, 167, 0, 4]
abbrev dktX6_depth_0 : List UInt8 := dkwX6_depth_0 ++ dktX6_depth_1
theorem dksX6_depth_0 : cX6_depth.data.toList.drop 0 = dktX6_depth_0 := by decide +kernel
theorem dksX6_depth_1 : cX6_depth.data.toList.drop 24 = dktX6_depth_1 := dk_seg dksX6_depth_0 24 rfl rfl
theorem dX6_depth_0 : decode cX6_depth 0 = .ok (.aload_n 0, 1) := dk_42 (dk_at dksX6_depth_0 0 rfl rfl)
theorem dX6_depth_1 : decode cX6_depth 1 = .ok (.iload_n 1, 1) := dk_27 (dk_at dksX6_depth_0 1 rfl rfl)
theorem dX6_depth_2 : decode cX6_depth 2 = .ok (.invokestatic 136, 3) := dk_184 0 136 (dk_at dksX6_depth_0 2 rfl rfl)
theorem dX6_depth_5 : decode cX6_depth 5 = .ok (.ifCond .ne 7, 3) := dk_154 0 7 (dk_at dksX6_depth_0 5 rfl rfl)
theorem dX6_depth_8 : decode cX6_depth 8 = .ok (.iconst 1, 1) := dk_4 (dk_at dksX6_depth_0 8 rfl rfl)
theorem dX6_depth_9 : decode cX6_depth 9 = .ok (.goto 16, 3) := dk_167 0 16 (dk_at dksX6_depth_0 9 rfl rfl)
theorem dX6_depth_12 : decode cX6_depth 12 = .ok (.aload_n 0, 1) := dk_42 (dk_at dksX6_depth_0 12 rfl rfl)
theorem dX6_depth_13 : decode cX6_depth 13 = .ok (.iload_n 1, 1) := dk_27 (dk_at dksX6_depth_0 13 rfl rfl)
theorem dX6_depth_14 : decode cX6_depth 14 = .ok (.invokevirtual 125, 3) := dk_182 0 125 (dk_at dksX6_depth_0 14 rfl rfl)
theorem dX6_depth_17 : decode cX6_depth 17 = .ok (.ifCond .eq 7, 3) := dk_153 0 7 (dk_at dksX6_depth_0 17 rfl rfl)
theorem dX6_depth_20 : decode cX6_depth 20 = .ok (.iconst 0, 1) := dk_3 (dk_at dksX6_depth_0 20 rfl rfl)
theorem dX6_depth_21 : decode cX6_depth 21 = .ok (.goto 4, 3) := dk_167 0 4 (dk_at dksX6_depth_0 21 rfl rfl)
theorem dX6_depth_24 : decode cX6_depth 24 = .ok (.iconst 2, 1) := dk_5 (dk_at dksX6_depth_1 0 rfl rfl)
theorem dX6_depth_25 : decode cX6_depth 25 = .ok (.putfield 62, 3) := dk_181 0 62 (dk_at dksX6_depth_1 1 rfl rfl)
theorem dX6_depth_28 : decode cX6_depth 28 = .ok (.aload_n 0, 1) := dk_42 (dk_at dksX6_depth_1 4 rfl rfl)
theorem dX6_depth_29 : decode cX6_depth 29 = .ok (.getfield 62, 3) := dk_180 0 62 (dk_at dksX6_depth_1 5 rfl rfl)
theorem dX6_depth_32 : decode cX6_depth 32 = .ok (.ifCond .le 7, 3) := dk_158 0 7 (dk_at dksX6_depth_1 8 rfl rfl)
theorem dX6_depth_35 : decode cX6_depth 35 = .ok (.iconst 0, 1) := dk_3 (dk_at dksX6_depth_1 11 rfl rfl)
theorem dX6_depth_36 : decode cX6_depth 36 = .ok (.goto 7, 3) := dk_167 0 7 (dk_at dksX6_depth_1 12 rfl rfl)
theorem dX6_depth_39 : decode cX6_depth 39 = .ok (.aload_n 0, 1) := dk_42 (dk_at dksX6_depth_1 15 rfl rfl)
theorem dX6_depth_40 : decode cX6_depth 40 = .ok (.getfield 92, 3) := dk_180 0 92 (dk_at dksX6_depth_1 16 rfl rfl)
theorem dX6_depth_43 : decode cX6_depth 43 = .ok (.ireturn, 1) := dk_172 (dk_at dksX6_depth_1 19 rfl rfl)
abbrev cX6_subjectCount : ByteArray := prog_23_method_58_code
def yX6_subjectCount : MethodName := ⟨RX6, "subjectCount", "(II)I"⟩
def dkwX6_subjectCount_0 : List UInt8 := [42, 27, 28, 182, 0, 197, 153, 0, 12, 42, 180, 0, 44, 28, 46, 167, 0, 4, 3, 172]
abbrev dktX6_subjectCount_0 : List UInt8 := dkwX6_subjectCount_0 ++ []
theorem dksX6_subjectCount_0 : cX6_subjectCount.data.toList.drop 0 = dktX6_subjectCount_0 := by decide +kernel
theorem dX6_subjectCount_0 : decode cX6_subjectCount 0 = .ok (.aload_n 0, 1) := dk_42 (dk_at dksX6_subjectCount_0 0 rfl rfl)
theorem dX6_subjectCount_1 : decode cX6_subjectCount 1 = .ok (.iload_n 1, 1) := dk_27 (dk_at dksX6_subjectCount_0 1 rfl rfl)
theorem dX6_subjectCount_2 : decode cX6_subjectCount 2 = .ok (.iload_n 2, 1) := dk_28 (dk_at dksX6_subjectCount_0 2 rfl rfl)
theorem dX6_subjectCount_3 : decode cX6_subjectCount 3 = .ok (.invokevirtual 197, 3) := dk_182 0 197 (dk_at dksX6_subjectCount_0 3 rfl rfl)
theorem dX6_subjectCount_6 : decode cX6_subjectCount 6 = .ok (.ifCond .eq 12, 3) := dk_153 0 12 (dk_at dksX6_subjectCount_0 6 rfl rfl)
theorem dX6_subjectCount_9 : decode cX6_subjectCount 9 = .ok (.aload_n 0, 1) := dk_42 (dk_at dksX6_subjectCount_0 9 rfl rfl)
theorem dX6_subjectCount_10 : decode cX6_subjectCount 10 = .ok (.getfield 44, 3) := dk_180 0 44 (dk_at dksX6_subjectCount_0 10 rfl rfl)
theorem dX6_subjectCount_13 : decode cX6_subjectCount 13 = .ok (.iload_n 2, 1) := dk_28 (dk_at dksX6_subjectCount_0 13 rfl rfl)
theorem dX6_subjectCount_14 : decode cX6_subjectCount 14 = .ok (.iaload, 1) := dk_46 (dk_at dksX6_subjectCount_0 14 rfl rfl)
theorem dX6_subjectCount_15 : decode cX6_subjectCount 15 = .ok (.goto 4, 3) := dk_167 0 4 (dk_at dksX6_subjectCount_0 15 rfl rfl)
theorem dX6_subjectCount_18 : decode cX6_subjectCount 18 = .ok (.iconst 0, 1) := dk_3 (dk_at dksX6_subjectCount_0 18 rfl rfl)
theorem dX6_subjectCount_19 : decode cX6_subjectCount 19 = .ok (.ireturn, 1) := dk_172 (dk_at dksX6_subjectCount_0 19 rfl rfl)
abbrev cX6_isClause : ByteArray := prog_23_method_57_code
def yX6_isClause : MethodName := ⟨RX6, "isClause", "(II)Z"⟩
def dkwX6_isClause_2 : List UInt8 := [154, 0, 7, 4, 167, 0, 4, 3, 172]
abbrev dktX6_isClause_2 : List UInt8 := dkwX6_isClause_2 ++ []
def dkwX6_isClause_1 : List UInt8 := [180, 0, 86, 4, 100, 184, 0, 78, 153, 0, 7, 3, 167, 0, 4, 5, 181, 0, 62, 42, 180, 0, 62]
abbrev dktX6_isClause_1 : List UInt8 := dkwX6_isClause_1 ++ dktX6_isClause_2
def dkwX6_isClause_0 : List UInt8 := [42, 27, 184, 0, 136, 154, 0, 7, 4, 167, 0, 30, 42, 27, 182, 0, 125, 153, 0, 21, 28, 3, 42]
abbrev dktX6_isClause_0 : List UInt8 := dkwX6_isClause_0 ++ dktX6_isClause_1
theorem dksX6_isClause_0 : cX6_isClause.data.toList.drop 0 = dktX6_isClause_0 := by decide +kernel
theorem dksX6_isClause_1 : cX6_isClause.data.toList.drop 23 = dktX6_isClause_1 := dk_seg dksX6_isClause_0 23 rfl rfl
theorem dksX6_isClause_2 : cX6_isClause.data.toList.drop 46 = dktX6_isClause_2 := dk_seg dksX6_isClause_1 23 rfl rfl
theorem dX6_isClause_0 : decode cX6_isClause 0 = .ok (.aload_n 0, 1) := dk_42 (dk_at dksX6_isClause_0 0 rfl rfl)
theorem dX6_isClause_1 : decode cX6_isClause 1 = .ok (.iload_n 1, 1) := dk_27 (dk_at dksX6_isClause_0 1 rfl rfl)
theorem dX6_isClause_2 : decode cX6_isClause 2 = .ok (.invokestatic 136, 3) := dk_184 0 136 (dk_at dksX6_isClause_0 2 rfl rfl)
theorem dX6_isClause_5 : decode cX6_isClause 5 = .ok (.ifCond .ne 7, 3) := dk_154 0 7 (dk_at dksX6_isClause_0 5 rfl rfl)
theorem dX6_isClause_8 : decode cX6_isClause 8 = .ok (.iconst 1, 1) := dk_4 (dk_at dksX6_isClause_0 8 rfl rfl)
theorem dX6_isClause_9 : decode cX6_isClause 9 = .ok (.goto 30, 3) := dk_167 0 30 (dk_at dksX6_isClause_0 9 rfl rfl)
theorem dX6_isClause_12 : decode cX6_isClause 12 = .ok (.aload_n 0, 1) := dk_42 (dk_at dksX6_isClause_0 12 rfl rfl)
theorem dX6_isClause_13 : decode cX6_isClause 13 = .ok (.iload_n 1, 1) := dk_27 (dk_at dksX6_isClause_0 13 rfl rfl)
theorem dX6_isClause_14 : decode cX6_isClause 14 = .ok (.invokevirtual 125, 3) := dk_182 0 125 (dk_at dksX6_isClause_0 14 rfl rfl)
theorem dX6_isClause_17 : decode cX6_isClause 17 = .ok (.ifCond .eq 21, 3) := dk_153 0 21 (dk_at dksX6_isClause_0 17 rfl rfl)
theorem dX6_isClause_20 : decode cX6_isClause 20 = .ok (.iload_n 2, 1) := dk_28 (dk_at dksX6_isClause_0 20 rfl rfl)
theorem dX6_isClause_21 : decode cX6_isClause 21 = .ok (.iconst 0, 1) := dk_3 (dk_at dksX6_isClause_0 21 rfl rfl)
theorem dX6_isClause_22 : decode cX6_isClause 22 = .ok (.aload_n 0, 1) := dk_42 (dk_at dksX6_isClause_0 22 rfl rfl)
theorem dX6_isClause_23 : decode cX6_isClause 23 = .ok (.getfield 86, 3) := dk_180 0 86 (dk_at dksX6_isClause_1 0 rfl rfl)
theorem dX6_isClause_26 : decode cX6_isClause 26 = .ok (.iconst 1, 1) := dk_4 (dk_at dksX6_isClause_1 3 rfl rfl)
theorem dX6_isClause_27 : decode cX6_isClause 27 = .ok (.isub, 1) := dk_100 (dk_at dksX6_isClause_1 4 rfl rfl)
theorem dX6_isClause_28 : decode cX6_isClause 28 = .ok (.invokestatic 78, 3) := dk_184 0 78 (dk_at dksX6_isClause_1 5 rfl rfl)
theorem dX6_isClause_31 : decode cX6_isClause 31 = .ok (.ifCond .eq 7, 3) := dk_153 0 7 (dk_at dksX6_isClause_1 8 rfl rfl)
theorem dX6_isClause_34 : decode cX6_isClause 34 = .ok (.iconst 0, 1) := dk_3 (dk_at dksX6_isClause_1 11 rfl rfl)
theorem dX6_isClause_35 : decode cX6_isClause 35 = .ok (.goto 4, 3) := dk_167 0 4 (dk_at dksX6_isClause_1 12 rfl rfl)
theorem dX6_isClause_38 : decode cX6_isClause 38 = .ok (.iconst 2, 1) := dk_5 (dk_at dksX6_isClause_1 15 rfl rfl)
theorem dX6_isClause_39 : decode cX6_isClause 39 = .ok (.putfield 62, 3) := dk_181 0 62 (dk_at dksX6_isClause_1 16 rfl rfl)
theorem dX6_isClause_42 : decode cX6_isClause 42 = .ok (.aload_n 0, 1) := dk_42 (dk_at dksX6_isClause_1 19 rfl rfl)
theorem dX6_isClause_43 : decode cX6_isClause 43 = .ok (.getfield 62, 3) := dk_180 0 62 (dk_at dksX6_isClause_1 20 rfl rfl)
theorem dX6_isClause_46 : decode cX6_isClause 46 = .ok (.ifCond .ne 7, 3) := dk_154 0 7 (dk_at dksX6_isClause_2 0 rfl rfl)
theorem dX6_isClause_49 : decode cX6_isClause 49 = .ok (.iconst 1, 1) := dk_4 (dk_at dksX6_isClause_2 3 rfl rfl)
theorem dX6_isClause_50 : decode cX6_isClause 50 = .ok (.goto 4, 3) := dk_167 0 4 (dk_at dksX6_isClause_2 4 rfl rfl)
theorem dX6_isClause_53 : decode cX6_isClause 53 = .ok (.iconst 0, 1) := dk_3 (dk_at dksX6_isClause_2 7 rfl rfl)
theorem dX6_isClause_54 : decode cX6_isClause 54 = .ok (.ireturn, 1) := dk_172 (dk_at dksX6_isClause_2 8 rfl rfl)
abbrev cX6_verbOf : ByteArray := prog_23_method_59_code
def yX6_verbOf : MethodName := ⟨RX6, "verbOf", "(II)I"⟩
def dkwX6_verbOf_1 : List UInt8 := [3, 172]
abbrev dktX6_verbOf_1 : List UInt8 := dkwX6_verbOf_1 ++ []
def dkwX6_verbOf_0 : List UInt8 := [42, 27, 28, 182, 0, 197, 153, 0, 18, 42, 27, 42, 180, 0, 47, 28, 46, 4, 182, 0, 82, 167, 0, 4]
abbrev dktX6_verbOf_0 : List UInt8 := dkwX6_verbOf_0 ++ dktX6_verbOf_1
theorem dksX6_verbOf_0 : cX6_verbOf.data.toList.drop 0 = dktX6_verbOf_0 := by decide +kernel
theorem dksX6_verbOf_1 : cX6_verbOf.data.toList.drop 24 = dktX6_verbOf_1 := dk_seg dksX6_verbOf_0 24 rfl rfl
theorem dX6_verbOf_0 : decode cX6_verbOf 0 = .ok (.aload_n 0, 1) := dk_42 (dk_at dksX6_verbOf_0 0 rfl rfl)
theorem dX6_verbOf_1 : decode cX6_verbOf 1 = .ok (.iload_n 1, 1) := dk_27 (dk_at dksX6_verbOf_0 1 rfl rfl)
theorem dX6_verbOf_2 : decode cX6_verbOf 2 = .ok (.iload_n 2, 1) := dk_28 (dk_at dksX6_verbOf_0 2 rfl rfl)
theorem dX6_verbOf_3 : decode cX6_verbOf 3 = .ok (.invokevirtual 197, 3) := dk_182 0 197 (dk_at dksX6_verbOf_0 3 rfl rfl)
theorem dX6_verbOf_6 : decode cX6_verbOf 6 = .ok (.ifCond .eq 18, 3) := dk_153 0 18 (dk_at dksX6_verbOf_0 6 rfl rfl)
theorem dX6_verbOf_9 : decode cX6_verbOf 9 = .ok (.aload_n 0, 1) := dk_42 (dk_at dksX6_verbOf_0 9 rfl rfl)
theorem dX6_verbOf_10 : decode cX6_verbOf 10 = .ok (.iload_n 1, 1) := dk_27 (dk_at dksX6_verbOf_0 10 rfl rfl)
theorem dX6_verbOf_11 : decode cX6_verbOf 11 = .ok (.aload_n 0, 1) := dk_42 (dk_at dksX6_verbOf_0 11 rfl rfl)
theorem dX6_verbOf_12 : decode cX6_verbOf 12 = .ok (.getfield 47, 3) := dk_180 0 47 (dk_at dksX6_verbOf_0 12 rfl rfl)
theorem dX6_verbOf_15 : decode cX6_verbOf 15 = .ok (.iload_n 2, 1) := dk_28 (dk_at dksX6_verbOf_0 15 rfl rfl)
theorem dX6_verbOf_16 : decode cX6_verbOf 16 = .ok (.iaload, 1) := dk_46 (dk_at dksX6_verbOf_0 16 rfl rfl)
theorem dX6_verbOf_17 : decode cX6_verbOf 17 = .ok (.iconst 1, 1) := dk_4 (dk_at dksX6_verbOf_0 17 rfl rfl)
theorem dX6_verbOf_18 : decode cX6_verbOf 18 = .ok (.invokevirtual 82, 3) := dk_182 0 82 (dk_at dksX6_verbOf_0 18 rfl rfl)
theorem dX6_verbOf_21 : decode cX6_verbOf 21 = .ok (.goto 4, 3) := dk_167 0 4 (dk_at dksX6_verbOf_0 21 rfl rfl)
theorem dX6_verbOf_24 : decode cX6_verbOf 24 = .ok (.iconst 0, 1) := dk_3 (dk_at dksX6_verbOf_1 0 rfl rfl)
theorem dX6_verbOf_25 : decode cX6_verbOf 25 = .ok (.ireturn, 1) := dk_172 (dk_at dksX6_verbOf_1 1 rfl rfl)
abbrev cX6_tenseOf : ByteArray := prog_23_method_60_code
def yX6_tenseOf : MethodName := ⟨RX6, "tenseOf", "(II)I"⟩
def dkwX6_tenseOf_0 : List UInt8 := [42, 27, 28, 182, 0, 197, 153, 0, 12, 42, 27, 28, 182, 0, 122, 167, 0, 4, 3, 172]
abbrev dktX6_tenseOf_0 : List UInt8 := dkwX6_tenseOf_0 ++ []
theorem dksX6_tenseOf_0 : cX6_tenseOf.data.toList.drop 0 = dktX6_tenseOf_0 := by decide +kernel
theorem dX6_tenseOf_0 : decode cX6_tenseOf 0 = .ok (.aload_n 0, 1) := dk_42 (dk_at dksX6_tenseOf_0 0 rfl rfl)
theorem dX6_tenseOf_1 : decode cX6_tenseOf 1 = .ok (.iload_n 1, 1) := dk_27 (dk_at dksX6_tenseOf_0 1 rfl rfl)
theorem dX6_tenseOf_2 : decode cX6_tenseOf 2 = .ok (.iload_n 2, 1) := dk_28 (dk_at dksX6_tenseOf_0 2 rfl rfl)
theorem dX6_tenseOf_3 : decode cX6_tenseOf 3 = .ok (.invokevirtual 197, 3) := dk_182 0 197 (dk_at dksX6_tenseOf_0 3 rfl rfl)
theorem dX6_tenseOf_6 : decode cX6_tenseOf 6 = .ok (.ifCond .eq 12, 3) := dk_153 0 12 (dk_at dksX6_tenseOf_0 6 rfl rfl)
theorem dX6_tenseOf_9 : decode cX6_tenseOf 9 = .ok (.aload_n 0, 1) := dk_42 (dk_at dksX6_tenseOf_0 9 rfl rfl)
theorem dX6_tenseOf_10 : decode cX6_tenseOf 10 = .ok (.iload_n 1, 1) := dk_27 (dk_at dksX6_tenseOf_0 10 rfl rfl)
theorem dX6_tenseOf_11 : decode cX6_tenseOf 11 = .ok (.iload_n 2, 1) := dk_28 (dk_at dksX6_tenseOf_0 11 rfl rfl)
theorem dX6_tenseOf_12 : decode cX6_tenseOf 12 = .ok (.invokevirtual 122, 3) := dk_182 0 122 (dk_at dksX6_tenseOf_0 12 rfl rfl)
theorem dX6_tenseOf_15 : decode cX6_tenseOf 15 = .ok (.goto 4, 3) := dk_167 0 4 (dk_at dksX6_tenseOf_0 15 rfl rfl)
theorem dX6_tenseOf_18 : decode cX6_tenseOf 18 = .ok (.iconst 0, 1) := dk_3 (dk_at dksX6_tenseOf_0 18 rfl rfl)
theorem dX6_tenseOf_19 : decode cX6_tenseOf 19 = .ok (.ireturn, 1) := dk_172 (dk_at dksX6_tenseOf_0 19 rfl rfl)
abbrev cX6_tense : ByteArray := prog_23_method_16_code
def yX6_tense : MethodName := ⟨RX6, "tense", "(II)I"⟩
def dkwX6_tense_0 : List UInt8 := [42, 27, 42, 180, 0, 47, 28, 46, 5, 182, 0, 82, 172]
abbrev dktX6_tense_0 : List UInt8 := dkwX6_tense_0 ++ []
theorem dksX6_tense_0 : cX6_tense.data.toList.drop 0 = dktX6_tense_0 := by decide +kernel
theorem dX6_tense_0 : decode cX6_tense 0 = .ok (.aload_n 0, 1) := dk_42 (dk_at dksX6_tense_0 0 rfl rfl)
theorem dX6_tense_1 : decode cX6_tense 1 = .ok (.iload_n 1, 1) := dk_27 (dk_at dksX6_tense_0 1 rfl rfl)
theorem dX6_tense_2 : decode cX6_tense 2 = .ok (.aload_n 0, 1) := dk_42 (dk_at dksX6_tense_0 2 rfl rfl)
theorem dX6_tense_3 : decode cX6_tense 3 = .ok (.getfield 47, 3) := dk_180 0 47 (dk_at dksX6_tense_0 3 rfl rfl)
theorem dX6_tense_6 : decode cX6_tense 6 = .ok (.iload_n 2, 1) := dk_28 (dk_at dksX6_tense_0 6 rfl rfl)
theorem dX6_tense_7 : decode cX6_tense 7 = .ok (.iaload, 1) := dk_46 (dk_at dksX6_tense_0 7 rfl rfl)
theorem dX6_tense_8 : decode cX6_tense 8 = .ok (.iconst 2, 1) := dk_5 (dk_at dksX6_tense_0 8 rfl rfl)
theorem dX6_tense_9 : decode cX6_tense 9 = .ok (.invokevirtual 82, 3) := dk_182 0 82 (dk_at dksX6_tense_0 9 rfl rfl)
theorem dX6_tense_12 : decode cX6_tense 12 = .ok (.ireturn, 1) := dk_172 (dk_at dksX6_tense_0 12 rfl rfl)
abbrev cX6_hasObject : ByteArray := prog_23_method_61_code
def yX6_hasObject : MethodName := ⟨RX6, "hasObject", "(II)Z"⟩
def dkwX6_hasObject_1 : List UInt8 := [172]
abbrev dktX6_hasObject_1 : List UInt8 := dkwX6_hasObject_1 ++ []
def dkwX6_hasObject_0 : List UInt8 := [42, 27, 28, 182, 0, 197, 153, 0, 17, 42, 180, 0, 50, 28, 46, 2, 159, 0, 7, 4, 167, 0, 4, 3]
abbrev dktX6_hasObject_0 : List UInt8 := dkwX6_hasObject_0 ++ dktX6_hasObject_1
theorem dksX6_hasObject_0 : cX6_hasObject.data.toList.drop 0 = dktX6_hasObject_0 := by decide +kernel
theorem dksX6_hasObject_1 : cX6_hasObject.data.toList.drop 24 = dktX6_hasObject_1 := dk_seg dksX6_hasObject_0 24 rfl rfl
theorem dX6_hasObject_0 : decode cX6_hasObject 0 = .ok (.aload_n 0, 1) := dk_42 (dk_at dksX6_hasObject_0 0 rfl rfl)
theorem dX6_hasObject_1 : decode cX6_hasObject 1 = .ok (.iload_n 1, 1) := dk_27 (dk_at dksX6_hasObject_0 1 rfl rfl)
theorem dX6_hasObject_2 : decode cX6_hasObject 2 = .ok (.iload_n 2, 1) := dk_28 (dk_at dksX6_hasObject_0 2 rfl rfl)
theorem dX6_hasObject_3 : decode cX6_hasObject 3 = .ok (.invokevirtual 197, 3) := dk_182 0 197 (dk_at dksX6_hasObject_0 3 rfl rfl)
theorem dX6_hasObject_6 : decode cX6_hasObject 6 = .ok (.ifCond .eq 17, 3) := dk_153 0 17 (dk_at dksX6_hasObject_0 6 rfl rfl)
theorem dX6_hasObject_9 : decode cX6_hasObject 9 = .ok (.aload_n 0, 1) := dk_42 (dk_at dksX6_hasObject_0 9 rfl rfl)
theorem dX6_hasObject_10 : decode cX6_hasObject 10 = .ok (.getfield 50, 3) := dk_180 0 50 (dk_at dksX6_hasObject_0 10 rfl rfl)
theorem dX6_hasObject_13 : decode cX6_hasObject 13 = .ok (.iload_n 2, 1) := dk_28 (dk_at dksX6_hasObject_0 13 rfl rfl)
theorem dX6_hasObject_14 : decode cX6_hasObject 14 = .ok (.iaload, 1) := dk_46 (dk_at dksX6_hasObject_0 14 rfl rfl)
theorem dX6_hasObject_15 : decode cX6_hasObject 15 = .ok (.iconst (-1), 1) := dk_2 (dk_at dksX6_hasObject_0 15 rfl rfl)
theorem dX6_hasObject_16 : decode cX6_hasObject 16 = .ok (.if_icmp .eq 7, 3) := dk_159 0 7 (dk_at dksX6_hasObject_0 16 rfl rfl)
theorem dX6_hasObject_19 : decode cX6_hasObject 19 = .ok (.iconst 1, 1) := dk_4 (dk_at dksX6_hasObject_0 19 rfl rfl)
theorem dX6_hasObject_20 : decode cX6_hasObject 20 = .ok (.goto 4, 3) := dk_167 0 4 (dk_at dksX6_hasObject_0 20 rfl rfl)
theorem dX6_hasObject_23 : decode cX6_hasObject 23 = .ok (.iconst 0, 1) := dk_3 (dk_at dksX6_hasObject_0 23 rfl rfl)
theorem dX6_hasObject_24 : decode cX6_hasObject 24 = .ok (.ireturn, 1) := dk_172 (dk_at dksX6_hasObject_1 0 rfl rfl)
abbrev cX6_parentOf : ByteArray := prog_23_method_62_code
def yX6_parentOf : MethodName := ⟨RX6, "parentOf", "(II)I"⟩
def dkwX6_parentOf_0 : List UInt8 := [42, 27, 28, 182, 0, 197, 153, 0, 12, 42, 180, 0, 38, 28, 46, 167, 0, 4, 3, 172]
abbrev dktX6_parentOf_0 : List UInt8 := dkwX6_parentOf_0 ++ []
theorem dksX6_parentOf_0 : cX6_parentOf.data.toList.drop 0 = dktX6_parentOf_0 := by decide +kernel
theorem dX6_parentOf_0 : decode cX6_parentOf 0 = .ok (.aload_n 0, 1) := dk_42 (dk_at dksX6_parentOf_0 0 rfl rfl)
theorem dX6_parentOf_1 : decode cX6_parentOf 1 = .ok (.iload_n 1, 1) := dk_27 (dk_at dksX6_parentOf_0 1 rfl rfl)
theorem dX6_parentOf_2 : decode cX6_parentOf 2 = .ok (.iload_n 2, 1) := dk_28 (dk_at dksX6_parentOf_0 2 rfl rfl)
theorem dX6_parentOf_3 : decode cX6_parentOf 3 = .ok (.invokevirtual 197, 3) := dk_182 0 197 (dk_at dksX6_parentOf_0 3 rfl rfl)
theorem dX6_parentOf_6 : decode cX6_parentOf 6 = .ok (.ifCond .eq 12, 3) := dk_153 0 12 (dk_at dksX6_parentOf_0 6 rfl rfl)
theorem dX6_parentOf_9 : decode cX6_parentOf 9 = .ok (.aload_n 0, 1) := dk_42 (dk_at dksX6_parentOf_0 9 rfl rfl)
theorem dX6_parentOf_10 : decode cX6_parentOf 10 = .ok (.getfield 38, 3) := dk_180 0 38 (dk_at dksX6_parentOf_0 10 rfl rfl)
theorem dX6_parentOf_13 : decode cX6_parentOf 13 = .ok (.iload_n 2, 1) := dk_28 (dk_at dksX6_parentOf_0 13 rfl rfl)
theorem dX6_parentOf_14 : decode cX6_parentOf 14 = .ok (.iaload, 1) := dk_46 (dk_at dksX6_parentOf_0 14 rfl rfl)
theorem dX6_parentOf_15 : decode cX6_parentOf 15 = .ok (.goto 4, 3) := dk_167 0 4 (dk_at dksX6_parentOf_0 15 rfl rfl)
theorem dX6_parentOf_18 : decode cX6_parentOf 18 = .ok (.iconst 0, 1) := dk_3 (dk_at dksX6_parentOf_0 18 rfl rfl)
theorem dX6_parentOf_19 : decode cX6_parentOf 19 = .ok (.ireturn, 1) := dk_172 (dk_at dksX6_parentOf_0 19 rfl rfl)
abbrev cX6_disagreementCount : ByteArray := prog_23_method_64_code
def yX6_disagreementCount : MethodName := ⟨RX6, "disagreementCount", "(I)I"⟩
def dkwX6_disagreementCount_0 : List UInt8 := [42, 27, 182, 0, 201, 153, 0, 10, 42, 180, 0, 112, 167, 0, 4, 3, 172]
abbrev dktX6_disagreementCount_0 : List UInt8 := dkwX6_disagreementCount_0 ++ []
theorem dksX6_disagreementCount_0 : cX6_disagreementCount.data.toList.drop 0 = dktX6_disagreementCount_0 := by decide +kernel
theorem dX6_disagreementCount_0 : decode cX6_disagreementCount 0 = .ok (.aload_n 0, 1) := dk_42 (dk_at dksX6_disagreementCount_0 0 rfl rfl)
theorem dX6_disagreementCount_1 : decode cX6_disagreementCount 1 = .ok (.iload_n 1, 1) := dk_27 (dk_at dksX6_disagreementCount_0 1 rfl rfl)
theorem dX6_disagreementCount_2 : decode cX6_disagreementCount 2 = .ok (.invokevirtual 201, 3) := dk_182 0 201 (dk_at dksX6_disagreementCount_0 2 rfl rfl)
theorem dX6_disagreementCount_5 : decode cX6_disagreementCount 5 = .ok (.ifCond .eq 10, 3) := dk_153 0 10 (dk_at dksX6_disagreementCount_0 5 rfl rfl)
theorem dX6_disagreementCount_8 : decode cX6_disagreementCount 8 = .ok (.aload_n 0, 1) := dk_42 (dk_at dksX6_disagreementCount_0 8 rfl rfl)
theorem dX6_disagreementCount_9 : decode cX6_disagreementCount 9 = .ok (.getfield 112, 3) := dk_180 0 112 (dk_at dksX6_disagreementCount_0 9 rfl rfl)
theorem dX6_disagreementCount_12 : decode cX6_disagreementCount 12 = .ok (.goto 4, 3) := dk_167 0 4 (dk_at dksX6_disagreementCount_0 12 rfl rfl)
theorem dX6_disagreementCount_15 : decode cX6_disagreementCount 15 = .ok (.iconst 0, 1) := dk_3 (dk_at dksX6_disagreementCount_0 15 rfl rfl)
theorem dX6_disagreementCount_16 : decode cX6_disagreementCount 16 = .ok (.ireturn, 1) := dk_172 (dk_at dksX6_disagreementCount_0 16 rfl rfl)
abbrev cX6_isCounted : ByteArray := prog_23_method_63_code
def yX6_isCounted : MethodName := ⟨RX6, "isCounted", "(I)Z"⟩
def dkwX6_isCounted_2 : List UInt8 := [167, 0, 4, 3, 172]
abbrev dktX6_isCounted_2 : List UInt8 := dkwX6_isCounted_2 ++ []
def dkwX6_isCounted_1 : List UInt8 := [5, 181, 0, 62, 42, 180, 0, 62, 154, 0, 8, 42, 27, 182, 0, 129, 42, 180, 0, 62, 154, 0, 7, 4]
abbrev dktX6_isCounted_1 : List UInt8 := dkwX6_isCounted_1 ++ dktX6_isCounted_2
def dkwX6_isCounted_0 : List UInt8 := [42, 27, 184, 0, 136, 154, 0, 7, 4, 167, 0, 16, 42, 27, 182, 0, 125, 153, 0, 7, 3, 167, 0, 4]
abbrev dktX6_isCounted_0 : List UInt8 := dkwX6_isCounted_0 ++ dktX6_isCounted_1
theorem dksX6_isCounted_0 : cX6_isCounted.data.toList.drop 0 = dktX6_isCounted_0 := by decide +kernel
theorem dksX6_isCounted_1 : cX6_isCounted.data.toList.drop 24 = dktX6_isCounted_1 := dk_seg dksX6_isCounted_0 24 rfl rfl
theorem dksX6_isCounted_2 : cX6_isCounted.data.toList.drop 48 = dktX6_isCounted_2 := dk_seg dksX6_isCounted_1 24 rfl rfl
theorem dX6_isCounted_0 : decode cX6_isCounted 0 = .ok (.aload_n 0, 1) := dk_42 (dk_at dksX6_isCounted_0 0 rfl rfl)
theorem dX6_isCounted_1 : decode cX6_isCounted 1 = .ok (.iload_n 1, 1) := dk_27 (dk_at dksX6_isCounted_0 1 rfl rfl)
theorem dX6_isCounted_2 : decode cX6_isCounted 2 = .ok (.invokestatic 136, 3) := dk_184 0 136 (dk_at dksX6_isCounted_0 2 rfl rfl)
theorem dX6_isCounted_5 : decode cX6_isCounted 5 = .ok (.ifCond .ne 7, 3) := dk_154 0 7 (dk_at dksX6_isCounted_0 5 rfl rfl)
theorem dX6_isCounted_8 : decode cX6_isCounted 8 = .ok (.iconst 1, 1) := dk_4 (dk_at dksX6_isCounted_0 8 rfl rfl)
theorem dX6_isCounted_9 : decode cX6_isCounted 9 = .ok (.goto 16, 3) := dk_167 0 16 (dk_at dksX6_isCounted_0 9 rfl rfl)
theorem dX6_isCounted_12 : decode cX6_isCounted 12 = .ok (.aload_n 0, 1) := dk_42 (dk_at dksX6_isCounted_0 12 rfl rfl)
theorem dX6_isCounted_13 : decode cX6_isCounted 13 = .ok (.iload_n 1, 1) := dk_27 (dk_at dksX6_isCounted_0 13 rfl rfl)
theorem dX6_isCounted_14 : decode cX6_isCounted 14 = .ok (.invokevirtual 125, 3) := dk_182 0 125 (dk_at dksX6_isCounted_0 14 rfl rfl)
theorem dX6_isCounted_17 : decode cX6_isCounted 17 = .ok (.ifCond .eq 7, 3) := dk_153 0 7 (dk_at dksX6_isCounted_0 17 rfl rfl)
theorem dX6_isCounted_20 : decode cX6_isCounted 20 = .ok (.iconst 0, 1) := dk_3 (dk_at dksX6_isCounted_0 20 rfl rfl)
theorem dX6_isCounted_21 : decode cX6_isCounted 21 = .ok (.goto 4, 3) := dk_167 0 4 (dk_at dksX6_isCounted_0 21 rfl rfl)
theorem dX6_isCounted_24 : decode cX6_isCounted 24 = .ok (.iconst 2, 1) := dk_5 (dk_at dksX6_isCounted_1 0 rfl rfl)
theorem dX6_isCounted_25 : decode cX6_isCounted 25 = .ok (.putfield 62, 3) := dk_181 0 62 (dk_at dksX6_isCounted_1 1 rfl rfl)
theorem dX6_isCounted_28 : decode cX6_isCounted 28 = .ok (.aload_n 0, 1) := dk_42 (dk_at dksX6_isCounted_1 4 rfl rfl)
theorem dX6_isCounted_29 : decode cX6_isCounted 29 = .ok (.getfield 62, 3) := dk_180 0 62 (dk_at dksX6_isCounted_1 5 rfl rfl)
theorem dX6_isCounted_32 : decode cX6_isCounted 32 = .ok (.ifCond .ne 8, 3) := dk_154 0 8 (dk_at dksX6_isCounted_1 8 rfl rfl)
theorem dX6_isCounted_35 : decode cX6_isCounted 35 = .ok (.aload_n 0, 1) := dk_42 (dk_at dksX6_isCounted_1 11 rfl rfl)
theorem dX6_isCounted_36 : decode cX6_isCounted 36 = .ok (.iload_n 1, 1) := dk_27 (dk_at dksX6_isCounted_1 12 rfl rfl)
theorem dX6_isCounted_37 : decode cX6_isCounted 37 = .ok (.invokevirtual 129, 3) := dk_182 0 129 (dk_at dksX6_isCounted_1 13 rfl rfl)
theorem dX6_isCounted_40 : decode cX6_isCounted 40 = .ok (.aload_n 0, 1) := dk_42 (dk_at dksX6_isCounted_1 16 rfl rfl)
theorem dX6_isCounted_41 : decode cX6_isCounted 41 = .ok (.getfield 62, 3) := dk_180 0 62 (dk_at dksX6_isCounted_1 17 rfl rfl)
theorem dX6_isCounted_44 : decode cX6_isCounted 44 = .ok (.ifCond .ne 7, 3) := dk_154 0 7 (dk_at dksX6_isCounted_1 20 rfl rfl)
theorem dX6_isCounted_47 : decode cX6_isCounted 47 = .ok (.iconst 1, 1) := dk_4 (dk_at dksX6_isCounted_1 23 rfl rfl)
theorem dX6_isCounted_48 : decode cX6_isCounted 48 = .ok (.goto 4, 3) := dk_167 0 4 (dk_at dksX6_isCounted_2 0 rfl rfl)
theorem dX6_isCounted_51 : decode cX6_isCounted 51 = .ok (.iconst 0, 1) := dk_3 (dk_at dksX6_isCounted_2 3 rfl rfl)
theorem dX6_isCounted_52 : decode cX6_isCounted 52 = .ok (.ireturn, 1) := dk_172 (dk_at dksX6_isCounted_2 4 rfl rfl)
abbrev cX6_counts : ByteArray := prog_23_method_18_code
def yX6_counts : MethodName := ⟨RX6, "counts", "(I)V"⟩
def dkwX6_counts_9 : List UInt8 := [167, 255, 61, 177]
abbrev dktX6_counts_9 : List UInt8 := dkwX6_counts_9 ++ []
def dkwX6_counts_8 : List UInt8 := [180, 0, 38, 28, 46, 182, 0, 122, 164, 0, 7, 4, 167, 0, 4, 3, 182, 0, 118, 132, 2, 1]
abbrev dktX6_counts_8 : List UInt8 := dkwX6_counts_8 ++ dktX6_counts_9
def dkwX6_counts_7 : List UInt8 := [182, 0, 118, 42, 29, 42, 180, 0, 38, 28, 46, 2, 159, 0, 27, 42, 27, 28, 182, 0, 122, 42, 27, 42]
abbrev dktX6_counts_7 : List UInt8 := dkwX6_counts_7 ++ dktX6_counts_8
def dkwX6_counts_6 : List UInt8 := [182, 0, 122, 42, 27, 42, 180, 0, 41, 28, 46, 182, 0, 122, 159, 0, 7, 4, 167, 0, 4, 3]
abbrev dktX6_counts_6 : List UInt8 := dkwX6_counts_6 ++ dktX6_counts_7
def dkwX6_counts_5 : List UInt8 := [29, 4, 182, 0, 82, 96, 46, 159, 0, 7, 4, 167, 0, 4, 3, 182, 0, 118, 42, 29, 42, 27, 28]
abbrev dktX6_counts_5 : List UInt8 := dkwX6_counts_5 ++ dktX6_counts_6
def dkwX6_counts_4 : List UInt8 := [21, 4, 182, 0, 98, 154, 0, 33, 42, 27, 21, 4, 5, 182, 0, 82, 42, 180, 0, 7, 16, 10, 42, 27]
abbrev dktX6_counts_4 : List UInt8 := dkwX6_counts_4 ++ dktX6_counts_5
def dkwX6_counts_3 : List UInt8 := [167, 0, 4, 3, 182, 0, 118, 132, 5, 1, 167, 255, 216, 42, 21, 4, 21, 4, 2, 159, 0, 43, 42, 27]
abbrev dktX6_counts_3 : List UInt8 := dkwX6_counts_3 ++ dktX6_counts_4
def dkwX6_counts_2 : List UInt8 := [163, 0, 35, 42, 29, 21, 5, 100, 42, 27, 29, 21, 5, 100, 5, 182, 0, 82, 153, 0, 7, 4]
abbrev dktX6_counts_2 : List UInt8 := dkwX6_counts_2 ++ dktX6_counts_3
def dkwX6_counts_1 : List UInt8 := [28, 46, 62, 42, 180, 0, 50, 28, 46, 54, 4, 4, 54, 5, 21, 5, 42, 180, 0, 44, 28, 46]
abbrev dktX6_counts_1 : List UInt8 := dkwX6_counts_1 ++ dktX6_counts_2
def dkwX6_counts_0 : List UInt8 := [42, 3, 181, 0, 112, 42, 2, 181, 0, 115, 3, 61, 28, 42, 180, 0, 86, 162, 0, 193, 42, 180, 0, 47]
abbrev dktX6_counts_0 : List UInt8 := dkwX6_counts_0 ++ dktX6_counts_1
theorem dksX6_counts_0 : cX6_counts.data.toList.drop 0 = dktX6_counts_0 := by decide +kernel
theorem dksX6_counts_1 : cX6_counts.data.toList.drop 24 = dktX6_counts_1 := dk_seg dksX6_counts_0 24 rfl rfl
theorem dksX6_counts_2 : cX6_counts.data.toList.drop 46 = dktX6_counts_2 := dk_seg dksX6_counts_1 22 rfl rfl
theorem dksX6_counts_3 : cX6_counts.data.toList.drop 68 = dktX6_counts_3 := dk_seg dksX6_counts_2 22 rfl rfl
theorem dksX6_counts_4 : cX6_counts.data.toList.drop 92 = dktX6_counts_4 := dk_seg dksX6_counts_3 24 rfl rfl
theorem dksX6_counts_5 : cX6_counts.data.toList.drop 116 = dktX6_counts_5 := dk_seg dksX6_counts_4 24 rfl rfl
theorem dksX6_counts_6 : cX6_counts.data.toList.drop 139 = dktX6_counts_6 := dk_seg dksX6_counts_5 23 rfl rfl
theorem dksX6_counts_7 : cX6_counts.data.toList.drop 161 = dktX6_counts_7 := dk_seg dksX6_counts_6 22 rfl rfl
theorem dksX6_counts_8 : cX6_counts.data.toList.drop 185 = dktX6_counts_8 := dk_seg dksX6_counts_7 24 rfl rfl
theorem dksX6_counts_9 : cX6_counts.data.toList.drop 207 = dktX6_counts_9 := dk_seg dksX6_counts_8 22 rfl rfl
theorem dX6_counts_0 : decode cX6_counts 0 = .ok (.aload_n 0, 1) := dk_42 (dk_at dksX6_counts_0 0 rfl rfl)
theorem dX6_counts_1 : decode cX6_counts 1 = .ok (.iconst 0, 1) := dk_3 (dk_at dksX6_counts_0 1 rfl rfl)
theorem dX6_counts_2 : decode cX6_counts 2 = .ok (.putfield 112, 3) := dk_181 0 112 (dk_at dksX6_counts_0 2 rfl rfl)
theorem dX6_counts_5 : decode cX6_counts 5 = .ok (.aload_n 0, 1) := dk_42 (dk_at dksX6_counts_0 5 rfl rfl)
theorem dX6_counts_6 : decode cX6_counts 6 = .ok (.iconst (-1), 1) := dk_2 (dk_at dksX6_counts_0 6 rfl rfl)
theorem dX6_counts_7 : decode cX6_counts 7 = .ok (.putfield 115, 3) := dk_181 0 115 (dk_at dksX6_counts_0 7 rfl rfl)
theorem dX6_counts_10 : decode cX6_counts 10 = .ok (.iconst 0, 1) := dk_3 (dk_at dksX6_counts_0 10 rfl rfl)
theorem dX6_counts_11 : decode cX6_counts 11 = .ok (.istore_n 2, 1) := dk_61 (dk_at dksX6_counts_0 11 rfl rfl)
theorem dX6_counts_12 : decode cX6_counts 12 = .ok (.iload_n 2, 1) := dk_28 (dk_at dksX6_counts_0 12 rfl rfl)
theorem dX6_counts_13 : decode cX6_counts 13 = .ok (.aload_n 0, 1) := dk_42 (dk_at dksX6_counts_0 13 rfl rfl)
theorem dX6_counts_14 : decode cX6_counts 14 = .ok (.getfield 86, 3) := dk_180 0 86 (dk_at dksX6_counts_0 14 rfl rfl)
theorem dX6_counts_17 : decode cX6_counts 17 = .ok (.if_icmp .ge 193, 3) := dk_162 0 193 (dk_at dksX6_counts_0 17 rfl rfl)
theorem dX6_counts_20 : decode cX6_counts 20 = .ok (.aload_n 0, 1) := dk_42 (dk_at dksX6_counts_0 20 rfl rfl)
theorem dX6_counts_21 : decode cX6_counts 21 = .ok (.getfield 47, 3) := dk_180 0 47 (dk_at dksX6_counts_0 21 rfl rfl)
theorem dX6_counts_24 : decode cX6_counts 24 = .ok (.iload_n 2, 1) := dk_28 (dk_at dksX6_counts_1 0 rfl rfl)
theorem dX6_counts_25 : decode cX6_counts 25 = .ok (.iaload, 1) := dk_46 (dk_at dksX6_counts_1 1 rfl rfl)
theorem dX6_counts_26 : decode cX6_counts 26 = .ok (.istore_n 3, 1) := dk_62 (dk_at dksX6_counts_1 2 rfl rfl)
theorem dX6_counts_27 : decode cX6_counts 27 = .ok (.aload_n 0, 1) := dk_42 (dk_at dksX6_counts_1 3 rfl rfl)
theorem dX6_counts_28 : decode cX6_counts 28 = .ok (.getfield 50, 3) := dk_180 0 50 (dk_at dksX6_counts_1 4 rfl rfl)
theorem dX6_counts_31 : decode cX6_counts 31 = .ok (.iload_n 2, 1) := dk_28 (dk_at dksX6_counts_1 7 rfl rfl)
theorem dX6_counts_32 : decode cX6_counts 32 = .ok (.iaload, 1) := dk_46 (dk_at dksX6_counts_1 8 rfl rfl)
theorem dX6_counts_33 : decode cX6_counts 33 = .ok (.istore 4, 2) := dk_54 4 (dk_at dksX6_counts_1 9 rfl rfl)
theorem dX6_counts_35 : decode cX6_counts 35 = .ok (.iconst 1, 1) := dk_4 (dk_at dksX6_counts_1 11 rfl rfl)
theorem dX6_counts_36 : decode cX6_counts 36 = .ok (.istore 5, 2) := dk_54 5 (dk_at dksX6_counts_1 12 rfl rfl)
theorem dX6_counts_38 : decode cX6_counts 38 = .ok (.iload 5, 2) := dk_21 5 (dk_at dksX6_counts_1 14 rfl rfl)
theorem dX6_counts_40 : decode cX6_counts 40 = .ok (.aload_n 0, 1) := dk_42 (dk_at dksX6_counts_1 16 rfl rfl)
theorem dX6_counts_41 : decode cX6_counts 41 = .ok (.getfield 44, 3) := dk_180 0 44 (dk_at dksX6_counts_1 17 rfl rfl)
theorem dX6_counts_44 : decode cX6_counts 44 = .ok (.iload_n 2, 1) := dk_28 (dk_at dksX6_counts_1 20 rfl rfl)
theorem dX6_counts_45 : decode cX6_counts 45 = .ok (.iaload, 1) := dk_46 (dk_at dksX6_counts_1 21 rfl rfl)
theorem dX6_counts_46 : decode cX6_counts 46 = .ok (.if_icmp .gt 35, 3) := dk_163 0 35 (dk_at dksX6_counts_2 0 rfl rfl)
theorem dX6_counts_49 : decode cX6_counts 49 = .ok (.aload_n 0, 1) := dk_42 (dk_at dksX6_counts_2 3 rfl rfl)
theorem dX6_counts_50 : decode cX6_counts 50 = .ok (.iload_n 3, 1) := dk_29 (dk_at dksX6_counts_2 4 rfl rfl)
theorem dX6_counts_51 : decode cX6_counts 51 = .ok (.iload 5, 2) := dk_21 5 (dk_at dksX6_counts_2 5 rfl rfl)
theorem dX6_counts_53 : decode cX6_counts 53 = .ok (.isub, 1) := dk_100 (dk_at dksX6_counts_2 7 rfl rfl)
theorem dX6_counts_54 : decode cX6_counts 54 = .ok (.aload_n 0, 1) := dk_42 (dk_at dksX6_counts_2 8 rfl rfl)
theorem dX6_counts_55 : decode cX6_counts 55 = .ok (.iload_n 1, 1) := dk_27 (dk_at dksX6_counts_2 9 rfl rfl)
theorem dX6_counts_56 : decode cX6_counts 56 = .ok (.iload_n 3, 1) := dk_29 (dk_at dksX6_counts_2 10 rfl rfl)
theorem dX6_counts_57 : decode cX6_counts 57 = .ok (.iload 5, 2) := dk_21 5 (dk_at dksX6_counts_2 11 rfl rfl)
theorem dX6_counts_59 : decode cX6_counts 59 = .ok (.isub, 1) := dk_100 (dk_at dksX6_counts_2 13 rfl rfl)
theorem dX6_counts_60 : decode cX6_counts 60 = .ok (.iconst 2, 1) := dk_5 (dk_at dksX6_counts_2 14 rfl rfl)
theorem dX6_counts_61 : decode cX6_counts 61 = .ok (.invokevirtual 82, 3) := dk_182 0 82 (dk_at dksX6_counts_2 15 rfl rfl)
theorem dX6_counts_64 : decode cX6_counts 64 = .ok (.ifCond .eq 7, 3) := dk_153 0 7 (dk_at dksX6_counts_2 18 rfl rfl)
theorem dX6_counts_67 : decode cX6_counts 67 = .ok (.iconst 1, 1) := dk_4 (dk_at dksX6_counts_2 21 rfl rfl)
theorem dX6_counts_68 : decode cX6_counts 68 = .ok (.goto 4, 3) := dk_167 0 4 (dk_at dksX6_counts_3 0 rfl rfl)
theorem dX6_counts_71 : decode cX6_counts 71 = .ok (.iconst 0, 1) := dk_3 (dk_at dksX6_counts_3 3 rfl rfl)
theorem dX6_counts_72 : decode cX6_counts 72 = .ok (.invokevirtual 118, 3) := dk_182 0 118 (dk_at dksX6_counts_3 4 rfl rfl)
theorem dX6_counts_75 : decode cX6_counts 75 = .ok (.iinc 5 1, 3) := dk_132 5 1 (dk_at dksX6_counts_3 7 rfl rfl)
theorem dX6_counts_78 : decode cX6_counts 78 = .ok (.goto (-40), 3) := dk_167 255 216 (dk_at dksX6_counts_3 10 rfl rfl)
theorem dX6_counts_81 : decode cX6_counts 81 = .ok (.aload_n 0, 1) := dk_42 (dk_at dksX6_counts_3 13 rfl rfl)
theorem dX6_counts_82 : decode cX6_counts 82 = .ok (.iload 4, 2) := dk_21 4 (dk_at dksX6_counts_3 14 rfl rfl)
theorem dX6_counts_84 : decode cX6_counts 84 = .ok (.iload 4, 2) := dk_21 4 (dk_at dksX6_counts_3 16 rfl rfl)
theorem dX6_counts_86 : decode cX6_counts 86 = .ok (.iconst (-1), 1) := dk_2 (dk_at dksX6_counts_3 18 rfl rfl)
theorem dX6_counts_87 : decode cX6_counts 87 = .ok (.if_icmp .eq 43, 3) := dk_159 0 43 (dk_at dksX6_counts_3 19 rfl rfl)
theorem dX6_counts_90 : decode cX6_counts 90 = .ok (.aload_n 0, 1) := dk_42 (dk_at dksX6_counts_3 22 rfl rfl)
theorem dX6_counts_91 : decode cX6_counts 91 = .ok (.iload_n 1, 1) := dk_27 (dk_at dksX6_counts_3 23 rfl rfl)
theorem dX6_counts_92 : decode cX6_counts 92 = .ok (.iload 4, 2) := dk_21 4 (dk_at dksX6_counts_4 0 rfl rfl)
theorem dX6_counts_94 : decode cX6_counts 94 = .ok (.invokevirtual 98, 3) := dk_182 0 98 (dk_at dksX6_counts_4 2 rfl rfl)
theorem dX6_counts_97 : decode cX6_counts 97 = .ok (.ifCond .ne 33, 3) := dk_154 0 33 (dk_at dksX6_counts_4 5 rfl rfl)
theorem dX6_counts_100 : decode cX6_counts 100 = .ok (.aload_n 0, 1) := dk_42 (dk_at dksX6_counts_4 8 rfl rfl)
theorem dX6_counts_101 : decode cX6_counts 101 = .ok (.iload_n 1, 1) := dk_27 (dk_at dksX6_counts_4 9 rfl rfl)
theorem dX6_counts_102 : decode cX6_counts 102 = .ok (.iload 4, 2) := dk_21 4 (dk_at dksX6_counts_4 10 rfl rfl)
theorem dX6_counts_104 : decode cX6_counts 104 = .ok (.iconst 2, 1) := dk_5 (dk_at dksX6_counts_4 12 rfl rfl)
theorem dX6_counts_105 : decode cX6_counts 105 = .ok (.invokevirtual 82, 3) := dk_182 0 82 (dk_at dksX6_counts_4 13 rfl rfl)
theorem dX6_counts_108 : decode cX6_counts 108 = .ok (.aload_n 0, 1) := dk_42 (dk_at dksX6_counts_4 16 rfl rfl)
theorem dX6_counts_109 : decode cX6_counts 109 = .ok (.getfield 7, 3) := dk_180 0 7 (dk_at dksX6_counts_4 17 rfl rfl)
theorem dX6_counts_112 : decode cX6_counts 112 = .ok (.bipush 10, 2) := dk_16 10 (dk_at dksX6_counts_4 20 rfl rfl)
theorem dX6_counts_114 : decode cX6_counts 114 = .ok (.aload_n 0, 1) := dk_42 (dk_at dksX6_counts_4 22 rfl rfl)
theorem dX6_counts_115 : decode cX6_counts 115 = .ok (.iload_n 1, 1) := dk_27 (dk_at dksX6_counts_4 23 rfl rfl)
theorem dX6_counts_116 : decode cX6_counts 116 = .ok (.iload_n 3, 1) := dk_29 (dk_at dksX6_counts_5 0 rfl rfl)
theorem dX6_counts_117 : decode cX6_counts 117 = .ok (.iconst 1, 1) := dk_4 (dk_at dksX6_counts_5 1 rfl rfl)
theorem dX6_counts_118 : decode cX6_counts 118 = .ok (.invokevirtual 82, 3) := dk_182 0 82 (dk_at dksX6_counts_5 2 rfl rfl)
theorem dX6_counts_121 : decode cX6_counts 121 = .ok (.iadd, 1) := dk_96 (dk_at dksX6_counts_5 5 rfl rfl)
theorem dX6_counts_122 : decode cX6_counts 122 = .ok (.iaload, 1) := dk_46 (dk_at dksX6_counts_5 6 rfl rfl)
theorem dX6_counts_123 : decode cX6_counts 123 = .ok (.if_icmp .eq 7, 3) := dk_159 0 7 (dk_at dksX6_counts_5 7 rfl rfl)
theorem dX6_counts_126 : decode cX6_counts 126 = .ok (.iconst 1, 1) := dk_4 (dk_at dksX6_counts_5 10 rfl rfl)
theorem dX6_counts_127 : decode cX6_counts 127 = .ok (.goto 4, 3) := dk_167 0 4 (dk_at dksX6_counts_5 11 rfl rfl)
theorem dX6_counts_130 : decode cX6_counts 130 = .ok (.iconst 0, 1) := dk_3 (dk_at dksX6_counts_5 14 rfl rfl)
theorem dX6_counts_131 : decode cX6_counts 131 = .ok (.invokevirtual 118, 3) := dk_182 0 118 (dk_at dksX6_counts_5 15 rfl rfl)
theorem dX6_counts_134 : decode cX6_counts 134 = .ok (.aload_n 0, 1) := dk_42 (dk_at dksX6_counts_5 18 rfl rfl)
theorem dX6_counts_135 : decode cX6_counts 135 = .ok (.iload_n 3, 1) := dk_29 (dk_at dksX6_counts_5 19 rfl rfl)
theorem dX6_counts_136 : decode cX6_counts 136 = .ok (.aload_n 0, 1) := dk_42 (dk_at dksX6_counts_5 20 rfl rfl)
theorem dX6_counts_137 : decode cX6_counts 137 = .ok (.iload_n 1, 1) := dk_27 (dk_at dksX6_counts_5 21 rfl rfl)
theorem dX6_counts_138 : decode cX6_counts 138 = .ok (.iload_n 2, 1) := dk_28 (dk_at dksX6_counts_5 22 rfl rfl)
theorem dX6_counts_139 : decode cX6_counts 139 = .ok (.invokevirtual 122, 3) := dk_182 0 122 (dk_at dksX6_counts_6 0 rfl rfl)
theorem dX6_counts_142 : decode cX6_counts 142 = .ok (.aload_n 0, 1) := dk_42 (dk_at dksX6_counts_6 3 rfl rfl)
theorem dX6_counts_143 : decode cX6_counts 143 = .ok (.iload_n 1, 1) := dk_27 (dk_at dksX6_counts_6 4 rfl rfl)
theorem dX6_counts_144 : decode cX6_counts 144 = .ok (.aload_n 0, 1) := dk_42 (dk_at dksX6_counts_6 5 rfl rfl)
theorem dX6_counts_145 : decode cX6_counts 145 = .ok (.getfield 41, 3) := dk_180 0 41 (dk_at dksX6_counts_6 6 rfl rfl)
theorem dX6_counts_148 : decode cX6_counts 148 = .ok (.iload_n 2, 1) := dk_28 (dk_at dksX6_counts_6 9 rfl rfl)
theorem dX6_counts_149 : decode cX6_counts 149 = .ok (.iaload, 1) := dk_46 (dk_at dksX6_counts_6 10 rfl rfl)
theorem dX6_counts_150 : decode cX6_counts 150 = .ok (.invokevirtual 122, 3) := dk_182 0 122 (dk_at dksX6_counts_6 11 rfl rfl)
theorem dX6_counts_153 : decode cX6_counts 153 = .ok (.if_icmp .eq 7, 3) := dk_159 0 7 (dk_at dksX6_counts_6 14 rfl rfl)
theorem dX6_counts_156 : decode cX6_counts 156 = .ok (.iconst 1, 1) := dk_4 (dk_at dksX6_counts_6 17 rfl rfl)
theorem dX6_counts_157 : decode cX6_counts 157 = .ok (.goto 4, 3) := dk_167 0 4 (dk_at dksX6_counts_6 18 rfl rfl)
theorem dX6_counts_160 : decode cX6_counts 160 = .ok (.iconst 0, 1) := dk_3 (dk_at dksX6_counts_6 21 rfl rfl)
theorem dX6_counts_161 : decode cX6_counts 161 = .ok (.invokevirtual 118, 3) := dk_182 0 118 (dk_at dksX6_counts_7 0 rfl rfl)
theorem dX6_counts_164 : decode cX6_counts 164 = .ok (.aload_n 0, 1) := dk_42 (dk_at dksX6_counts_7 3 rfl rfl)
theorem dX6_counts_165 : decode cX6_counts 165 = .ok (.iload_n 3, 1) := dk_29 (dk_at dksX6_counts_7 4 rfl rfl)
theorem dX6_counts_166 : decode cX6_counts 166 = .ok (.aload_n 0, 1) := dk_42 (dk_at dksX6_counts_7 5 rfl rfl)
theorem dX6_counts_167 : decode cX6_counts 167 = .ok (.getfield 38, 3) := dk_180 0 38 (dk_at dksX6_counts_7 6 rfl rfl)
theorem dX6_counts_170 : decode cX6_counts 170 = .ok (.iload_n 2, 1) := dk_28 (dk_at dksX6_counts_7 9 rfl rfl)
theorem dX6_counts_171 : decode cX6_counts 171 = .ok (.iaload, 1) := dk_46 (dk_at dksX6_counts_7 10 rfl rfl)
theorem dX6_counts_172 : decode cX6_counts 172 = .ok (.iconst (-1), 1) := dk_2 (dk_at dksX6_counts_7 11 rfl rfl)
theorem dX6_counts_173 : decode cX6_counts 173 = .ok (.if_icmp .eq 27, 3) := dk_159 0 27 (dk_at dksX6_counts_7 12 rfl rfl)
theorem dX6_counts_176 : decode cX6_counts 176 = .ok (.aload_n 0, 1) := dk_42 (dk_at dksX6_counts_7 15 rfl rfl)
theorem dX6_counts_177 : decode cX6_counts 177 = .ok (.iload_n 1, 1) := dk_27 (dk_at dksX6_counts_7 16 rfl rfl)
theorem dX6_counts_178 : decode cX6_counts 178 = .ok (.iload_n 2, 1) := dk_28 (dk_at dksX6_counts_7 17 rfl rfl)
theorem dX6_counts_179 : decode cX6_counts 179 = .ok (.invokevirtual 122, 3) := dk_182 0 122 (dk_at dksX6_counts_7 18 rfl rfl)
theorem dX6_counts_182 : decode cX6_counts 182 = .ok (.aload_n 0, 1) := dk_42 (dk_at dksX6_counts_7 21 rfl rfl)
theorem dX6_counts_183 : decode cX6_counts 183 = .ok (.iload_n 1, 1) := dk_27 (dk_at dksX6_counts_7 22 rfl rfl)
theorem dX6_counts_184 : decode cX6_counts 184 = .ok (.aload_n 0, 1) := dk_42 (dk_at dksX6_counts_7 23 rfl rfl)
theorem dX6_counts_185 : decode cX6_counts 185 = .ok (.getfield 38, 3) := dk_180 0 38 (dk_at dksX6_counts_8 0 rfl rfl)
theorem dX6_counts_188 : decode cX6_counts 188 = .ok (.iload_n 2, 1) := dk_28 (dk_at dksX6_counts_8 3 rfl rfl)
theorem dX6_counts_189 : decode cX6_counts 189 = .ok (.iaload, 1) := dk_46 (dk_at dksX6_counts_8 4 rfl rfl)
theorem dX6_counts_190 : decode cX6_counts 190 = .ok (.invokevirtual 122, 3) := dk_182 0 122 (dk_at dksX6_counts_8 5 rfl rfl)
theorem dX6_counts_193 : decode cX6_counts 193 = .ok (.if_icmp .le 7, 3) := dk_164 0 7 (dk_at dksX6_counts_8 8 rfl rfl)
theorem dX6_counts_196 : decode cX6_counts 196 = .ok (.iconst 1, 1) := dk_4 (dk_at dksX6_counts_8 11 rfl rfl)
theorem dX6_counts_197 : decode cX6_counts 197 = .ok (.goto 4, 3) := dk_167 0 4 (dk_at dksX6_counts_8 12 rfl rfl)
theorem dX6_counts_200 : decode cX6_counts 200 = .ok (.iconst 0, 1) := dk_3 (dk_at dksX6_counts_8 15 rfl rfl)
theorem dX6_counts_201 : decode cX6_counts 201 = .ok (.invokevirtual 118, 3) := dk_182 0 118 (dk_at dksX6_counts_8 16 rfl rfl)
theorem dX6_counts_204 : decode cX6_counts 204 = .ok (.iinc 2 1, 3) := dk_132 2 1 (dk_at dksX6_counts_8 19 rfl rfl)
theorem dX6_counts_207 : decode cX6_counts 207 = .ok (.goto (-195), 3) := dk_167 255 61 (dk_at dksX6_counts_9 0 rfl rfl)
theorem dX6_counts_210 : decode cX6_counts 210 = .ok (.return_, 1) := dk_177 (dk_at dksX6_counts_9 3 rfl rfl)
abbrev cX6_blames : ByteArray := prog_23_method_17_code
def yX6_blames : MethodName := ⟨RX6, "blames", "(IZ)V"⟩
def dkwX6_blames_1 : List UInt8 := [42, 180, 0, 115, 162, 0, 8, 42, 27, 181, 0, 115, 177]
abbrev dktX6_blames_1 : List UInt8 := dkwX6_blames_1 ++ []
def dkwX6_blames_0 : List UInt8 := [28, 154, 0, 4, 177, 42, 89, 180, 0, 112, 4, 96, 181, 0, 112, 42, 180, 0, 115, 2, 159, 0, 11, 27]
abbrev dktX6_blames_0 : List UInt8 := dkwX6_blames_0 ++ dktX6_blames_1
theorem dksX6_blames_0 : cX6_blames.data.toList.drop 0 = dktX6_blames_0 := by decide +kernel
theorem dksX6_blames_1 : cX6_blames.data.toList.drop 24 = dktX6_blames_1 := dk_seg dksX6_blames_0 24 rfl rfl
theorem dX6_blames_0 : decode cX6_blames 0 = .ok (.iload_n 2, 1) := dk_28 (dk_at dksX6_blames_0 0 rfl rfl)
theorem dX6_blames_1 : decode cX6_blames 1 = .ok (.ifCond .ne 4, 3) := dk_154 0 4 (dk_at dksX6_blames_0 1 rfl rfl)
theorem dX6_blames_4 : decode cX6_blames 4 = .ok (.return_, 1) := dk_177 (dk_at dksX6_blames_0 4 rfl rfl)
theorem dX6_blames_5 : decode cX6_blames 5 = .ok (.aload_n 0, 1) := dk_42 (dk_at dksX6_blames_0 5 rfl rfl)
theorem dX6_blames_6 : decode cX6_blames 6 = .ok (.dup, 1) := dk_89 (dk_at dksX6_blames_0 6 rfl rfl)
theorem dX6_blames_7 : decode cX6_blames 7 = .ok (.getfield 112, 3) := dk_180 0 112 (dk_at dksX6_blames_0 7 rfl rfl)
theorem dX6_blames_10 : decode cX6_blames 10 = .ok (.iconst 1, 1) := dk_4 (dk_at dksX6_blames_0 10 rfl rfl)
theorem dX6_blames_11 : decode cX6_blames 11 = .ok (.iadd, 1) := dk_96 (dk_at dksX6_blames_0 11 rfl rfl)
theorem dX6_blames_12 : decode cX6_blames 12 = .ok (.putfield 112, 3) := dk_181 0 112 (dk_at dksX6_blames_0 12 rfl rfl)
theorem dX6_blames_15 : decode cX6_blames 15 = .ok (.aload_n 0, 1) := dk_42 (dk_at dksX6_blames_0 15 rfl rfl)
theorem dX6_blames_16 : decode cX6_blames 16 = .ok (.getfield 115, 3) := dk_180 0 115 (dk_at dksX6_blames_0 16 rfl rfl)
theorem dX6_blames_19 : decode cX6_blames 19 = .ok (.iconst (-1), 1) := dk_2 (dk_at dksX6_blames_0 19 rfl rfl)
theorem dX6_blames_20 : decode cX6_blames 20 = .ok (.if_icmp .eq 11, 3) := dk_159 0 11 (dk_at dksX6_blames_0 20 rfl rfl)
theorem dX6_blames_23 : decode cX6_blames 23 = .ok (.iload_n 1, 1) := dk_27 (dk_at dksX6_blames_0 23 rfl rfl)
theorem dX6_blames_24 : decode cX6_blames 24 = .ok (.aload_n 0, 1) := dk_42 (dk_at dksX6_blames_1 0 rfl rfl)
theorem dX6_blames_25 : decode cX6_blames 25 = .ok (.getfield 115, 3) := dk_180 0 115 (dk_at dksX6_blames_1 1 rfl rfl)
theorem dX6_blames_28 : decode cX6_blames 28 = .ok (.if_icmp .ge 8, 3) := dk_162 0 8 (dk_at dksX6_blames_1 4 rfl rfl)
theorem dX6_blames_31 : decode cX6_blames 31 = .ok (.aload_n 0, 1) := dk_42 (dk_at dksX6_blames_1 7 rfl rfl)
theorem dX6_blames_32 : decode cX6_blames 32 = .ok (.iload_n 1, 1) := dk_27 (dk_at dksX6_blames_1 8 rfl rfl)
theorem dX6_blames_33 : decode cX6_blames 33 = .ok (.putfield 115, 3) := dk_181 0 115 (dk_at dksX6_blames_1 9 rfl rfl)
theorem dX6_blames_36 : decode cX6_blames 36 = .ok (.return_, 1) := dk_177 (dk_at dksX6_blames_1 12 rfl rfl)
abbrev cX6_disagreementCountByLoop : ByteArray := prog_23_method_65_code
def yX6_disagreementCountByLoop : MethodName := ⟨RX6, "disagreementCountByLoop", "(I)I"⟩
def dkwX6_disagreementCountByLoop_0 : List UInt8 := [42, 27, 182, 0, 204, 172]
abbrev dktX6_disagreementCountByLoop_0 : List UInt8 := dkwX6_disagreementCountByLoop_0 ++ []
theorem dksX6_disagreementCountByLoop_0 : cX6_disagreementCountByLoop.data.toList.drop 0 = dktX6_disagreementCountByLoop_0 := by decide +kernel
theorem dX6_disagreementCountByLoop_0 : decode cX6_disagreementCountByLoop 0 = .ok (.aload_n 0, 1) := dk_42 (dk_at dksX6_disagreementCountByLoop_0 0 rfl rfl)
theorem dX6_disagreementCountByLoop_1 : decode cX6_disagreementCountByLoop 1 = .ok (.iload_n 1, 1) := dk_27 (dk_at dksX6_disagreementCountByLoop_0 1 rfl rfl)
theorem dX6_disagreementCountByLoop_2 : decode cX6_disagreementCountByLoop 2 = .ok (.invokevirtual 204, 3) := dk_182 0 204 (dk_at dksX6_disagreementCountByLoop_0 2 rfl rfl)
theorem dX6_disagreementCountByLoop_5 : decode cX6_disagreementCountByLoop 5 = .ok (.ireturn, 1) := dk_172 (dk_at dksX6_disagreementCountByLoop_0 5 rfl rfl)
abbrev cX6_firstDisagreement : ByteArray := prog_23_method_66_code
def yX6_firstDisagreement : MethodName := ⟨RX6, "firstDisagreement", "(I)I"⟩
def dkwX6_firstDisagreement_1 : List UInt8 := [167, 0, 7, 42, 180, 0, 115, 172]
abbrev dktX6_firstDisagreement_1 : List UInt8 := dkwX6_firstDisagreement_1 ++ []
def dkwX6_firstDisagreement_0 : List UInt8 := [42, 27, 182, 0, 201, 154, 0, 5, 3, 172, 42, 180, 0, 112, 154, 0, 11, 42, 5, 182, 0, 75]
abbrev dktX6_firstDisagreement_0 : List UInt8 := dkwX6_firstDisagreement_0 ++ dktX6_firstDisagreement_1
theorem dksX6_firstDisagreement_0 : cX6_firstDisagreement.data.toList.drop 0 = dktX6_firstDisagreement_0 := by decide +kernel
theorem dksX6_firstDisagreement_1 : cX6_firstDisagreement.data.toList.drop 22 = dktX6_firstDisagreement_1 := dk_seg dksX6_firstDisagreement_0 22 rfl rfl
theorem dX6_firstDisagreement_0 : decode cX6_firstDisagreement 0 = .ok (.aload_n 0, 1) := dk_42 (dk_at dksX6_firstDisagreement_0 0 rfl rfl)
theorem dX6_firstDisagreement_1 : decode cX6_firstDisagreement 1 = .ok (.iload_n 1, 1) := dk_27 (dk_at dksX6_firstDisagreement_0 1 rfl rfl)
theorem dX6_firstDisagreement_2 : decode cX6_firstDisagreement 2 = .ok (.invokevirtual 201, 3) := dk_182 0 201 (dk_at dksX6_firstDisagreement_0 2 rfl rfl)
theorem dX6_firstDisagreement_5 : decode cX6_firstDisagreement 5 = .ok (.ifCond .ne 5, 3) := dk_154 0 5 (dk_at dksX6_firstDisagreement_0 5 rfl rfl)
theorem dX6_firstDisagreement_8 : decode cX6_firstDisagreement 8 = .ok (.iconst 0, 1) := dk_3 (dk_at dksX6_firstDisagreement_0 8 rfl rfl)
theorem dX6_firstDisagreement_9 : decode cX6_firstDisagreement 9 = .ok (.ireturn, 1) := dk_172 (dk_at dksX6_firstDisagreement_0 9 rfl rfl)
theorem dX6_firstDisagreement_10 : decode cX6_firstDisagreement 10 = .ok (.aload_n 0, 1) := dk_42 (dk_at dksX6_firstDisagreement_0 10 rfl rfl)
theorem dX6_firstDisagreement_11 : decode cX6_firstDisagreement 11 = .ok (.getfield 112, 3) := dk_180 0 112 (dk_at dksX6_firstDisagreement_0 11 rfl rfl)
theorem dX6_firstDisagreement_14 : decode cX6_firstDisagreement 14 = .ok (.ifCond .ne 11, 3) := dk_154 0 11 (dk_at dksX6_firstDisagreement_0 14 rfl rfl)
theorem dX6_firstDisagreement_17 : decode cX6_firstDisagreement 17 = .ok (.aload_n 0, 1) := dk_42 (dk_at dksX6_firstDisagreement_0 17 rfl rfl)
theorem dX6_firstDisagreement_18 : decode cX6_firstDisagreement 18 = .ok (.iconst 2, 1) := dk_5 (dk_at dksX6_firstDisagreement_0 18 rfl rfl)
theorem dX6_firstDisagreement_19 : decode cX6_firstDisagreement 19 = .ok (.invokevirtual 75, 3) := dk_182 0 75 (dk_at dksX6_firstDisagreement_0 19 rfl rfl)
theorem dX6_firstDisagreement_22 : decode cX6_firstDisagreement 22 = .ok (.goto 7, 3) := dk_167 0 7 (dk_at dksX6_firstDisagreement_1 0 rfl rfl)
theorem dX6_firstDisagreement_25 : decode cX6_firstDisagreement 25 = .ok (.aload_n 0, 1) := dk_42 (dk_at dksX6_firstDisagreement_1 3 rfl rfl)
theorem dX6_firstDisagreement_26 : decode cX6_firstDisagreement 26 = .ok (.getfield 115, 3) := dk_180 0 115 (dk_at dksX6_firstDisagreement_1 4 rfl rfl)
theorem dX6_firstDisagreement_29 : decode cX6_firstDisagreement 29 = .ok (.ireturn, 1) := dk_172 (dk_at dksX6_firstDisagreement_1 7 rfl rfl)
abbrev cX6_isShut : ByteArray := prog_23_method_67_code
def yX6_isShut : MethodName := ⟨RX6, "isShut", "(I)Z"⟩
def dkwX6_isShut_1 : List UInt8 := [27, 182, 0, 147, 153, 0, 7, 4, 167, 0, 4, 3, 172]
abbrev dktX6_isShut_1 : List UInt8 := dkwX6_isShut_1 ++ []
def dkwX6_isShut_0 : List UInt8 := [42, 27, 184, 0, 136, 153, 0, 7, 3, 167, 0, 4, 4, 181, 0, 62, 42, 180, 0, 62, 154, 0, 15, 42]
abbrev dktX6_isShut_0 : List UInt8 := dkwX6_isShut_0 ++ dktX6_isShut_1
theorem dksX6_isShut_0 : cX6_isShut.data.toList.drop 0 = dktX6_isShut_0 := by decide +kernel
theorem dksX6_isShut_1 : cX6_isShut.data.toList.drop 24 = dktX6_isShut_1 := dk_seg dksX6_isShut_0 24 rfl rfl
theorem dX6_isShut_0 : decode cX6_isShut 0 = .ok (.aload_n 0, 1) := dk_42 (dk_at dksX6_isShut_0 0 rfl rfl)
theorem dX6_isShut_1 : decode cX6_isShut 1 = .ok (.iload_n 1, 1) := dk_27 (dk_at dksX6_isShut_0 1 rfl rfl)
theorem dX6_isShut_2 : decode cX6_isShut 2 = .ok (.invokestatic 136, 3) := dk_184 0 136 (dk_at dksX6_isShut_0 2 rfl rfl)
theorem dX6_isShut_5 : decode cX6_isShut 5 = .ok (.ifCond .eq 7, 3) := dk_153 0 7 (dk_at dksX6_isShut_0 5 rfl rfl)
theorem dX6_isShut_8 : decode cX6_isShut 8 = .ok (.iconst 0, 1) := dk_3 (dk_at dksX6_isShut_0 8 rfl rfl)
theorem dX6_isShut_9 : decode cX6_isShut 9 = .ok (.goto 4, 3) := dk_167 0 4 (dk_at dksX6_isShut_0 9 rfl rfl)
theorem dX6_isShut_12 : decode cX6_isShut 12 = .ok (.iconst 1, 1) := dk_4 (dk_at dksX6_isShut_0 12 rfl rfl)
theorem dX6_isShut_13 : decode cX6_isShut 13 = .ok (.putfield 62, 3) := dk_181 0 62 (dk_at dksX6_isShut_0 13 rfl rfl)
theorem dX6_isShut_16 : decode cX6_isShut 16 = .ok (.aload_n 0, 1) := dk_42 (dk_at dksX6_isShut_0 16 rfl rfl)
theorem dX6_isShut_17 : decode cX6_isShut 17 = .ok (.getfield 62, 3) := dk_180 0 62 (dk_at dksX6_isShut_0 17 rfl rfl)
theorem dX6_isShut_20 : decode cX6_isShut 20 = .ok (.ifCond .ne 15, 3) := dk_154 0 15 (dk_at dksX6_isShut_0 20 rfl rfl)
theorem dX6_isShut_23 : decode cX6_isShut 23 = .ok (.aload_n 0, 1) := dk_42 (dk_at dksX6_isShut_0 23 rfl rfl)
theorem dX6_isShut_24 : decode cX6_isShut 24 = .ok (.iload_n 1, 1) := dk_27 (dk_at dksX6_isShut_1 0 rfl rfl)
theorem dX6_isShut_25 : decode cX6_isShut 25 = .ok (.invokevirtual 147, 3) := dk_182 0 147 (dk_at dksX6_isShut_1 1 rfl rfl)
theorem dX6_isShut_28 : decode cX6_isShut 28 = .ok (.ifCond .eq 7, 3) := dk_153 0 7 (dk_at dksX6_isShut_1 4 rfl rfl)
theorem dX6_isShut_31 : decode cX6_isShut 31 = .ok (.iconst 1, 1) := dk_4 (dk_at dksX6_isShut_1 7 rfl rfl)
theorem dX6_isShut_32 : decode cX6_isShut 32 = .ok (.goto 4, 3) := dk_167 0 4 (dk_at dksX6_isShut_1 8 rfl rfl)
theorem dX6_isShut_35 : decode cX6_isShut 35 = .ok (.iconst 0, 1) := dk_3 (dk_at dksX6_isShut_1 11 rfl rfl)
theorem dX6_isShut_36 : decode cX6_isShut 36 = .ok (.ireturn, 1) := dk_172 (dk_at dksX6_isShut_1 12 rfl rfl)
abbrev cX6_isShutNow : ByteArray := prog_23_method_19_code
def yX6_isShutNow : MethodName := ⟨RX6, "isShutNow", "(I)Z"⟩
def dkwX6_isShutNow_1 : List UInt8 := [167, 0, 4, 3, 172]
abbrev dktX6_isShutNow_1 : List UInt8 := dkwX6_isShutNow_1 ++ []
def dkwX6_isShutNow_0 : List UInt8 := [42, 27, 182, 0, 125, 154, 0, 5, 3, 172, 42, 27, 182, 0, 129, 42, 180, 0, 112, 154, 0, 7, 4]
abbrev dktX6_isShutNow_0 : List UInt8 := dkwX6_isShutNow_0 ++ dktX6_isShutNow_1
theorem dksX6_isShutNow_0 : cX6_isShutNow.data.toList.drop 0 = dktX6_isShutNow_0 := by decide +kernel
theorem dksX6_isShutNow_1 : cX6_isShutNow.data.toList.drop 23 = dktX6_isShutNow_1 := dk_seg dksX6_isShutNow_0 23 rfl rfl
theorem dX6_isShutNow_0 : decode cX6_isShutNow 0 = .ok (.aload_n 0, 1) := dk_42 (dk_at dksX6_isShutNow_0 0 rfl rfl)
theorem dX6_isShutNow_1 : decode cX6_isShutNow 1 = .ok (.iload_n 1, 1) := dk_27 (dk_at dksX6_isShutNow_0 1 rfl rfl)
theorem dX6_isShutNow_2 : decode cX6_isShutNow 2 = .ok (.invokevirtual 125, 3) := dk_182 0 125 (dk_at dksX6_isShutNow_0 2 rfl rfl)
theorem dX6_isShutNow_5 : decode cX6_isShutNow 5 = .ok (.ifCond .ne 5, 3) := dk_154 0 5 (dk_at dksX6_isShutNow_0 5 rfl rfl)
theorem dX6_isShutNow_8 : decode cX6_isShutNow 8 = .ok (.iconst 0, 1) := dk_3 (dk_at dksX6_isShutNow_0 8 rfl rfl)
theorem dX6_isShutNow_9 : decode cX6_isShutNow 9 = .ok (.ireturn, 1) := dk_172 (dk_at dksX6_isShutNow_0 9 rfl rfl)
theorem dX6_isShutNow_10 : decode cX6_isShutNow 10 = .ok (.aload_n 0, 1) := dk_42 (dk_at dksX6_isShutNow_0 10 rfl rfl)
theorem dX6_isShutNow_11 : decode cX6_isShutNow 11 = .ok (.iload_n 1, 1) := dk_27 (dk_at dksX6_isShutNow_0 11 rfl rfl)
theorem dX6_isShutNow_12 : decode cX6_isShutNow 12 = .ok (.invokevirtual 129, 3) := dk_182 0 129 (dk_at dksX6_isShutNow_0 12 rfl rfl)
theorem dX6_isShutNow_15 : decode cX6_isShutNow 15 = .ok (.aload_n 0, 1) := dk_42 (dk_at dksX6_isShutNow_0 15 rfl rfl)
theorem dX6_isShutNow_16 : decode cX6_isShutNow 16 = .ok (.getfield 112, 3) := dk_180 0 112 (dk_at dksX6_isShutNow_0 16 rfl rfl)
theorem dX6_isShutNow_19 : decode cX6_isShutNow 19 = .ok (.ifCond .ne 7, 3) := dk_154 0 7 (dk_at dksX6_isShutNow_0 19 rfl rfl)
theorem dX6_isShutNow_22 : decode cX6_isShutNow 22 = .ok (.iconst 1, 1) := dk_4 (dk_at dksX6_isShutNow_0 22 rfl rfl)
theorem dX6_isShutNow_23 : decode cX6_isShutNow 23 = .ok (.goto 4, 3) := dk_167 0 4 (dk_at dksX6_isShutNow_1 0 rfl rfl)
theorem dX6_isShutNow_26 : decode cX6_isShutNow 26 = .ok (.iconst 0, 1) := dk_3 (dk_at dksX6_isShutNow_1 3 rfl rfl)
theorem dX6_isShutNow_27 : decode cX6_isShutNow 27 = .ok (.ireturn, 1) := dk_172 (dk_at dksX6_isShutNow_1 4 rfl rfl)
abbrev cX6_shutCount : ByteArray := prog_23_method_68_code
def yX6_shutCount : MethodName := ⟨RX6, "shutCount", "()I"⟩
def dkwX6_shutCount_1 : List UInt8 := [167, 0, 4, 3, 96, 60, 132, 2, 1, 167, 255, 232, 27, 172]
abbrev dktX6_shutCount_1 : List UInt8 := dkwX6_shutCount_1 ++ []
def dkwX6_shutCount_0 : List UInt8 := [42, 3, 181, 0, 62, 3, 60, 3, 61, 28, 7, 162, 0, 25, 27, 42, 28, 182, 0, 147, 153, 0, 7, 4]
abbrev dktX6_shutCount_0 : List UInt8 := dkwX6_shutCount_0 ++ dktX6_shutCount_1
theorem dksX6_shutCount_0 : cX6_shutCount.data.toList.drop 0 = dktX6_shutCount_0 := by decide +kernel
theorem dksX6_shutCount_1 : cX6_shutCount.data.toList.drop 24 = dktX6_shutCount_1 := dk_seg dksX6_shutCount_0 24 rfl rfl
theorem dX6_shutCount_0 : decode cX6_shutCount 0 = .ok (.aload_n 0, 1) := dk_42 (dk_at dksX6_shutCount_0 0 rfl rfl)
theorem dX6_shutCount_1 : decode cX6_shutCount 1 = .ok (.iconst 0, 1) := dk_3 (dk_at dksX6_shutCount_0 1 rfl rfl)
theorem dX6_shutCount_2 : decode cX6_shutCount 2 = .ok (.putfield 62, 3) := dk_181 0 62 (dk_at dksX6_shutCount_0 2 rfl rfl)
theorem dX6_shutCount_5 : decode cX6_shutCount 5 = .ok (.iconst 0, 1) := dk_3 (dk_at dksX6_shutCount_0 5 rfl rfl)
theorem dX6_shutCount_6 : decode cX6_shutCount 6 = .ok (.istore_n 1, 1) := dk_60 (dk_at dksX6_shutCount_0 6 rfl rfl)
theorem dX6_shutCount_7 : decode cX6_shutCount 7 = .ok (.iconst 0, 1) := dk_3 (dk_at dksX6_shutCount_0 7 rfl rfl)
theorem dX6_shutCount_8 : decode cX6_shutCount 8 = .ok (.istore_n 2, 1) := dk_61 (dk_at dksX6_shutCount_0 8 rfl rfl)
theorem dX6_shutCount_9 : decode cX6_shutCount 9 = .ok (.iload_n 2, 1) := dk_28 (dk_at dksX6_shutCount_0 9 rfl rfl)
theorem dX6_shutCount_10 : decode cX6_shutCount 10 = .ok (.iconst 4, 1) := dk_7 (dk_at dksX6_shutCount_0 10 rfl rfl)
theorem dX6_shutCount_11 : decode cX6_shutCount 11 = .ok (.if_icmp .ge 25, 3) := dk_162 0 25 (dk_at dksX6_shutCount_0 11 rfl rfl)
theorem dX6_shutCount_14 : decode cX6_shutCount 14 = .ok (.iload_n 1, 1) := dk_27 (dk_at dksX6_shutCount_0 14 rfl rfl)
theorem dX6_shutCount_15 : decode cX6_shutCount 15 = .ok (.aload_n 0, 1) := dk_42 (dk_at dksX6_shutCount_0 15 rfl rfl)
theorem dX6_shutCount_16 : decode cX6_shutCount 16 = .ok (.iload_n 2, 1) := dk_28 (dk_at dksX6_shutCount_0 16 rfl rfl)
theorem dX6_shutCount_17 : decode cX6_shutCount 17 = .ok (.invokevirtual 147, 3) := dk_182 0 147 (dk_at dksX6_shutCount_0 17 rfl rfl)
theorem dX6_shutCount_20 : decode cX6_shutCount 20 = .ok (.ifCond .eq 7, 3) := dk_153 0 7 (dk_at dksX6_shutCount_0 20 rfl rfl)
theorem dX6_shutCount_23 : decode cX6_shutCount 23 = .ok (.iconst 1, 1) := dk_4 (dk_at dksX6_shutCount_0 23 rfl rfl)
theorem dX6_shutCount_24 : decode cX6_shutCount 24 = .ok (.goto 4, 3) := dk_167 0 4 (dk_at dksX6_shutCount_1 0 rfl rfl)
theorem dX6_shutCount_27 : decode cX6_shutCount 27 = .ok (.iconst 0, 1) := dk_3 (dk_at dksX6_shutCount_1 3 rfl rfl)
theorem dX6_shutCount_28 : decode cX6_shutCount 28 = .ok (.iadd, 1) := dk_96 (dk_at dksX6_shutCount_1 4 rfl rfl)
theorem dX6_shutCount_29 : decode cX6_shutCount 29 = .ok (.istore_n 1, 1) := dk_60 (dk_at dksX6_shutCount_1 5 rfl rfl)
theorem dX6_shutCount_30 : decode cX6_shutCount 30 = .ok (.iinc 2 1, 3) := dk_132 2 1 (dk_at dksX6_shutCount_1 6 rfl rfl)
theorem dX6_shutCount_33 : decode cX6_shutCount 33 = .ok (.goto (-24), 3) := dk_167 255 232 (dk_at dksX6_shutCount_1 9 rfl rfl)
theorem dX6_shutCount_36 : decode cX6_shutCount 36 = .ok (.iload_n 1, 1) := dk_27 (dk_at dksX6_shutCount_1 12 rfl rfl)
theorem dX6_shutCount_37 : decode cX6_shutCount 37 = .ok (.ireturn, 1) := dk_172 (dk_at dksX6_shutCount_1 13 rfl rfl)
abbrev cX6_worstGate : ByteArray := prog_23_method_69_code
def yX6_worstGate : MethodName := ⟨RX6, "worstGate", "()I"⟩
def dkwX6_worstGate_3 : List UInt8 := [172]
abbrev dktX6_worstGate_3 : List UInt8 := dkwX6_worstGate_3 ++ []
def dkwX6_worstGate_2 : List UInt8 := [180, 0, 112, 61, 132, 3, 1, 167, 255, 214, 27, 2, 160, 0, 11, 42, 4, 182, 0, 75, 167, 0, 4, 27]
abbrev dktX6_worstGate_2 : List UInt8 := dkwX6_worstGate_2 ++ dktX6_worstGate_3
def dkwX6_worstGate_1 : List UInt8 := [167, 0, 26, 42, 29, 182, 0, 129, 42, 180, 0, 112, 28, 163, 0, 6, 167, 0, 10, 29, 60, 42]
abbrev dktX6_worstGate_1 : List UInt8 := dkwX6_worstGate_1 ++ dktX6_worstGate_2
def dkwX6_worstGate_0 : List UInt8 := [42, 3, 181, 0, 62, 2, 60, 2, 61, 3, 62, 29, 7, 162, 0, 43, 42, 29, 182, 0, 125, 154, 0, 6]
abbrev dktX6_worstGate_0 : List UInt8 := dkwX6_worstGate_0 ++ dktX6_worstGate_1
theorem dksX6_worstGate_0 : cX6_worstGate.data.toList.drop 0 = dktX6_worstGate_0 := by decide +kernel
theorem dksX6_worstGate_1 : cX6_worstGate.data.toList.drop 24 = dktX6_worstGate_1 := dk_seg dksX6_worstGate_0 24 rfl rfl
theorem dksX6_worstGate_2 : cX6_worstGate.data.toList.drop 46 = dktX6_worstGate_2 := dk_seg dksX6_worstGate_1 22 rfl rfl
theorem dksX6_worstGate_3 : cX6_worstGate.data.toList.drop 70 = dktX6_worstGate_3 := dk_seg dksX6_worstGate_2 24 rfl rfl
theorem dX6_worstGate_0 : decode cX6_worstGate 0 = .ok (.aload_n 0, 1) := dk_42 (dk_at dksX6_worstGate_0 0 rfl rfl)
theorem dX6_worstGate_1 : decode cX6_worstGate 1 = .ok (.iconst 0, 1) := dk_3 (dk_at dksX6_worstGate_0 1 rfl rfl)
theorem dX6_worstGate_2 : decode cX6_worstGate 2 = .ok (.putfield 62, 3) := dk_181 0 62 (dk_at dksX6_worstGate_0 2 rfl rfl)
theorem dX6_worstGate_5 : decode cX6_worstGate 5 = .ok (.iconst (-1), 1) := dk_2 (dk_at dksX6_worstGate_0 5 rfl rfl)
theorem dX6_worstGate_6 : decode cX6_worstGate 6 = .ok (.istore_n 1, 1) := dk_60 (dk_at dksX6_worstGate_0 6 rfl rfl)
theorem dX6_worstGate_7 : decode cX6_worstGate 7 = .ok (.iconst (-1), 1) := dk_2 (dk_at dksX6_worstGate_0 7 rfl rfl)
theorem dX6_worstGate_8 : decode cX6_worstGate 8 = .ok (.istore_n 2, 1) := dk_61 (dk_at dksX6_worstGate_0 8 rfl rfl)
theorem dX6_worstGate_9 : decode cX6_worstGate 9 = .ok (.iconst 0, 1) := dk_3 (dk_at dksX6_worstGate_0 9 rfl rfl)
theorem dX6_worstGate_10 : decode cX6_worstGate 10 = .ok (.istore_n 3, 1) := dk_62 (dk_at dksX6_worstGate_0 10 rfl rfl)
theorem dX6_worstGate_11 : decode cX6_worstGate 11 = .ok (.iload_n 3, 1) := dk_29 (dk_at dksX6_worstGate_0 11 rfl rfl)
theorem dX6_worstGate_12 : decode cX6_worstGate 12 = .ok (.iconst 4, 1) := dk_7 (dk_at dksX6_worstGate_0 12 rfl rfl)
theorem dX6_worstGate_13 : decode cX6_worstGate 13 = .ok (.if_icmp .ge 43, 3) := dk_162 0 43 (dk_at dksX6_worstGate_0 13 rfl rfl)
theorem dX6_worstGate_16 : decode cX6_worstGate 16 = .ok (.aload_n 0, 1) := dk_42 (dk_at dksX6_worstGate_0 16 rfl rfl)
theorem dX6_worstGate_17 : decode cX6_worstGate 17 = .ok (.iload_n 3, 1) := dk_29 (dk_at dksX6_worstGate_0 17 rfl rfl)
theorem dX6_worstGate_18 : decode cX6_worstGate 18 = .ok (.invokevirtual 125, 3) := dk_182 0 125 (dk_at dksX6_worstGate_0 18 rfl rfl)
theorem dX6_worstGate_21 : decode cX6_worstGate 21 = .ok (.ifCond .ne 6, 3) := dk_154 0 6 (dk_at dksX6_worstGate_0 21 rfl rfl)
theorem dX6_worstGate_24 : decode cX6_worstGate 24 = .ok (.goto 26, 3) := dk_167 0 26 (dk_at dksX6_worstGate_1 0 rfl rfl)
theorem dX6_worstGate_27 : decode cX6_worstGate 27 = .ok (.aload_n 0, 1) := dk_42 (dk_at dksX6_worstGate_1 3 rfl rfl)
theorem dX6_worstGate_28 : decode cX6_worstGate 28 = .ok (.iload_n 3, 1) := dk_29 (dk_at dksX6_worstGate_1 4 rfl rfl)
theorem dX6_worstGate_29 : decode cX6_worstGate 29 = .ok (.invokevirtual 129, 3) := dk_182 0 129 (dk_at dksX6_worstGate_1 5 rfl rfl)
theorem dX6_worstGate_32 : decode cX6_worstGate 32 = .ok (.aload_n 0, 1) := dk_42 (dk_at dksX6_worstGate_1 8 rfl rfl)
theorem dX6_worstGate_33 : decode cX6_worstGate 33 = .ok (.getfield 112, 3) := dk_180 0 112 (dk_at dksX6_worstGate_1 9 rfl rfl)
theorem dX6_worstGate_36 : decode cX6_worstGate 36 = .ok (.iload_n 2, 1) := dk_28 (dk_at dksX6_worstGate_1 12 rfl rfl)
theorem dX6_worstGate_37 : decode cX6_worstGate 37 = .ok (.if_icmp .gt 6, 3) := dk_163 0 6 (dk_at dksX6_worstGate_1 13 rfl rfl)
theorem dX6_worstGate_40 : decode cX6_worstGate 40 = .ok (.goto 10, 3) := dk_167 0 10 (dk_at dksX6_worstGate_1 16 rfl rfl)
theorem dX6_worstGate_43 : decode cX6_worstGate 43 = .ok (.iload_n 3, 1) := dk_29 (dk_at dksX6_worstGate_1 19 rfl rfl)
theorem dX6_worstGate_44 : decode cX6_worstGate 44 = .ok (.istore_n 1, 1) := dk_60 (dk_at dksX6_worstGate_1 20 rfl rfl)
theorem dX6_worstGate_45 : decode cX6_worstGate 45 = .ok (.aload_n 0, 1) := dk_42 (dk_at dksX6_worstGate_1 21 rfl rfl)
theorem dX6_worstGate_46 : decode cX6_worstGate 46 = .ok (.getfield 112, 3) := dk_180 0 112 (dk_at dksX6_worstGate_2 0 rfl rfl)
theorem dX6_worstGate_49 : decode cX6_worstGate 49 = .ok (.istore_n 2, 1) := dk_61 (dk_at dksX6_worstGate_2 3 rfl rfl)
theorem dX6_worstGate_50 : decode cX6_worstGate 50 = .ok (.iinc 3 1, 3) := dk_132 3 1 (dk_at dksX6_worstGate_2 4 rfl rfl)
theorem dX6_worstGate_53 : decode cX6_worstGate 53 = .ok (.goto (-42), 3) := dk_167 255 214 (dk_at dksX6_worstGate_2 7 rfl rfl)
theorem dX6_worstGate_56 : decode cX6_worstGate 56 = .ok (.iload_n 1, 1) := dk_27 (dk_at dksX6_worstGate_2 10 rfl rfl)
theorem dX6_worstGate_57 : decode cX6_worstGate 57 = .ok (.iconst (-1), 1) := dk_2 (dk_at dksX6_worstGate_2 11 rfl rfl)
theorem dX6_worstGate_58 : decode cX6_worstGate 58 = .ok (.if_icmp .ne 11, 3) := dk_160 0 11 (dk_at dksX6_worstGate_2 12 rfl rfl)
theorem dX6_worstGate_61 : decode cX6_worstGate 61 = .ok (.aload_n 0, 1) := dk_42 (dk_at dksX6_worstGate_2 15 rfl rfl)
theorem dX6_worstGate_62 : decode cX6_worstGate 62 = .ok (.iconst 1, 1) := dk_4 (dk_at dksX6_worstGate_2 16 rfl rfl)
theorem dX6_worstGate_63 : decode cX6_worstGate 63 = .ok (.invokevirtual 75, 3) := dk_182 0 75 (dk_at dksX6_worstGate_2 17 rfl rfl)
theorem dX6_worstGate_66 : decode cX6_worstGate 66 = .ok (.goto 4, 3) := dk_167 0 4 (dk_at dksX6_worstGate_2 20 rfl rfl)
theorem dX6_worstGate_69 : decode cX6_worstGate 69 = .ok (.iload_n 1, 1) := dk_27 (dk_at dksX6_worstGate_2 23 rfl rfl)
theorem dX6_worstGate_70 : decode cX6_worstGate 70 = .ok (.ireturn, 1) := dk_172 (dk_at dksX6_worstGate_3 0 rfl rfl)
abbrev cX6_walk : ByteArray := prog_23_method_70_code
def yX6_walk : MethodName := ⟨RX6, "walk", "(I)I"⟩
def dkwX6_walk_0 : List UInt8 := [42, 182, 0, 150, 42, 42, 27, 182, 0, 207, 182, 0, 156, 172]
abbrev dktX6_walk_0 : List UInt8 := dkwX6_walk_0 ++ []
theorem dksX6_walk_0 : cX6_walk.data.toList.drop 0 = dktX6_walk_0 := by decide +kernel
theorem dX6_walk_0 : decode cX6_walk 0 = .ok (.aload_n 0, 1) := dk_42 (dk_at dksX6_walk_0 0 rfl rfl)
theorem dX6_walk_1 : decode cX6_walk 1 = .ok (.invokevirtual 150, 3) := dk_182 0 150 (dk_at dksX6_walk_0 1 rfl rfl)
theorem dX6_walk_4 : decode cX6_walk 4 = .ok (.aload_n 0, 1) := dk_42 (dk_at dksX6_walk_0 4 rfl rfl)
theorem dX6_walk_5 : decode cX6_walk 5 = .ok (.aload_n 0, 1) := dk_42 (dk_at dksX6_walk_0 5 rfl rfl)
theorem dX6_walk_6 : decode cX6_walk 6 = .ok (.iload_n 1, 1) := dk_27 (dk_at dksX6_walk_0 6 rfl rfl)
theorem dX6_walk_7 : decode cX6_walk 7 = .ok (.invokevirtual 207, 3) := dk_182 0 207 (dk_at dksX6_walk_0 7 rfl rfl)
theorem dX6_walk_10 : decode cX6_walk 10 = .ok (.invokevirtual 156, 3) := dk_182 0 156 (dk_at dksX6_walk_0 10 rfl rfl)
theorem dX6_walk_13 : decode cX6_walk 13 = .ok (.ireturn, 1) := dk_172 (dk_at dksX6_walk_0 13 rfl rfl)
abbrev cX6_walks : ByteArray := prog_23_method_31_code
def yX6_walks : MethodName := ⟨RX6, "walks", "(I)I"⟩
def dkwX6_walks_2 : List UInt8 := [104, 96, 4, 96, 46, 182, 0, 133, 172]
abbrev dktX6_walks_2 : List UInt8 := dkwX6_walks_2 ++ []
def dkwX6_walks_1 : List UInt8 := [16, 18, 16, 74, 27, 104, 96, 4, 96, 92, 46, 4, 96, 79, 42, 42, 180, 0, 7, 16, 18, 16, 74, 27]
abbrev dktX6_walks_1 : List UInt8 := dkwX6_walks_1 ++ dktX6_walks_2
def dkwX6_walks_0 : List UInt8 := [27, 184, 0, 136, 154, 0, 5, 4, 172, 42, 27, 182, 0, 147, 153, 0, 5, 5, 172, 42, 180, 0, 7]
abbrev dktX6_walks_0 : List UInt8 := dkwX6_walks_0 ++ dktX6_walks_1
theorem dksX6_walks_0 : cX6_walks.data.toList.drop 0 = dktX6_walks_0 := by decide +kernel
theorem dksX6_walks_1 : cX6_walks.data.toList.drop 23 = dktX6_walks_1 := dk_seg dksX6_walks_0 23 rfl rfl
theorem dksX6_walks_2 : cX6_walks.data.toList.drop 47 = dktX6_walks_2 := dk_seg dksX6_walks_1 24 rfl rfl
theorem dX6_walks_0 : decode cX6_walks 0 = .ok (.iload_n 1, 1) := dk_27 (dk_at dksX6_walks_0 0 rfl rfl)
theorem dX6_walks_1 : decode cX6_walks 1 = .ok (.invokestatic 136, 3) := dk_184 0 136 (dk_at dksX6_walks_0 1 rfl rfl)
theorem dX6_walks_4 : decode cX6_walks 4 = .ok (.ifCond .ne 5, 3) := dk_154 0 5 (dk_at dksX6_walks_0 4 rfl rfl)
theorem dX6_walks_7 : decode cX6_walks 7 = .ok (.iconst 1, 1) := dk_4 (dk_at dksX6_walks_0 7 rfl rfl)
theorem dX6_walks_8 : decode cX6_walks 8 = .ok (.ireturn, 1) := dk_172 (dk_at dksX6_walks_0 8 rfl rfl)
theorem dX6_walks_9 : decode cX6_walks 9 = .ok (.aload_n 0, 1) := dk_42 (dk_at dksX6_walks_0 9 rfl rfl)
theorem dX6_walks_10 : decode cX6_walks 10 = .ok (.iload_n 1, 1) := dk_27 (dk_at dksX6_walks_0 10 rfl rfl)
theorem dX6_walks_11 : decode cX6_walks 11 = .ok (.invokevirtual 147, 3) := dk_182 0 147 (dk_at dksX6_walks_0 11 rfl rfl)
theorem dX6_walks_14 : decode cX6_walks 14 = .ok (.ifCond .eq 5, 3) := dk_153 0 5 (dk_at dksX6_walks_0 14 rfl rfl)
theorem dX6_walks_17 : decode cX6_walks 17 = .ok (.iconst 2, 1) := dk_5 (dk_at dksX6_walks_0 17 rfl rfl)
theorem dX6_walks_18 : decode cX6_walks 18 = .ok (.ireturn, 1) := dk_172 (dk_at dksX6_walks_0 18 rfl rfl)
theorem dX6_walks_19 : decode cX6_walks 19 = .ok (.aload_n 0, 1) := dk_42 (dk_at dksX6_walks_0 19 rfl rfl)
theorem dX6_walks_20 : decode cX6_walks 20 = .ok (.getfield 7, 3) := dk_180 0 7 (dk_at dksX6_walks_0 20 rfl rfl)
theorem dX6_walks_23 : decode cX6_walks 23 = .ok (.bipush 18, 2) := dk_16 18 (dk_at dksX6_walks_1 0 rfl rfl)
theorem dX6_walks_25 : decode cX6_walks 25 = .ok (.bipush 74, 2) := dk_16 74 (dk_at dksX6_walks_1 2 rfl rfl)
theorem dX6_walks_27 : decode cX6_walks 27 = .ok (.iload_n 1, 1) := dk_27 (dk_at dksX6_walks_1 4 rfl rfl)
theorem dX6_walks_28 : decode cX6_walks 28 = .ok (.imul, 1) := dk_104 (dk_at dksX6_walks_1 5 rfl rfl)
theorem dX6_walks_29 : decode cX6_walks 29 = .ok (.iadd, 1) := dk_96 (dk_at dksX6_walks_1 6 rfl rfl)
theorem dX6_walks_30 : decode cX6_walks 30 = .ok (.iconst 1, 1) := dk_4 (dk_at dksX6_walks_1 7 rfl rfl)
theorem dX6_walks_31 : decode cX6_walks 31 = .ok (.iadd, 1) := dk_96 (dk_at dksX6_walks_1 8 rfl rfl)
theorem dX6_walks_32 : decode cX6_walks 32 = .ok (.dup2, 1) := dk_92 (dk_at dksX6_walks_1 9 rfl rfl)
theorem dX6_walks_33 : decode cX6_walks 33 = .ok (.iaload, 1) := dk_46 (dk_at dksX6_walks_1 10 rfl rfl)
theorem dX6_walks_34 : decode cX6_walks 34 = .ok (.iconst 1, 1) := dk_4 (dk_at dksX6_walks_1 11 rfl rfl)
theorem dX6_walks_35 : decode cX6_walks 35 = .ok (.iadd, 1) := dk_96 (dk_at dksX6_walks_1 12 rfl rfl)
theorem dX6_walks_36 : decode cX6_walks 36 = .ok (.iastore, 1) := dk_79 (dk_at dksX6_walks_1 13 rfl rfl)
theorem dX6_walks_37 : decode cX6_walks 37 = .ok (.aload_n 0, 1) := dk_42 (dk_at dksX6_walks_1 14 rfl rfl)
theorem dX6_walks_38 : decode cX6_walks 38 = .ok (.aload_n 0, 1) := dk_42 (dk_at dksX6_walks_1 15 rfl rfl)
theorem dX6_walks_39 : decode cX6_walks 39 = .ok (.getfield 7, 3) := dk_180 0 7 (dk_at dksX6_walks_1 16 rfl rfl)
theorem dX6_walks_42 : decode cX6_walks 42 = .ok (.bipush 18, 2) := dk_16 18 (dk_at dksX6_walks_1 19 rfl rfl)
theorem dX6_walks_44 : decode cX6_walks 44 = .ok (.bipush 74, 2) := dk_16 74 (dk_at dksX6_walks_1 21 rfl rfl)
theorem dX6_walks_46 : decode cX6_walks 46 = .ok (.iload_n 1, 1) := dk_27 (dk_at dksX6_walks_1 23 rfl rfl)
theorem dX6_walks_47 : decode cX6_walks 47 = .ok (.imul, 1) := dk_104 (dk_at dksX6_walks_2 0 rfl rfl)
theorem dX6_walks_48 : decode cX6_walks 48 = .ok (.iadd, 1) := dk_96 (dk_at dksX6_walks_2 1 rfl rfl)
theorem dX6_walks_49 : decode cX6_walks 49 = .ok (.iconst 1, 1) := dk_4 (dk_at dksX6_walks_2 2 rfl rfl)
theorem dX6_walks_50 : decode cX6_walks 50 = .ok (.iadd, 1) := dk_96 (dk_at dksX6_walks_2 3 rfl rfl)
theorem dX6_walks_51 : decode cX6_walks 51 = .ok (.iaload, 1) := dk_46 (dk_at dksX6_walks_2 4 rfl rfl)
theorem dX6_walks_52 : decode cX6_walks 52 = .ok (.invokevirtual 133, 3) := dk_182 0 133 (dk_at dksX6_walks_2 5 rfl rfl)
theorem dX6_walks_55 : decode cX6_walks 55 = .ok (.ireturn, 1) := dk_172 (dk_at dksX6_walks_2 8 rfl rfl)
abbrev cX6_walkCount : ByteArray := prog_23_method_72_code
def yX6_walkCount : MethodName := ⟨RX6, "walkCount", "(I)I"⟩
def dkwX6_walkCount_1 : List UInt8 := [167, 0, 8, 42, 27, 182, 0, 210, 172]
abbrev dktX6_walkCount_1 : List UInt8 := dkwX6_walkCount_1 ++ []
def dkwX6_walkCount_0 : List UInt8 := [42, 27, 184, 0, 136, 153, 0, 7, 3, 167, 0, 4, 4, 181, 0, 62, 42, 180, 0, 62, 158, 0, 7, 3]
abbrev dktX6_walkCount_0 : List UInt8 := dkwX6_walkCount_0 ++ dktX6_walkCount_1
theorem dksX6_walkCount_0 : cX6_walkCount.data.toList.drop 0 = dktX6_walkCount_0 := by decide +kernel
theorem dksX6_walkCount_1 : cX6_walkCount.data.toList.drop 24 = dktX6_walkCount_1 := dk_seg dksX6_walkCount_0 24 rfl rfl
theorem dX6_walkCount_0 : decode cX6_walkCount 0 = .ok (.aload_n 0, 1) := dk_42 (dk_at dksX6_walkCount_0 0 rfl rfl)
theorem dX6_walkCount_1 : decode cX6_walkCount 1 = .ok (.iload_n 1, 1) := dk_27 (dk_at dksX6_walkCount_0 1 rfl rfl)
theorem dX6_walkCount_2 : decode cX6_walkCount 2 = .ok (.invokestatic 136, 3) := dk_184 0 136 (dk_at dksX6_walkCount_0 2 rfl rfl)
theorem dX6_walkCount_5 : decode cX6_walkCount 5 = .ok (.ifCond .eq 7, 3) := dk_153 0 7 (dk_at dksX6_walkCount_0 5 rfl rfl)
theorem dX6_walkCount_8 : decode cX6_walkCount 8 = .ok (.iconst 0, 1) := dk_3 (dk_at dksX6_walkCount_0 8 rfl rfl)
theorem dX6_walkCount_9 : decode cX6_walkCount 9 = .ok (.goto 4, 3) := dk_167 0 4 (dk_at dksX6_walkCount_0 9 rfl rfl)
theorem dX6_walkCount_12 : decode cX6_walkCount 12 = .ok (.iconst 1, 1) := dk_4 (dk_at dksX6_walkCount_0 12 rfl rfl)
theorem dX6_walkCount_13 : decode cX6_walkCount 13 = .ok (.putfield 62, 3) := dk_181 0 62 (dk_at dksX6_walkCount_0 13 rfl rfl)
theorem dX6_walkCount_16 : decode cX6_walkCount 16 = .ok (.aload_n 0, 1) := dk_42 (dk_at dksX6_walkCount_0 16 rfl rfl)
theorem dX6_walkCount_17 : decode cX6_walkCount 17 = .ok (.getfield 62, 3) := dk_180 0 62 (dk_at dksX6_walkCount_0 17 rfl rfl)
theorem dX6_walkCount_20 : decode cX6_walkCount 20 = .ok (.ifCond .le 7, 3) := dk_158 0 7 (dk_at dksX6_walkCount_0 20 rfl rfl)
theorem dX6_walkCount_23 : decode cX6_walkCount 23 = .ok (.iconst 0, 1) := dk_3 (dk_at dksX6_walkCount_0 23 rfl rfl)
theorem dX6_walkCount_24 : decode cX6_walkCount 24 = .ok (.goto 8, 3) := dk_167 0 8 (dk_at dksX6_walkCount_1 0 rfl rfl)
theorem dX6_walkCount_27 : decode cX6_walkCount 27 = .ok (.aload_n 0, 1) := dk_42 (dk_at dksX6_walkCount_1 3 rfl rfl)
theorem dX6_walkCount_28 : decode cX6_walkCount 28 = .ok (.iload_n 1, 1) := dk_27 (dk_at dksX6_walkCount_1 4 rfl rfl)
theorem dX6_walkCount_29 : decode cX6_walkCount 29 = .ok (.invokevirtual 210, 3) := dk_182 0 210 (dk_at dksX6_walkCount_1 5 rfl rfl)
theorem dX6_walkCount_32 : decode cX6_walkCount 32 = .ok (.ireturn, 1) := dk_172 (dk_at dksX6_walkCount_1 8 rfl rfl)
abbrev cX6_walked : ByteArray := prog_23_method_71_code
def yX6_walked : MethodName := ⟨RX6, "walked", "(I)I"⟩
def dkwX6_walked_0 : List UInt8 := [42, 180, 0, 7, 16, 18, 16, 74, 27, 104, 96, 4, 96, 46, 172]
abbrev dktX6_walked_0 : List UInt8 := dkwX6_walked_0 ++ []
theorem dksX6_walked_0 : cX6_walked.data.toList.drop 0 = dktX6_walked_0 := by decide +kernel
theorem dX6_walked_0 : decode cX6_walked 0 = .ok (.aload_n 0, 1) := dk_42 (dk_at dksX6_walked_0 0 rfl rfl)
theorem dX6_walked_1 : decode cX6_walked 1 = .ok (.getfield 7, 3) := dk_180 0 7 (dk_at dksX6_walked_0 1 rfl rfl)
theorem dX6_walked_4 : decode cX6_walked 4 = .ok (.bipush 18, 2) := dk_16 18 (dk_at dksX6_walked_0 4 rfl rfl)
theorem dX6_walked_6 : decode cX6_walked 6 = .ok (.bipush 74, 2) := dk_16 74 (dk_at dksX6_walked_0 6 rfl rfl)
theorem dX6_walked_8 : decode cX6_walked 8 = .ok (.iload_n 1, 1) := dk_27 (dk_at dksX6_walked_0 8 rfl rfl)
theorem dX6_walked_9 : decode cX6_walked 9 = .ok (.imul, 1) := dk_104 (dk_at dksX6_walked_0 9 rfl rfl)
theorem dX6_walked_10 : decode cX6_walked 10 = .ok (.iadd, 1) := dk_96 (dk_at dksX6_walked_0 10 rfl rfl)
theorem dX6_walked_11 : decode cX6_walked 11 = .ok (.iconst 1, 1) := dk_4 (dk_at dksX6_walked_0 11 rfl rfl)
theorem dX6_walked_12 : decode cX6_walked 12 = .ok (.iadd, 1) := dk_96 (dk_at dksX6_walked_0 12 rfl rfl)
theorem dX6_walked_13 : decode cX6_walked 13 = .ok (.iaload, 1) := dk_46 (dk_at dksX6_walked_0 13 rfl rfl)
theorem dX6_walked_14 : decode cX6_walked 14 = .ok (.ireturn, 1) := dk_172 (dk_at dksX6_walked_0 14 rfl rfl)
abbrev cX6_gateAtRank : ByteArray := prog_23_method_74_code
def yX6_gateAtRank : MethodName := ⟨RX6, "gateAtRank", "(I)I"⟩
def dkwX6_gateAtRank_3 : List UInt8 := [172]
abbrev dktX6_gateAtRank_3 : List UInt8 := dkwX6_gateAtRank_3 ++ []
def dkwX6_gateAtRank_2 : List UInt8 := [132, 4, 1, 167, 255, 223, 29, 27, 160, 0, 5, 28, 172, 132, 2, 1, 167, 255, 200, 42, 4, 182, 0, 75]
abbrev dktX6_gateAtRank_2 : List UInt8 := dkwX6_gateAtRank_2 ++ dktX6_gateAtRank_3
def dkwX6_gateAtRank_1 : List UInt8 := [21, 4, 28, 159, 0, 17, 42, 21, 4, 28, 182, 0, 213, 153, 0, 7, 4, 167, 0, 4, 3, 96, 62]
abbrev dktX6_gateAtRank_1 : List UInt8 := dkwX6_gateAtRank_1 ++ dktX6_gateAtRank_2
def dkwX6_gateAtRank_0 : List UInt8 := [42, 3, 181, 0, 62, 3, 61, 28, 7, 162, 0, 57, 3, 62, 3, 54, 4, 21, 4, 7, 162, 0, 33, 29]
abbrev dktX6_gateAtRank_0 : List UInt8 := dkwX6_gateAtRank_0 ++ dktX6_gateAtRank_1
theorem dksX6_gateAtRank_0 : cX6_gateAtRank.data.toList.drop 0 = dktX6_gateAtRank_0 := by decide +kernel
theorem dksX6_gateAtRank_1 : cX6_gateAtRank.data.toList.drop 24 = dktX6_gateAtRank_1 := dk_seg dksX6_gateAtRank_0 24 rfl rfl
theorem dksX6_gateAtRank_2 : cX6_gateAtRank.data.toList.drop 47 = dktX6_gateAtRank_2 := dk_seg dksX6_gateAtRank_1 23 rfl rfl
theorem dksX6_gateAtRank_3 : cX6_gateAtRank.data.toList.drop 71 = dktX6_gateAtRank_3 := dk_seg dksX6_gateAtRank_2 24 rfl rfl
theorem dX6_gateAtRank_0 : decode cX6_gateAtRank 0 = .ok (.aload_n 0, 1) := dk_42 (dk_at dksX6_gateAtRank_0 0 rfl rfl)
theorem dX6_gateAtRank_1 : decode cX6_gateAtRank 1 = .ok (.iconst 0, 1) := dk_3 (dk_at dksX6_gateAtRank_0 1 rfl rfl)
theorem dX6_gateAtRank_2 : decode cX6_gateAtRank 2 = .ok (.putfield 62, 3) := dk_181 0 62 (dk_at dksX6_gateAtRank_0 2 rfl rfl)
theorem dX6_gateAtRank_5 : decode cX6_gateAtRank 5 = .ok (.iconst 0, 1) := dk_3 (dk_at dksX6_gateAtRank_0 5 rfl rfl)
theorem dX6_gateAtRank_6 : decode cX6_gateAtRank 6 = .ok (.istore_n 2, 1) := dk_61 (dk_at dksX6_gateAtRank_0 6 rfl rfl)
theorem dX6_gateAtRank_7 : decode cX6_gateAtRank 7 = .ok (.iload_n 2, 1) := dk_28 (dk_at dksX6_gateAtRank_0 7 rfl rfl)
theorem dX6_gateAtRank_8 : decode cX6_gateAtRank 8 = .ok (.iconst 4, 1) := dk_7 (dk_at dksX6_gateAtRank_0 8 rfl rfl)
theorem dX6_gateAtRank_9 : decode cX6_gateAtRank 9 = .ok (.if_icmp .ge 57, 3) := dk_162 0 57 (dk_at dksX6_gateAtRank_0 9 rfl rfl)
theorem dX6_gateAtRank_12 : decode cX6_gateAtRank 12 = .ok (.iconst 0, 1) := dk_3 (dk_at dksX6_gateAtRank_0 12 rfl rfl)
theorem dX6_gateAtRank_13 : decode cX6_gateAtRank 13 = .ok (.istore_n 3, 1) := dk_62 (dk_at dksX6_gateAtRank_0 13 rfl rfl)
theorem dX6_gateAtRank_14 : decode cX6_gateAtRank 14 = .ok (.iconst 0, 1) := dk_3 (dk_at dksX6_gateAtRank_0 14 rfl rfl)
theorem dX6_gateAtRank_15 : decode cX6_gateAtRank 15 = .ok (.istore 4, 2) := dk_54 4 (dk_at dksX6_gateAtRank_0 15 rfl rfl)
theorem dX6_gateAtRank_17 : decode cX6_gateAtRank 17 = .ok (.iload 4, 2) := dk_21 4 (dk_at dksX6_gateAtRank_0 17 rfl rfl)
theorem dX6_gateAtRank_19 : decode cX6_gateAtRank 19 = .ok (.iconst 4, 1) := dk_7 (dk_at dksX6_gateAtRank_0 19 rfl rfl)
theorem dX6_gateAtRank_20 : decode cX6_gateAtRank 20 = .ok (.if_icmp .ge 33, 3) := dk_162 0 33 (dk_at dksX6_gateAtRank_0 20 rfl rfl)
theorem dX6_gateAtRank_23 : decode cX6_gateAtRank 23 = .ok (.iload_n 3, 1) := dk_29 (dk_at dksX6_gateAtRank_0 23 rfl rfl)
theorem dX6_gateAtRank_24 : decode cX6_gateAtRank 24 = .ok (.iload 4, 2) := dk_21 4 (dk_at dksX6_gateAtRank_1 0 rfl rfl)
theorem dX6_gateAtRank_26 : decode cX6_gateAtRank 26 = .ok (.iload_n 2, 1) := dk_28 (dk_at dksX6_gateAtRank_1 2 rfl rfl)
theorem dX6_gateAtRank_27 : decode cX6_gateAtRank 27 = .ok (.if_icmp .eq 17, 3) := dk_159 0 17 (dk_at dksX6_gateAtRank_1 3 rfl rfl)
theorem dX6_gateAtRank_30 : decode cX6_gateAtRank 30 = .ok (.aload_n 0, 1) := dk_42 (dk_at dksX6_gateAtRank_1 6 rfl rfl)
theorem dX6_gateAtRank_31 : decode cX6_gateAtRank 31 = .ok (.iload 4, 2) := dk_21 4 (dk_at dksX6_gateAtRank_1 7 rfl rfl)
theorem dX6_gateAtRank_33 : decode cX6_gateAtRank 33 = .ok (.iload_n 2, 1) := dk_28 (dk_at dksX6_gateAtRank_1 9 rfl rfl)
theorem dX6_gateAtRank_34 : decode cX6_gateAtRank 34 = .ok (.invokevirtual 213, 3) := dk_182 0 213 (dk_at dksX6_gateAtRank_1 10 rfl rfl)
theorem dX6_gateAtRank_37 : decode cX6_gateAtRank 37 = .ok (.ifCond .eq 7, 3) := dk_153 0 7 (dk_at dksX6_gateAtRank_1 13 rfl rfl)
theorem dX6_gateAtRank_40 : decode cX6_gateAtRank 40 = .ok (.iconst 1, 1) := dk_4 (dk_at dksX6_gateAtRank_1 16 rfl rfl)
theorem dX6_gateAtRank_41 : decode cX6_gateAtRank 41 = .ok (.goto 4, 3) := dk_167 0 4 (dk_at dksX6_gateAtRank_1 17 rfl rfl)
theorem dX6_gateAtRank_44 : decode cX6_gateAtRank 44 = .ok (.iconst 0, 1) := dk_3 (dk_at dksX6_gateAtRank_1 20 rfl rfl)
theorem dX6_gateAtRank_45 : decode cX6_gateAtRank 45 = .ok (.iadd, 1) := dk_96 (dk_at dksX6_gateAtRank_1 21 rfl rfl)
theorem dX6_gateAtRank_46 : decode cX6_gateAtRank 46 = .ok (.istore_n 3, 1) := dk_62 (dk_at dksX6_gateAtRank_1 22 rfl rfl)
theorem dX6_gateAtRank_47 : decode cX6_gateAtRank 47 = .ok (.iinc 4 1, 3) := dk_132 4 1 (dk_at dksX6_gateAtRank_2 0 rfl rfl)
theorem dX6_gateAtRank_50 : decode cX6_gateAtRank 50 = .ok (.goto (-33), 3) := dk_167 255 223 (dk_at dksX6_gateAtRank_2 3 rfl rfl)
theorem dX6_gateAtRank_53 : decode cX6_gateAtRank 53 = .ok (.iload_n 3, 1) := dk_29 (dk_at dksX6_gateAtRank_2 6 rfl rfl)
theorem dX6_gateAtRank_54 : decode cX6_gateAtRank 54 = .ok (.iload_n 1, 1) := dk_27 (dk_at dksX6_gateAtRank_2 7 rfl rfl)
theorem dX6_gateAtRank_55 : decode cX6_gateAtRank 55 = .ok (.if_icmp .ne 5, 3) := dk_160 0 5 (dk_at dksX6_gateAtRank_2 8 rfl rfl)
theorem dX6_gateAtRank_58 : decode cX6_gateAtRank 58 = .ok (.iload_n 2, 1) := dk_28 (dk_at dksX6_gateAtRank_2 11 rfl rfl)
theorem dX6_gateAtRank_59 : decode cX6_gateAtRank 59 = .ok (.ireturn, 1) := dk_172 (dk_at dksX6_gateAtRank_2 12 rfl rfl)
theorem dX6_gateAtRank_60 : decode cX6_gateAtRank 60 = .ok (.iinc 2 1, 3) := dk_132 2 1 (dk_at dksX6_gateAtRank_2 13 rfl rfl)
theorem dX6_gateAtRank_63 : decode cX6_gateAtRank 63 = .ok (.goto (-56), 3) := dk_167 255 200 (dk_at dksX6_gateAtRank_2 16 rfl rfl)
theorem dX6_gateAtRank_66 : decode cX6_gateAtRank 66 = .ok (.aload_n 0, 1) := dk_42 (dk_at dksX6_gateAtRank_2 19 rfl rfl)
theorem dX6_gateAtRank_67 : decode cX6_gateAtRank 67 = .ok (.iconst 1, 1) := dk_4 (dk_at dksX6_gateAtRank_2 20 rfl rfl)
theorem dX6_gateAtRank_68 : decode cX6_gateAtRank 68 = .ok (.invokevirtual 75, 3) := dk_182 0 75 (dk_at dksX6_gateAtRank_2 21 rfl rfl)
theorem dX6_gateAtRank_71 : decode cX6_gateAtRank 71 = .ok (.ireturn, 1) := dk_172 (dk_at dksX6_gateAtRank_3 0 rfl rfl)
abbrev cX6_isAhead : ByteArray := prog_23_method_73_code
def yX6_isAhead : MethodName := ⟨RX6, "isAhead", "(II)Z"⟩
def dkwX6_isAhead_3 : List UInt8 := [4, 167, 0, 4, 3, 172]
abbrev dktX6_isAhead_3 : List UInt8 := dkwX6_isAhead_3 ++ []
def dkwX6_isAhead_2 : List UInt8 := [182, 0, 106, 42, 28, 182, 0, 106, 162, 0, 7, 4, 167, 0, 17, 3, 167, 0, 13, 27, 28, 162, 0, 7]
abbrev dktX6_isAhead_2 : List UInt8 := dkwX6_isAhead_2 ++ dktX6_isAhead_3
def dkwX6_isAhead_1 : List UInt8 := [164, 0, 7, 4, 167, 0, 4, 3, 172, 42, 27, 182, 0, 106, 42, 28, 182, 0, 106, 159, 0, 24, 42, 27]
abbrev dktX6_isAhead_1 : List UInt8 := dkwX6_isAhead_1 ++ dktX6_isAhead_2
def dkwX6_isAhead_0 : List UInt8 := [42, 27, 182, 0, 210, 42, 28, 182, 0, 210, 159, 0, 22, 42, 27, 182, 0, 210, 42, 28, 182, 0, 210]
abbrev dktX6_isAhead_0 : List UInt8 := dkwX6_isAhead_0 ++ dktX6_isAhead_1
theorem dksX6_isAhead_0 : cX6_isAhead.data.toList.drop 0 = dktX6_isAhead_0 := by decide +kernel
theorem dksX6_isAhead_1 : cX6_isAhead.data.toList.drop 23 = dktX6_isAhead_1 := dk_seg dksX6_isAhead_0 23 rfl rfl
theorem dksX6_isAhead_2 : cX6_isAhead.data.toList.drop 47 = dktX6_isAhead_2 := dk_seg dksX6_isAhead_1 24 rfl rfl
theorem dksX6_isAhead_3 : cX6_isAhead.data.toList.drop 71 = dktX6_isAhead_3 := dk_seg dksX6_isAhead_2 24 rfl rfl
theorem dX6_isAhead_0 : decode cX6_isAhead 0 = .ok (.aload_n 0, 1) := dk_42 (dk_at dksX6_isAhead_0 0 rfl rfl)
theorem dX6_isAhead_1 : decode cX6_isAhead 1 = .ok (.iload_n 1, 1) := dk_27 (dk_at dksX6_isAhead_0 1 rfl rfl)
theorem dX6_isAhead_2 : decode cX6_isAhead 2 = .ok (.invokevirtual 210, 3) := dk_182 0 210 (dk_at dksX6_isAhead_0 2 rfl rfl)
theorem dX6_isAhead_5 : decode cX6_isAhead 5 = .ok (.aload_n 0, 1) := dk_42 (dk_at dksX6_isAhead_0 5 rfl rfl)
theorem dX6_isAhead_6 : decode cX6_isAhead 6 = .ok (.iload_n 2, 1) := dk_28 (dk_at dksX6_isAhead_0 6 rfl rfl)
theorem dX6_isAhead_7 : decode cX6_isAhead 7 = .ok (.invokevirtual 210, 3) := dk_182 0 210 (dk_at dksX6_isAhead_0 7 rfl rfl)
theorem dX6_isAhead_10 : decode cX6_isAhead 10 = .ok (.if_icmp .eq 22, 3) := dk_159 0 22 (dk_at dksX6_isAhead_0 10 rfl rfl)
theorem dX6_isAhead_13 : decode cX6_isAhead 13 = .ok (.aload_n 0, 1) := dk_42 (dk_at dksX6_isAhead_0 13 rfl rfl)
theorem dX6_isAhead_14 : decode cX6_isAhead 14 = .ok (.iload_n 1, 1) := dk_27 (dk_at dksX6_isAhead_0 14 rfl rfl)
theorem dX6_isAhead_15 : decode cX6_isAhead 15 = .ok (.invokevirtual 210, 3) := dk_182 0 210 (dk_at dksX6_isAhead_0 15 rfl rfl)
theorem dX6_isAhead_18 : decode cX6_isAhead 18 = .ok (.aload_n 0, 1) := dk_42 (dk_at dksX6_isAhead_0 18 rfl rfl)
theorem dX6_isAhead_19 : decode cX6_isAhead 19 = .ok (.iload_n 2, 1) := dk_28 (dk_at dksX6_isAhead_0 19 rfl rfl)
theorem dX6_isAhead_20 : decode cX6_isAhead 20 = .ok (.invokevirtual 210, 3) := dk_182 0 210 (dk_at dksX6_isAhead_0 20 rfl rfl)
theorem dX6_isAhead_23 : decode cX6_isAhead 23 = .ok (.if_icmp .le 7, 3) := dk_164 0 7 (dk_at dksX6_isAhead_1 0 rfl rfl)
theorem dX6_isAhead_26 : decode cX6_isAhead 26 = .ok (.iconst 1, 1) := dk_4 (dk_at dksX6_isAhead_1 3 rfl rfl)
theorem dX6_isAhead_27 : decode cX6_isAhead 27 = .ok (.goto 4, 3) := dk_167 0 4 (dk_at dksX6_isAhead_1 4 rfl rfl)
theorem dX6_isAhead_30 : decode cX6_isAhead 30 = .ok (.iconst 0, 1) := dk_3 (dk_at dksX6_isAhead_1 7 rfl rfl)
theorem dX6_isAhead_31 : decode cX6_isAhead 31 = .ok (.ireturn, 1) := dk_172 (dk_at dksX6_isAhead_1 8 rfl rfl)
theorem dX6_isAhead_32 : decode cX6_isAhead 32 = .ok (.aload_n 0, 1) := dk_42 (dk_at dksX6_isAhead_1 9 rfl rfl)
theorem dX6_isAhead_33 : decode cX6_isAhead 33 = .ok (.iload_n 1, 1) := dk_27 (dk_at dksX6_isAhead_1 10 rfl rfl)
theorem dX6_isAhead_34 : decode cX6_isAhead 34 = .ok (.invokevirtual 106, 3) := dk_182 0 106 (dk_at dksX6_isAhead_1 11 rfl rfl)
theorem dX6_isAhead_37 : decode cX6_isAhead 37 = .ok (.aload_n 0, 1) := dk_42 (dk_at dksX6_isAhead_1 14 rfl rfl)
theorem dX6_isAhead_38 : decode cX6_isAhead 38 = .ok (.iload_n 2, 1) := dk_28 (dk_at dksX6_isAhead_1 15 rfl rfl)
theorem dX6_isAhead_39 : decode cX6_isAhead 39 = .ok (.invokevirtual 106, 3) := dk_182 0 106 (dk_at dksX6_isAhead_1 16 rfl rfl)
theorem dX6_isAhead_42 : decode cX6_isAhead 42 = .ok (.if_icmp .eq 24, 3) := dk_159 0 24 (dk_at dksX6_isAhead_1 19 rfl rfl)
theorem dX6_isAhead_45 : decode cX6_isAhead 45 = .ok (.aload_n 0, 1) := dk_42 (dk_at dksX6_isAhead_1 22 rfl rfl)
theorem dX6_isAhead_46 : decode cX6_isAhead 46 = .ok (.iload_n 1, 1) := dk_27 (dk_at dksX6_isAhead_1 23 rfl rfl)
theorem dX6_isAhead_47 : decode cX6_isAhead 47 = .ok (.invokevirtual 106, 3) := dk_182 0 106 (dk_at dksX6_isAhead_2 0 rfl rfl)
theorem dX6_isAhead_50 : decode cX6_isAhead 50 = .ok (.aload_n 0, 1) := dk_42 (dk_at dksX6_isAhead_2 3 rfl rfl)
theorem dX6_isAhead_51 : decode cX6_isAhead 51 = .ok (.iload_n 2, 1) := dk_28 (dk_at dksX6_isAhead_2 4 rfl rfl)
theorem dX6_isAhead_52 : decode cX6_isAhead 52 = .ok (.invokevirtual 106, 3) := dk_182 0 106 (dk_at dksX6_isAhead_2 5 rfl rfl)
theorem dX6_isAhead_55 : decode cX6_isAhead 55 = .ok (.if_icmp .ge 7, 3) := dk_162 0 7 (dk_at dksX6_isAhead_2 8 rfl rfl)
theorem dX6_isAhead_58 : decode cX6_isAhead 58 = .ok (.iconst 1, 1) := dk_4 (dk_at dksX6_isAhead_2 11 rfl rfl)
theorem dX6_isAhead_59 : decode cX6_isAhead 59 = .ok (.goto 17, 3) := dk_167 0 17 (dk_at dksX6_isAhead_2 12 rfl rfl)
theorem dX6_isAhead_62 : decode cX6_isAhead 62 = .ok (.iconst 0, 1) := dk_3 (dk_at dksX6_isAhead_2 15 rfl rfl)
theorem dX6_isAhead_63 : decode cX6_isAhead 63 = .ok (.goto 13, 3) := dk_167 0 13 (dk_at dksX6_isAhead_2 16 rfl rfl)
theorem dX6_isAhead_66 : decode cX6_isAhead 66 = .ok (.iload_n 1, 1) := dk_27 (dk_at dksX6_isAhead_2 19 rfl rfl)
theorem dX6_isAhead_67 : decode cX6_isAhead 67 = .ok (.iload_n 2, 1) := dk_28 (dk_at dksX6_isAhead_2 20 rfl rfl)
theorem dX6_isAhead_68 : decode cX6_isAhead 68 = .ok (.if_icmp .ge 7, 3) := dk_162 0 7 (dk_at dksX6_isAhead_2 21 rfl rfl)
theorem dX6_isAhead_71 : decode cX6_isAhead 71 = .ok (.iconst 1, 1) := dk_4 (dk_at dksX6_isAhead_3 0 rfl rfl)
theorem dX6_isAhead_72 : decode cX6_isAhead 72 = .ok (.goto 4, 3) := dk_167 0 4 (dk_at dksX6_isAhead_3 1 rfl rfl)
theorem dX6_isAhead_75 : decode cX6_isAhead 75 = .ok (.iconst 0, 1) := dk_3 (dk_at dksX6_isAhead_3 4 rfl rfl)
theorem dX6_isAhead_76 : decode cX6_isAhead 76 = .ok (.ireturn, 1) := dk_172 (dk_at dksX6_isAhead_3 5 rfl rfl)
abbrev cX6_append : ByteArray := prog_23_method_75_code
def yX6_append : MethodName := ⟨RX6, "append", "(C)I"⟩
def dkwX6_append_2 : List UInt8 := [42, 180, 0, 216, 27, 79, 42, 89, 180, 0, 216, 4, 96, 181, 0, 216, 42, 180, 0, 216, 172]
abbrev dktX6_append_2 : List UInt8 := dkwX6_append_2 ++ []
def dkwX6_append_1 : List UInt8 := [160, 0, 7, 5, 167, 0, 4, 3, 181, 0, 62, 42, 180, 0, 62, 158, 0, 5, 3, 172, 42, 180, 0, 22]
abbrev dktX6_append_1 : List UInt8 := dkwX6_append_1 ++ dktX6_append_2
def dkwX6_append_0 : List UInt8 := [42, 27, 16, 32, 16, 126, 184, 0, 78, 154, 0, 7, 4, 167, 0, 17, 42, 180, 0, 216, 16, 60]
abbrev dktX6_append_0 : List UInt8 := dkwX6_append_0 ++ dktX6_append_1
theorem dksX6_append_0 : cX6_append.data.toList.drop 0 = dktX6_append_0 := by decide +kernel
theorem dksX6_append_1 : cX6_append.data.toList.drop 22 = dktX6_append_1 := dk_seg dksX6_append_0 22 rfl rfl
theorem dksX6_append_2 : cX6_append.data.toList.drop 46 = dktX6_append_2 := dk_seg dksX6_append_1 24 rfl rfl
theorem dX6_append_0 : decode cX6_append 0 = .ok (.aload_n 0, 1) := dk_42 (dk_at dksX6_append_0 0 rfl rfl)
theorem dX6_append_1 : decode cX6_append 1 = .ok (.iload_n 1, 1) := dk_27 (dk_at dksX6_append_0 1 rfl rfl)
theorem dX6_append_2 : decode cX6_append 2 = .ok (.bipush 32, 2) := dk_16 32 (dk_at dksX6_append_0 2 rfl rfl)
theorem dX6_append_4 : decode cX6_append 4 = .ok (.bipush 126, 2) := dk_16 126 (dk_at dksX6_append_0 4 rfl rfl)
theorem dX6_append_6 : decode cX6_append 6 = .ok (.invokestatic 78, 3) := dk_184 0 78 (dk_at dksX6_append_0 6 rfl rfl)
theorem dX6_append_9 : decode cX6_append 9 = .ok (.ifCond .ne 7, 3) := dk_154 0 7 (dk_at dksX6_append_0 9 rfl rfl)
theorem dX6_append_12 : decode cX6_append 12 = .ok (.iconst 1, 1) := dk_4 (dk_at dksX6_append_0 12 rfl rfl)
theorem dX6_append_13 : decode cX6_append 13 = .ok (.goto 17, 3) := dk_167 0 17 (dk_at dksX6_append_0 13 rfl rfl)
theorem dX6_append_16 : decode cX6_append 16 = .ok (.aload_n 0, 1) := dk_42 (dk_at dksX6_append_0 16 rfl rfl)
theorem dX6_append_17 : decode cX6_append 17 = .ok (.getfield 216, 3) := dk_180 0 216 (dk_at dksX6_append_0 17 rfl rfl)
theorem dX6_append_20 : decode cX6_append 20 = .ok (.bipush 60, 2) := dk_16 60 (dk_at dksX6_append_0 20 rfl rfl)
theorem dX6_append_22 : decode cX6_append 22 = .ok (.if_icmp .ne 7, 3) := dk_160 0 7 (dk_at dksX6_append_1 0 rfl rfl)
theorem dX6_append_25 : decode cX6_append 25 = .ok (.iconst 2, 1) := dk_5 (dk_at dksX6_append_1 3 rfl rfl)
theorem dX6_append_26 : decode cX6_append 26 = .ok (.goto 4, 3) := dk_167 0 4 (dk_at dksX6_append_1 4 rfl rfl)
theorem dX6_append_29 : decode cX6_append 29 = .ok (.iconst 0, 1) := dk_3 (dk_at dksX6_append_1 7 rfl rfl)
theorem dX6_append_30 : decode cX6_append 30 = .ok (.putfield 62, 3) := dk_181 0 62 (dk_at dksX6_append_1 8 rfl rfl)
theorem dX6_append_33 : decode cX6_append 33 = .ok (.aload_n 0, 1) := dk_42 (dk_at dksX6_append_1 11 rfl rfl)
theorem dX6_append_34 : decode cX6_append 34 = .ok (.getfield 62, 3) := dk_180 0 62 (dk_at dksX6_append_1 12 rfl rfl)
theorem dX6_append_37 : decode cX6_append 37 = .ok (.ifCond .le 5, 3) := dk_158 0 5 (dk_at dksX6_append_1 15 rfl rfl)
theorem dX6_append_40 : decode cX6_append 40 = .ok (.iconst 0, 1) := dk_3 (dk_at dksX6_append_1 18 rfl rfl)
theorem dX6_append_41 : decode cX6_append 41 = .ok (.ireturn, 1) := dk_172 (dk_at dksX6_append_1 19 rfl rfl)
theorem dX6_append_42 : decode cX6_append 42 = .ok (.aload_n 0, 1) := dk_42 (dk_at dksX6_append_1 20 rfl rfl)
theorem dX6_append_43 : decode cX6_append 43 = .ok (.getfield 22, 3) := dk_180 0 22 (dk_at dksX6_append_1 21 rfl rfl)
theorem dX6_append_46 : decode cX6_append 46 = .ok (.aload_n 0, 1) := dk_42 (dk_at dksX6_append_2 0 rfl rfl)
theorem dX6_append_47 : decode cX6_append 47 = .ok (.getfield 216, 3) := dk_180 0 216 (dk_at dksX6_append_2 1 rfl rfl)
theorem dX6_append_50 : decode cX6_append 50 = .ok (.iload_n 1, 1) := dk_27 (dk_at dksX6_append_2 4 rfl rfl)
theorem dX6_append_51 : decode cX6_append 51 = .ok (.iastore, 1) := dk_79 (dk_at dksX6_append_2 5 rfl rfl)
theorem dX6_append_52 : decode cX6_append 52 = .ok (.aload_n 0, 1) := dk_42 (dk_at dksX6_append_2 6 rfl rfl)
theorem dX6_append_53 : decode cX6_append 53 = .ok (.dup, 1) := dk_89 (dk_at dksX6_append_2 7 rfl rfl)
theorem dX6_append_54 : decode cX6_append 54 = .ok (.getfield 216, 3) := dk_180 0 216 (dk_at dksX6_append_2 8 rfl rfl)
theorem dX6_append_57 : decode cX6_append 57 = .ok (.iconst 1, 1) := dk_4 (dk_at dksX6_append_2 11 rfl rfl)
theorem dX6_append_58 : decode cX6_append 58 = .ok (.iadd, 1) := dk_96 (dk_at dksX6_append_2 12 rfl rfl)
theorem dX6_append_59 : decode cX6_append 59 = .ok (.putfield 216, 3) := dk_181 0 216 (dk_at dksX6_append_2 13 rfl rfl)
theorem dX6_append_62 : decode cX6_append 62 = .ok (.aload_n 0, 1) := dk_42 (dk_at dksX6_append_2 16 rfl rfl)
theorem dX6_append_63 : decode cX6_append 63 = .ok (.getfield 216, 3) := dk_180 0 216 (dk_at dksX6_append_2 17 rfl rfl)
theorem dX6_append_66 : decode cX6_append 66 = .ok (.ireturn, 1) := dk_172 (dk_at dksX6_append_2 20 rfl rfl)
abbrev cX6_run : ByteArray := prog_23_method_81_code
def yX6_run : MethodName := ⟨RX6, "run", "()I"⟩
def dkwX6_run_7 : List UInt8 := [167, 255, 196, 42, 42, 180, 0, 235, 182, 0, 71, 172]
abbrev dktX6_run_7 : List UInt8 := dkwX6_run_7 ++ []
def dkwX6_run_6 : List UInt8 := [28, 46, 79, 132, 2, 1, 167, 255, 234, 42, 27, 181, 0, 35, 42, 5, 182, 0, 75, 172, 132, 1, 1]
abbrev dktX6_run_6 : List UInt8 := dkwX6_run_6 ++ dktX6_run_7
def dkwX6_run_5 : List UInt8 := [154, 0, 6, 167, 0, 41, 3, 61, 28, 17, 1, 58, 162, 0, 21, 42, 180, 0, 7, 28, 42, 180, 0, 13]
abbrev dktX6_run_5 : List UInt8 := dkwX6_run_5 ++ dktX6_run_6
def dkwX6_run_4 : List UInt8 := [181, 0, 31, 42, 4, 182, 0, 75, 172, 3, 60, 27, 42, 180, 0, 235, 162, 0, 58, 42, 27, 182, 1, 10]
abbrev dktX6_run_4 : List UInt8 := dkwX6_run_4 ++ dktX6_run_5
def dkwX6_run_3 : List UInt8 := [180, 0, 228, 154, 0, 14, 42, 180, 0, 219, 42, 180, 0, 222, 162, 0, 17, 42, 42, 180, 0, 219]
abbrev dktX6_run_3 : List UInt8 := dkwX6_run_3 ++ dktX6_run_4
def dkwX6_run_2 : List UInt8 := [16, 59, 160, 0, 20, 42, 89, 180, 0, 219, 4, 96, 181, 0, 219, 42, 182, 1, 7, 167, 255, 226, 42]
abbrev dktX6_run_2 : List UInt8 := dkwX6_run_2 ++ dktX6_run_3
def dkwX6_run_1 : List UInt8 := [181, 0, 235, 42, 3, 181, 0, 228, 42, 182, 1, 7, 42, 180, 0, 228, 154, 0, 29, 42, 182, 0, 232]
abbrev dktX6_run_1 : List UInt8 := dkwX6_run_1 ++ dktX6_run_2
def dkwX6_run_0 : List UInt8 := [42, 182, 0, 150, 42, 3, 181, 0, 219, 42, 42, 180, 0, 216, 181, 0, 222, 42, 3, 181, 0, 216, 42, 3]
abbrev dktX6_run_0 : List UInt8 := dkwX6_run_0 ++ dktX6_run_1
theorem dksX6_run_0 : cX6_run.data.toList.drop 0 = dktX6_run_0 := by decide +kernel
theorem dksX6_run_1 : cX6_run.data.toList.drop 24 = dktX6_run_1 := dk_seg dksX6_run_0 24 rfl rfl
theorem dksX6_run_2 : cX6_run.data.toList.drop 47 = dktX6_run_2 := dk_seg dksX6_run_1 23 rfl rfl
theorem dksX6_run_3 : cX6_run.data.toList.drop 70 = dktX6_run_3 := dk_seg dksX6_run_2 23 rfl rfl
theorem dksX6_run_4 : cX6_run.data.toList.drop 92 = dktX6_run_4 := dk_seg dksX6_run_3 22 rfl rfl
theorem dksX6_run_5 : cX6_run.data.toList.drop 116 = dktX6_run_5 := dk_seg dksX6_run_4 24 rfl rfl
theorem dksX6_run_6 : cX6_run.data.toList.drop 140 = dktX6_run_6 := dk_seg dksX6_run_5 24 rfl rfl
theorem dksX6_run_7 : cX6_run.data.toList.drop 163 = dktX6_run_7 := dk_seg dksX6_run_6 23 rfl rfl
theorem dX6_run_0 : decode cX6_run 0 = .ok (.aload_n 0, 1) := dk_42 (dk_at dksX6_run_0 0 rfl rfl)
theorem dX6_run_1 : decode cX6_run 1 = .ok (.invokevirtual 150, 3) := dk_182 0 150 (dk_at dksX6_run_0 1 rfl rfl)
theorem dX6_run_4 : decode cX6_run 4 = .ok (.aload_n 0, 1) := dk_42 (dk_at dksX6_run_0 4 rfl rfl)
theorem dX6_run_5 : decode cX6_run 5 = .ok (.iconst 0, 1) := dk_3 (dk_at dksX6_run_0 5 rfl rfl)
theorem dX6_run_6 : decode cX6_run 6 = .ok (.putfield 219, 3) := dk_181 0 219 (dk_at dksX6_run_0 6 rfl rfl)
theorem dX6_run_9 : decode cX6_run 9 = .ok (.aload_n 0, 1) := dk_42 (dk_at dksX6_run_0 9 rfl rfl)
theorem dX6_run_10 : decode cX6_run 10 = .ok (.aload_n 0, 1) := dk_42 (dk_at dksX6_run_0 10 rfl rfl)
theorem dX6_run_11 : decode cX6_run 11 = .ok (.getfield 216, 3) := dk_180 0 216 (dk_at dksX6_run_0 11 rfl rfl)
theorem dX6_run_14 : decode cX6_run 14 = .ok (.putfield 222, 3) := dk_181 0 222 (dk_at dksX6_run_0 14 rfl rfl)
theorem dX6_run_17 : decode cX6_run 17 = .ok (.aload_n 0, 1) := dk_42 (dk_at dksX6_run_0 17 rfl rfl)
theorem dX6_run_18 : decode cX6_run 18 = .ok (.iconst 0, 1) := dk_3 (dk_at dksX6_run_0 18 rfl rfl)
theorem dX6_run_19 : decode cX6_run 19 = .ok (.putfield 216, 3) := dk_181 0 216 (dk_at dksX6_run_0 19 rfl rfl)
theorem dX6_run_22 : decode cX6_run 22 = .ok (.aload_n 0, 1) := dk_42 (dk_at dksX6_run_0 22 rfl rfl)
theorem dX6_run_23 : decode cX6_run 23 = .ok (.iconst 0, 1) := dk_3 (dk_at dksX6_run_0 23 rfl rfl)
theorem dX6_run_24 : decode cX6_run 24 = .ok (.putfield 235, 3) := dk_181 0 235 (dk_at dksX6_run_1 0 rfl rfl)
theorem dX6_run_27 : decode cX6_run 27 = .ok (.aload_n 0, 1) := dk_42 (dk_at dksX6_run_1 3 rfl rfl)
theorem dX6_run_28 : decode cX6_run 28 = .ok (.iconst 0, 1) := dk_3 (dk_at dksX6_run_1 4 rfl rfl)
theorem dX6_run_29 : decode cX6_run 29 = .ok (.putfield 228, 3) := dk_181 0 228 (dk_at dksX6_run_1 5 rfl rfl)
theorem dX6_run_32 : decode cX6_run 32 = .ok (.aload_n 0, 1) := dk_42 (dk_at dksX6_run_1 8 rfl rfl)
theorem dX6_run_33 : decode cX6_run 33 = .ok (.invokevirtual 263, 3) := dk_182 1 7 (dk_at dksX6_run_1 9 rfl rfl)
theorem dX6_run_36 : decode cX6_run 36 = .ok (.aload_n 0, 1) := dk_42 (dk_at dksX6_run_1 12 rfl rfl)
theorem dX6_run_37 : decode cX6_run 37 = .ok (.getfield 228, 3) := dk_180 0 228 (dk_at dksX6_run_1 13 rfl rfl)
theorem dX6_run_40 : decode cX6_run 40 = .ok (.ifCond .ne 29, 3) := dk_154 0 29 (dk_at dksX6_run_1 16 rfl rfl)
theorem dX6_run_43 : decode cX6_run 43 = .ok (.aload_n 0, 1) := dk_42 (dk_at dksX6_run_1 19 rfl rfl)
theorem dX6_run_44 : decode cX6_run 44 = .ok (.invokevirtual 232, 3) := dk_182 0 232 (dk_at dksX6_run_1 20 rfl rfl)
theorem dX6_run_47 : decode cX6_run 47 = .ok (.bipush 59, 2) := dk_16 59 (dk_at dksX6_run_2 0 rfl rfl)
theorem dX6_run_49 : decode cX6_run 49 = .ok (.if_icmp .ne 20, 3) := dk_160 0 20 (dk_at dksX6_run_2 2 rfl rfl)
theorem dX6_run_52 : decode cX6_run 52 = .ok (.aload_n 0, 1) := dk_42 (dk_at dksX6_run_2 5 rfl rfl)
theorem dX6_run_53 : decode cX6_run 53 = .ok (.dup, 1) := dk_89 (dk_at dksX6_run_2 6 rfl rfl)
theorem dX6_run_54 : decode cX6_run 54 = .ok (.getfield 219, 3) := dk_180 0 219 (dk_at dksX6_run_2 7 rfl rfl)
theorem dX6_run_57 : decode cX6_run 57 = .ok (.iconst 1, 1) := dk_4 (dk_at dksX6_run_2 10 rfl rfl)
theorem dX6_run_58 : decode cX6_run 58 = .ok (.iadd, 1) := dk_96 (dk_at dksX6_run_2 11 rfl rfl)
theorem dX6_run_59 : decode cX6_run 59 = .ok (.putfield 219, 3) := dk_181 0 219 (dk_at dksX6_run_2 12 rfl rfl)
theorem dX6_run_62 : decode cX6_run 62 = .ok (.aload_n 0, 1) := dk_42 (dk_at dksX6_run_2 15 rfl rfl)
theorem dX6_run_63 : decode cX6_run 63 = .ok (.invokevirtual 263, 3) := dk_182 1 7 (dk_at dksX6_run_2 16 rfl rfl)
theorem dX6_run_66 : decode cX6_run 66 = .ok (.goto (-30), 3) := dk_167 255 226 (dk_at dksX6_run_2 19 rfl rfl)
theorem dX6_run_69 : decode cX6_run 69 = .ok (.aload_n 0, 1) := dk_42 (dk_at dksX6_run_2 22 rfl rfl)
theorem dX6_run_70 : decode cX6_run 70 = .ok (.getfield 228, 3) := dk_180 0 228 (dk_at dksX6_run_3 0 rfl rfl)
theorem dX6_run_73 : decode cX6_run 73 = .ok (.ifCond .ne 14, 3) := dk_154 0 14 (dk_at dksX6_run_3 3 rfl rfl)
theorem dX6_run_76 : decode cX6_run 76 = .ok (.aload_n 0, 1) := dk_42 (dk_at dksX6_run_3 6 rfl rfl)
theorem dX6_run_77 : decode cX6_run 77 = .ok (.getfield 219, 3) := dk_180 0 219 (dk_at dksX6_run_3 7 rfl rfl)
theorem dX6_run_80 : decode cX6_run 80 = .ok (.aload_n 0, 1) := dk_42 (dk_at dksX6_run_3 10 rfl rfl)
theorem dX6_run_81 : decode cX6_run 81 = .ok (.getfield 222, 3) := dk_180 0 222 (dk_at dksX6_run_3 11 rfl rfl)
theorem dX6_run_84 : decode cX6_run 84 = .ok (.if_icmp .ge 17, 3) := dk_162 0 17 (dk_at dksX6_run_3 14 rfl rfl)
theorem dX6_run_87 : decode cX6_run 87 = .ok (.aload_n 0, 1) := dk_42 (dk_at dksX6_run_3 17 rfl rfl)
theorem dX6_run_88 : decode cX6_run 88 = .ok (.aload_n 0, 1) := dk_42 (dk_at dksX6_run_3 18 rfl rfl)
theorem dX6_run_89 : decode cX6_run 89 = .ok (.getfield 219, 3) := dk_180 0 219 (dk_at dksX6_run_3 19 rfl rfl)
theorem dX6_run_92 : decode cX6_run 92 = .ok (.putfield 31, 3) := dk_181 0 31 (dk_at dksX6_run_4 0 rfl rfl)
theorem dX6_run_95 : decode cX6_run 95 = .ok (.aload_n 0, 1) := dk_42 (dk_at dksX6_run_4 3 rfl rfl)
theorem dX6_run_96 : decode cX6_run 96 = .ok (.iconst 1, 1) := dk_4 (dk_at dksX6_run_4 4 rfl rfl)
theorem dX6_run_97 : decode cX6_run 97 = .ok (.invokevirtual 75, 3) := dk_182 0 75 (dk_at dksX6_run_4 5 rfl rfl)
theorem dX6_run_100 : decode cX6_run 100 = .ok (.ireturn, 1) := dk_172 (dk_at dksX6_run_4 8 rfl rfl)
theorem dX6_run_101 : decode cX6_run 101 = .ok (.iconst 0, 1) := dk_3 (dk_at dksX6_run_4 9 rfl rfl)
theorem dX6_run_102 : decode cX6_run 102 = .ok (.istore_n 1, 1) := dk_60 (dk_at dksX6_run_4 10 rfl rfl)
theorem dX6_run_103 : decode cX6_run 103 = .ok (.iload_n 1, 1) := dk_27 (dk_at dksX6_run_4 11 rfl rfl)
theorem dX6_run_104 : decode cX6_run 104 = .ok (.aload_n 0, 1) := dk_42 (dk_at dksX6_run_4 12 rfl rfl)
theorem dX6_run_105 : decode cX6_run 105 = .ok (.getfield 235, 3) := dk_180 0 235 (dk_at dksX6_run_4 13 rfl rfl)
theorem dX6_run_108 : decode cX6_run 108 = .ok (.if_icmp .ge 58, 3) := dk_162 0 58 (dk_at dksX6_run_4 16 rfl rfl)
theorem dX6_run_111 : decode cX6_run 111 = .ok (.aload_n 0, 1) := dk_42 (dk_at dksX6_run_4 19 rfl rfl)
theorem dX6_run_112 : decode cX6_run 112 = .ok (.iload_n 1, 1) := dk_27 (dk_at dksX6_run_4 20 rfl rfl)
theorem dX6_run_113 : decode cX6_run 113 = .ok (.invokevirtual 266, 3) := dk_182 1 10 (dk_at dksX6_run_4 21 rfl rfl)
theorem dX6_run_116 : decode cX6_run 116 = .ok (.ifCond .ne 6, 3) := dk_154 0 6 (dk_at dksX6_run_5 0 rfl rfl)
theorem dX6_run_119 : decode cX6_run 119 = .ok (.goto 41, 3) := dk_167 0 41 (dk_at dksX6_run_5 3 rfl rfl)
theorem dX6_run_122 : decode cX6_run 122 = .ok (.iconst 0, 1) := dk_3 (dk_at dksX6_run_5 6 rfl rfl)
theorem dX6_run_123 : decode cX6_run 123 = .ok (.istore_n 2, 1) := dk_61 (dk_at dksX6_run_5 7 rfl rfl)
theorem dX6_run_124 : decode cX6_run 124 = .ok (.iload_n 2, 1) := dk_28 (dk_at dksX6_run_5 8 rfl rfl)
theorem dX6_run_125 : decode cX6_run 125 = .ok (.sipush 314, 3) := dk_17 1 58 (dk_at dksX6_run_5 9 rfl rfl)
theorem dX6_run_128 : decode cX6_run 128 = .ok (.if_icmp .ge 21, 3) := dk_162 0 21 (dk_at dksX6_run_5 12 rfl rfl)
theorem dX6_run_131 : decode cX6_run 131 = .ok (.aload_n 0, 1) := dk_42 (dk_at dksX6_run_5 15 rfl rfl)
theorem dX6_run_132 : decode cX6_run 132 = .ok (.getfield 7, 3) := dk_180 0 7 (dk_at dksX6_run_5 16 rfl rfl)
theorem dX6_run_135 : decode cX6_run 135 = .ok (.iload_n 2, 1) := dk_28 (dk_at dksX6_run_5 19 rfl rfl)
theorem dX6_run_136 : decode cX6_run 136 = .ok (.aload_n 0, 1) := dk_42 (dk_at dksX6_run_5 20 rfl rfl)
theorem dX6_run_137 : decode cX6_run 137 = .ok (.getfield 13, 3) := dk_180 0 13 (dk_at dksX6_run_5 21 rfl rfl)
theorem dX6_run_140 : decode cX6_run 140 = .ok (.iload_n 2, 1) := dk_28 (dk_at dksX6_run_6 0 rfl rfl)
theorem dX6_run_141 : decode cX6_run 141 = .ok (.iaload, 1) := dk_46 (dk_at dksX6_run_6 1 rfl rfl)
theorem dX6_run_142 : decode cX6_run 142 = .ok (.iastore, 1) := dk_79 (dk_at dksX6_run_6 2 rfl rfl)
theorem dX6_run_143 : decode cX6_run 143 = .ok (.iinc 2 1, 3) := dk_132 2 1 (dk_at dksX6_run_6 3 rfl rfl)
theorem dX6_run_146 : decode cX6_run 146 = .ok (.goto (-22), 3) := dk_167 255 234 (dk_at dksX6_run_6 6 rfl rfl)
theorem dX6_run_149 : decode cX6_run 149 = .ok (.aload_n 0, 1) := dk_42 (dk_at dksX6_run_6 9 rfl rfl)
theorem dX6_run_150 : decode cX6_run 150 = .ok (.iload_n 1, 1) := dk_27 (dk_at dksX6_run_6 10 rfl rfl)
theorem dX6_run_151 : decode cX6_run 151 = .ok (.putfield 35, 3) := dk_181 0 35 (dk_at dksX6_run_6 11 rfl rfl)
theorem dX6_run_154 : decode cX6_run 154 = .ok (.aload_n 0, 1) := dk_42 (dk_at dksX6_run_6 14 rfl rfl)
theorem dX6_run_155 : decode cX6_run 155 = .ok (.iconst 2, 1) := dk_5 (dk_at dksX6_run_6 15 rfl rfl)
theorem dX6_run_156 : decode cX6_run 156 = .ok (.invokevirtual 75, 3) := dk_182 0 75 (dk_at dksX6_run_6 16 rfl rfl)
theorem dX6_run_159 : decode cX6_run 159 = .ok (.ireturn, 1) := dk_172 (dk_at dksX6_run_6 19 rfl rfl)
theorem dX6_run_160 : decode cX6_run 160 = .ok (.iinc 1 1, 3) := dk_132 1 1 (dk_at dksX6_run_6 20 rfl rfl)
theorem dX6_run_163 : decode cX6_run 163 = .ok (.goto (-60), 3) := dk_167 255 196 (dk_at dksX6_run_7 0 rfl rfl)
theorem dX6_run_166 : decode cX6_run 166 = .ok (.aload_n 0, 1) := dk_42 (dk_at dksX6_run_7 3 rfl rfl)
theorem dX6_run_167 : decode cX6_run 167 = .ok (.aload_n 0, 1) := dk_42 (dk_at dksX6_run_7 4 rfl rfl)
theorem dX6_run_168 : decode cX6_run 168 = .ok (.getfield 235, 3) := dk_180 0 235 (dk_at dksX6_run_7 5 rfl rfl)
theorem dX6_run_171 : decode cX6_run 171 = .ok (.invokevirtual 71, 3) := dk_182 0 71 (dk_at dksX6_run_7 8 rfl rfl)
theorem dX6_run_174 : decode cX6_run 174 = .ok (.ireturn, 1) := dk_172 (dk_at dksX6_run_7 11 rfl rfl)
abbrev cX6_readsOne : ByteArray := prog_23_method_79_code
def yX6_readsOne : MethodName := ⟨RX6, "readsOne", "()V"⟩
def dkwX6_readsOne_7 : List UInt8 := [180, 0, 235, 4, 96, 181, 0, 235, 177]
abbrev dktX6_readsOne_7 : List UInt8 := dkwX6_readsOne_7 ++ []
def dkwX6_readsOne_6 : List UInt8 := [160, 0, 20, 42, 19, 1, 5, 182, 0, 240, 42, 5, 182, 1, 2, 42, 6, 182, 1, 2, 42, 89]
abbrev dktX6_readsOne_6 : List UInt8 := dkwX6_readsOne_6 ++ dktX6_readsOne_7
def dkwX6_readsOne_5 : List UInt8 := [167, 0, 8, 42, 4, 181, 0, 228, 42, 4, 182, 1, 2, 27, 16, 110, 159, 0, 9, 27, 16, 118]
abbrev dktX6_readsOne_5 : List UInt8 := dkwX6_readsOne_5 ++ dktX6_readsOne_6
def dkwX6_readsOne_4 : List UInt8 := [182, 0, 240, 167, 0, 27, 42, 18, 254, 182, 0, 240, 167, 0, 18, 42, 19, 1, 0, 182, 0, 240]
abbrev dktX6_readsOne_4 : List UInt8 := dkwX6_readsOne_4 ++ dktX6_readsOne_5
def dkwX6_readsOne_3 : List UInt8 := [167, 0, 54, 42, 18, 248, 182, 0, 240, 167, 0, 45, 42, 18, 250, 182, 0, 240, 167, 0, 36, 42, 18, 252]
abbrev dktX6_readsOne_3 : List UInt8 := dkwX6_readsOne_3 ++ dktX6_readsOne_4
def dkwX6_readsOne_2 : List UInt8 := [42, 18, 238, 182, 0, 240, 167, 0, 72, 42, 18, 244, 182, 0, 240, 167, 0, 63, 42, 18, 246, 182, 0, 240]
abbrev dktX6_readsOne_2 : List UInt8 := dkwX6_readsOne_2 ++ dktX6_readsOne_3
def dkwX6_readsOne_1 : List UInt8 := [170, 0, 0, 0, 0, 179, 0, 0, 0, 97, 0, 0, 0, 119, 0, 0, 0, 142, 0, 0, 0, 179, 0, 0, 0, 133, 0, 0, 0, 151, 0, 0, 0, 179, 0, 0, 0, 179, 0, 0, 0, 179, 0, 0, 0, 179, 0, 0, 0, 179, 0, 0, 0, 179, 0, 0, 0, 179, 0, 0, 0, 179, 0, 0, 0, 179, 0, 0, 0, 106, 0, 0, 0, 124, 0, 0, 0, 179, 0, 0, 0, 179, 0, 0, 0, 179, 0, 0, 0, 160, 0, 0, 0, 179, 0, 0, 0, 179, 0, 0, 0, 115, 0, 0, 0, 169]
abbrev dktX6_readsOne_1 : List UInt8 := dkwX6_readsOne_1 ++ dktX6_readsOne_2
def dkwX6_readsOne_0 : List UInt8 := [42, 182, 0, 232, 60, 42, 180, 0, 25, 7, 42, 180, 0, 235, 104, 27, 79, 27]
abbrev dktX6_readsOne_0 : List UInt8 := dkwX6_readsOne_0 ++ dktX6_readsOne_1
theorem dksX6_readsOne_0 : cX6_readsOne.data.toList.drop 0 = dktX6_readsOne_0 := by decide +kernel
theorem dksX6_readsOne_1 : cX6_readsOne.data.toList.drop 18 = dktX6_readsOne_1 := dk_seg dksX6_readsOne_0 18 rfl rfl
theorem dksX6_readsOne_2 : cX6_readsOne.data.toList.drop 124 = dktX6_readsOne_2 := dk_seg dksX6_readsOne_1 106 rfl rfl
theorem dksX6_readsOne_3 : cX6_readsOne.data.toList.drop 148 = dktX6_readsOne_3 := dk_seg dksX6_readsOne_2 24 rfl rfl
theorem dksX6_readsOne_4 : cX6_readsOne.data.toList.drop 172 = dktX6_readsOne_4 := dk_seg dksX6_readsOne_3 24 rfl rfl
theorem dksX6_readsOne_5 : cX6_readsOne.data.toList.drop 194 = dktX6_readsOne_5 := dk_seg dksX6_readsOne_4 22 rfl rfl
theorem dksX6_readsOne_6 : cX6_readsOne.data.toList.drop 216 = dktX6_readsOne_6 := dk_seg dksX6_readsOne_5 22 rfl rfl
theorem dksX6_readsOne_7 : cX6_readsOne.data.toList.drop 238 = dktX6_readsOne_7 := dk_seg dksX6_readsOne_6 22 rfl rfl
theorem dX6_readsOne_0 : decode cX6_readsOne 0 = .ok (.aload_n 0, 1) := dk_42 (dk_at dksX6_readsOne_0 0 rfl rfl)
theorem dX6_readsOne_1 : decode cX6_readsOne 1 = .ok (.invokevirtual 232, 3) := dk_182 0 232 (dk_at dksX6_readsOne_0 1 rfl rfl)
theorem dX6_readsOne_4 : decode cX6_readsOne 4 = .ok (.istore_n 1, 1) := dk_60 (dk_at dksX6_readsOne_0 4 rfl rfl)
theorem dX6_readsOne_5 : decode cX6_readsOne 5 = .ok (.aload_n 0, 1) := dk_42 (dk_at dksX6_readsOne_0 5 rfl rfl)
theorem dX6_readsOne_6 : decode cX6_readsOne 6 = .ok (.getfield 25, 3) := dk_180 0 25 (dk_at dksX6_readsOne_0 6 rfl rfl)
theorem dX6_readsOne_9 : decode cX6_readsOne 9 = .ok (.iconst 4, 1) := dk_7 (dk_at dksX6_readsOne_0 9 rfl rfl)
theorem dX6_readsOne_10 : decode cX6_readsOne 10 = .ok (.aload_n 0, 1) := dk_42 (dk_at dksX6_readsOne_0 10 rfl rfl)
theorem dX6_readsOne_11 : decode cX6_readsOne 11 = .ok (.getfield 235, 3) := dk_180 0 235 (dk_at dksX6_readsOne_0 11 rfl rfl)
theorem dX6_readsOne_14 : decode cX6_readsOne 14 = .ok (.imul, 1) := dk_104 (dk_at dksX6_readsOne_0 14 rfl rfl)
theorem dX6_readsOne_15 : decode cX6_readsOne 15 = .ok (.iload_n 1, 1) := dk_27 (dk_at dksX6_readsOne_0 15 rfl rfl)
theorem dX6_readsOne_16 : decode cX6_readsOne 16 = .ok (.iastore, 1) := dk_79 (dk_at dksX6_readsOne_0 16 rfl rfl)
theorem dX6_readsOne_17 : decode cX6_readsOne 17 = .ok (.iload_n 1, 1) := dk_27 (dk_at dksX6_readsOne_0 17 rfl rfl)
theorem dX6_readsOne_18 : decode cX6_readsOne 18 = .ok (.tableswitch 179 97 119 #[142, 179, 133, 151, 179, 179, 179, 179, 179, 179, 179, 179, 179, 106, 124, 179, 179, 179, 160, 179, 179, 115, 169], 106) := by decide +kernel
theorem dX6_readsOne_124 : decode cX6_readsOne 124 = .ok (.aload_n 0, 1) := dk_42 (dk_at dksX6_readsOne_2 0 rfl rfl)
theorem dX6_readsOne_125 : decode cX6_readsOne 125 = .ok (.ldc 238, 2) := dk_18 238 (dk_at dksX6_readsOne_2 1 rfl rfl)
theorem dX6_readsOne_127 : decode cX6_readsOne 127 = .ok (.invokevirtual 240, 3) := dk_182 0 240 (dk_at dksX6_readsOne_2 3 rfl rfl)
theorem dX6_readsOne_130 : decode cX6_readsOne 130 = .ok (.goto 72, 3) := dk_167 0 72 (dk_at dksX6_readsOne_2 6 rfl rfl)
theorem dX6_readsOne_133 : decode cX6_readsOne 133 = .ok (.aload_n 0, 1) := dk_42 (dk_at dksX6_readsOne_2 9 rfl rfl)
theorem dX6_readsOne_134 : decode cX6_readsOne 134 = .ok (.ldc 244, 2) := dk_18 244 (dk_at dksX6_readsOne_2 10 rfl rfl)
theorem dX6_readsOne_136 : decode cX6_readsOne 136 = .ok (.invokevirtual 240, 3) := dk_182 0 240 (dk_at dksX6_readsOne_2 12 rfl rfl)
theorem dX6_readsOne_139 : decode cX6_readsOne 139 = .ok (.goto 63, 3) := dk_167 0 63 (dk_at dksX6_readsOne_2 15 rfl rfl)
theorem dX6_readsOne_142 : decode cX6_readsOne 142 = .ok (.aload_n 0, 1) := dk_42 (dk_at dksX6_readsOne_2 18 rfl rfl)
theorem dX6_readsOne_143 : decode cX6_readsOne 143 = .ok (.ldc 246, 2) := dk_18 246 (dk_at dksX6_readsOne_2 19 rfl rfl)
theorem dX6_readsOne_145 : decode cX6_readsOne 145 = .ok (.invokevirtual 240, 3) := dk_182 0 240 (dk_at dksX6_readsOne_2 21 rfl rfl)
theorem dX6_readsOne_148 : decode cX6_readsOne 148 = .ok (.goto 54, 3) := dk_167 0 54 (dk_at dksX6_readsOne_3 0 rfl rfl)
theorem dX6_readsOne_151 : decode cX6_readsOne 151 = .ok (.aload_n 0, 1) := dk_42 (dk_at dksX6_readsOne_3 3 rfl rfl)
theorem dX6_readsOne_152 : decode cX6_readsOne 152 = .ok (.ldc 248, 2) := dk_18 248 (dk_at dksX6_readsOne_3 4 rfl rfl)
theorem dX6_readsOne_154 : decode cX6_readsOne 154 = .ok (.invokevirtual 240, 3) := dk_182 0 240 (dk_at dksX6_readsOne_3 6 rfl rfl)
theorem dX6_readsOne_157 : decode cX6_readsOne 157 = .ok (.goto 45, 3) := dk_167 0 45 (dk_at dksX6_readsOne_3 9 rfl rfl)
theorem dX6_readsOne_160 : decode cX6_readsOne 160 = .ok (.aload_n 0, 1) := dk_42 (dk_at dksX6_readsOne_3 12 rfl rfl)
theorem dX6_readsOne_161 : decode cX6_readsOne 161 = .ok (.ldc 250, 2) := dk_18 250 (dk_at dksX6_readsOne_3 13 rfl rfl)
theorem dX6_readsOne_163 : decode cX6_readsOne 163 = .ok (.invokevirtual 240, 3) := dk_182 0 240 (dk_at dksX6_readsOne_3 15 rfl rfl)
theorem dX6_readsOne_166 : decode cX6_readsOne 166 = .ok (.goto 36, 3) := dk_167 0 36 (dk_at dksX6_readsOne_3 18 rfl rfl)
theorem dX6_readsOne_169 : decode cX6_readsOne 169 = .ok (.aload_n 0, 1) := dk_42 (dk_at dksX6_readsOne_3 21 rfl rfl)
theorem dX6_readsOne_170 : decode cX6_readsOne 170 = .ok (.ldc 252, 2) := dk_18 252 (dk_at dksX6_readsOne_3 22 rfl rfl)
theorem dX6_readsOne_172 : decode cX6_readsOne 172 = .ok (.invokevirtual 240, 3) := dk_182 0 240 (dk_at dksX6_readsOne_4 0 rfl rfl)
theorem dX6_readsOne_175 : decode cX6_readsOne 175 = .ok (.goto 27, 3) := dk_167 0 27 (dk_at dksX6_readsOne_4 3 rfl rfl)
theorem dX6_readsOne_178 : decode cX6_readsOne 178 = .ok (.aload_n 0, 1) := dk_42 (dk_at dksX6_readsOne_4 6 rfl rfl)
theorem dX6_readsOne_179 : decode cX6_readsOne 179 = .ok (.ldc 254, 2) := dk_18 254 (dk_at dksX6_readsOne_4 7 rfl rfl)
theorem dX6_readsOne_181 : decode cX6_readsOne 181 = .ok (.invokevirtual 240, 3) := dk_182 0 240 (dk_at dksX6_readsOne_4 9 rfl rfl)
theorem dX6_readsOne_184 : decode cX6_readsOne 184 = .ok (.goto 18, 3) := dk_167 0 18 (dk_at dksX6_readsOne_4 12 rfl rfl)
theorem dX6_readsOne_187 : decode cX6_readsOne 187 = .ok (.aload_n 0, 1) := dk_42 (dk_at dksX6_readsOne_4 15 rfl rfl)
theorem dX6_readsOne_188 : decode cX6_readsOne 188 = .ok (.ldc_w 256, 3) := dk_19 1 0 (dk_at dksX6_readsOne_4 16 rfl rfl)
theorem dX6_readsOne_191 : decode cX6_readsOne 191 = .ok (.invokevirtual 240, 3) := dk_182 0 240 (dk_at dksX6_readsOne_4 19 rfl rfl)
theorem dX6_readsOne_194 : decode cX6_readsOne 194 = .ok (.goto 8, 3) := dk_167 0 8 (dk_at dksX6_readsOne_5 0 rfl rfl)
theorem dX6_readsOne_197 : decode cX6_readsOne 197 = .ok (.aload_n 0, 1) := dk_42 (dk_at dksX6_readsOne_5 3 rfl rfl)
theorem dX6_readsOne_198 : decode cX6_readsOne 198 = .ok (.iconst 1, 1) := dk_4 (dk_at dksX6_readsOne_5 4 rfl rfl)
theorem dX6_readsOne_199 : decode cX6_readsOne 199 = .ok (.putfield 228, 3) := dk_181 0 228 (dk_at dksX6_readsOne_5 5 rfl rfl)
theorem dX6_readsOne_202 : decode cX6_readsOne 202 = .ok (.aload_n 0, 1) := dk_42 (dk_at dksX6_readsOne_5 8 rfl rfl)
theorem dX6_readsOne_203 : decode cX6_readsOne 203 = .ok (.iconst 1, 1) := dk_4 (dk_at dksX6_readsOne_5 9 rfl rfl)
theorem dX6_readsOne_204 : decode cX6_readsOne 204 = .ok (.invokevirtual 258, 3) := dk_182 1 2 (dk_at dksX6_readsOne_5 10 rfl rfl)
theorem dX6_readsOne_207 : decode cX6_readsOne 207 = .ok (.iload_n 1, 1) := dk_27 (dk_at dksX6_readsOne_5 13 rfl rfl)
theorem dX6_readsOne_208 : decode cX6_readsOne 208 = .ok (.bipush 110, 2) := dk_16 110 (dk_at dksX6_readsOne_5 14 rfl rfl)
theorem dX6_readsOne_210 : decode cX6_readsOne 210 = .ok (.if_icmp .eq 9, 3) := dk_159 0 9 (dk_at dksX6_readsOne_5 16 rfl rfl)
theorem dX6_readsOne_213 : decode cX6_readsOne 213 = .ok (.iload_n 1, 1) := dk_27 (dk_at dksX6_readsOne_5 19 rfl rfl)
theorem dX6_readsOne_214 : decode cX6_readsOne 214 = .ok (.bipush 118, 2) := dk_16 118 (dk_at dksX6_readsOne_5 20 rfl rfl)
theorem dX6_readsOne_216 : decode cX6_readsOne 216 = .ok (.if_icmp .ne 20, 3) := dk_160 0 20 (dk_at dksX6_readsOne_6 0 rfl rfl)
theorem dX6_readsOne_219 : decode cX6_readsOne 219 = .ok (.aload_n 0, 1) := dk_42 (dk_at dksX6_readsOne_6 3 rfl rfl)
theorem dX6_readsOne_220 : decode cX6_readsOne 220 = .ok (.ldc_w 261, 3) := dk_19 1 5 (dk_at dksX6_readsOne_6 4 rfl rfl)
theorem dX6_readsOne_223 : decode cX6_readsOne 223 = .ok (.invokevirtual 240, 3) := dk_182 0 240 (dk_at dksX6_readsOne_6 7 rfl rfl)
theorem dX6_readsOne_226 : decode cX6_readsOne 226 = .ok (.aload_n 0, 1) := dk_42 (dk_at dksX6_readsOne_6 10 rfl rfl)
theorem dX6_readsOne_227 : decode cX6_readsOne 227 = .ok (.iconst 2, 1) := dk_5 (dk_at dksX6_readsOne_6 11 rfl rfl)
theorem dX6_readsOne_228 : decode cX6_readsOne 228 = .ok (.invokevirtual 258, 3) := dk_182 1 2 (dk_at dksX6_readsOne_6 12 rfl rfl)
theorem dX6_readsOne_231 : decode cX6_readsOne 231 = .ok (.aload_n 0, 1) := dk_42 (dk_at dksX6_readsOne_6 15 rfl rfl)
theorem dX6_readsOne_232 : decode cX6_readsOne 232 = .ok (.iconst 3, 1) := dk_6 (dk_at dksX6_readsOne_6 16 rfl rfl)
theorem dX6_readsOne_233 : decode cX6_readsOne 233 = .ok (.invokevirtual 258, 3) := dk_182 1 2 (dk_at dksX6_readsOne_6 17 rfl rfl)
theorem dX6_readsOne_236 : decode cX6_readsOne 236 = .ok (.aload_n 0, 1) := dk_42 (dk_at dksX6_readsOne_6 20 rfl rfl)
theorem dX6_readsOne_237 : decode cX6_readsOne 237 = .ok (.dup, 1) := dk_89 (dk_at dksX6_readsOne_6 21 rfl rfl)
theorem dX6_readsOne_238 : decode cX6_readsOne 238 = .ok (.getfield 235, 3) := dk_180 0 235 (dk_at dksX6_readsOne_7 0 rfl rfl)
theorem dX6_readsOne_241 : decode cX6_readsOne 241 = .ok (.iconst 1, 1) := dk_4 (dk_at dksX6_readsOne_7 3 rfl rfl)
theorem dX6_readsOne_242 : decode cX6_readsOne 242 = .ok (.iadd, 1) := dk_96 (dk_at dksX6_readsOne_7 4 rfl rfl)
theorem dX6_readsOne_243 : decode cX6_readsOne 243 = .ok (.putfield 235, 3) := dk_181 0 235 (dk_at dksX6_readsOne_7 5 rfl rfl)
theorem dX6_readsOne_246 : decode cX6_readsOne 246 = .ok (.return_, 1) := dk_177 (dk_at dksX6_readsOne_7 8 rfl rfl)
abbrev cX6_here : ByteArray := prog_23_method_76_code
def yX6_here : MethodName := ⟨RX6, "here", "()I"⟩
def dkwX6_here_1 : List UInt8 := [172]
abbrev dktX6_here_1 : List UInt8 := dkwX6_here_1 ++ []
def dkwX6_here_0 : List UInt8 := [42, 180, 0, 219, 42, 180, 0, 222, 162, 0, 15, 42, 180, 0, 22, 42, 180, 0, 219, 46, 167, 0, 4, 2]
abbrev dktX6_here_0 : List UInt8 := dkwX6_here_0 ++ dktX6_here_1
theorem dksX6_here_0 : cX6_here.data.toList.drop 0 = dktX6_here_0 := by decide +kernel
theorem dksX6_here_1 : cX6_here.data.toList.drop 24 = dktX6_here_1 := dk_seg dksX6_here_0 24 rfl rfl
theorem dX6_here_0 : decode cX6_here 0 = .ok (.aload_n 0, 1) := dk_42 (dk_at dksX6_here_0 0 rfl rfl)
theorem dX6_here_1 : decode cX6_here 1 = .ok (.getfield 219, 3) := dk_180 0 219 (dk_at dksX6_here_0 1 rfl rfl)
theorem dX6_here_4 : decode cX6_here 4 = .ok (.aload_n 0, 1) := dk_42 (dk_at dksX6_here_0 4 rfl rfl)
theorem dX6_here_5 : decode cX6_here 5 = .ok (.getfield 222, 3) := dk_180 0 222 (dk_at dksX6_here_0 5 rfl rfl)
theorem dX6_here_8 : decode cX6_here 8 = .ok (.if_icmp .ge 15, 3) := dk_162 0 15 (dk_at dksX6_here_0 8 rfl rfl)
theorem dX6_here_11 : decode cX6_here 11 = .ok (.aload_n 0, 1) := dk_42 (dk_at dksX6_here_0 11 rfl rfl)
theorem dX6_here_12 : decode cX6_here 12 = .ok (.getfield 22, 3) := dk_180 0 22 (dk_at dksX6_here_0 12 rfl rfl)
theorem dX6_here_15 : decode cX6_here 15 = .ok (.aload_n 0, 1) := dk_42 (dk_at dksX6_here_0 15 rfl rfl)
theorem dX6_here_16 : decode cX6_here 16 = .ok (.getfield 219, 3) := dk_180 0 219 (dk_at dksX6_here_0 16 rfl rfl)
theorem dX6_here_19 : decode cX6_here 19 = .ok (.iaload, 1) := dk_46 (dk_at dksX6_here_0 19 rfl rfl)
theorem dX6_here_20 : decode cX6_here 20 = .ok (.goto 4, 3) := dk_167 0 4 (dk_at dksX6_here_0 20 rfl rfl)
theorem dX6_here_23 : decode cX6_here 23 = .ok (.iconst (-1), 1) := dk_2 (dk_at dksX6_here_0 23 rfl rfl)
theorem dX6_here_24 : decode cX6_here 24 = .ok (.ireturn, 1) := dk_172 (dk_at dksX6_here_1 0 rfl rfl)
abbrev cX6_says : ByteArray := prog_23_method_77_code
def yX6_says : MethodName := ⟨RX6, "says", "(Ljava/lang/String;)V"⟩
def dkwX6_says_2 : List UInt8 := [153, 0, 7, 3, 167, 0, 4, 4, 96, 181, 0, 219, 132, 2, 1, 167, 255, 196, 177]
abbrev dktX6_says_2 : List UInt8 := dkwX6_says_2 ++ []
def dkwX6_says_1 : List UInt8 := [182, 0, 167, 159, 0, 7, 4, 167, 0, 4, 3, 181, 0, 228, 42, 89, 180, 0, 219, 42, 180, 0, 228]
abbrev dktX6_says_1 : List UInt8 := dkwX6_says_1 ++ dktX6_says_2
def dkwX6_says_0 : List UInt8 := [3, 61, 28, 43, 182, 0, 225, 162, 0, 58, 42, 180, 0, 228, 154, 0, 51, 42, 42, 182, 0, 232, 43, 28]
abbrev dktX6_says_0 : List UInt8 := dkwX6_says_0 ++ dktX6_says_1
theorem dksX6_says_0 : cX6_says.data.toList.drop 0 = dktX6_says_0 := by decide +kernel
theorem dksX6_says_1 : cX6_says.data.toList.drop 24 = dktX6_says_1 := dk_seg dksX6_says_0 24 rfl rfl
theorem dksX6_says_2 : cX6_says.data.toList.drop 47 = dktX6_says_2 := dk_seg dksX6_says_1 23 rfl rfl
theorem dX6_says_0 : decode cX6_says 0 = .ok (.iconst 0, 1) := dk_3 (dk_at dksX6_says_0 0 rfl rfl)
theorem dX6_says_1 : decode cX6_says 1 = .ok (.istore_n 2, 1) := dk_61 (dk_at dksX6_says_0 1 rfl rfl)
theorem dX6_says_2 : decode cX6_says 2 = .ok (.iload_n 2, 1) := dk_28 (dk_at dksX6_says_0 2 rfl rfl)
theorem dX6_says_3 : decode cX6_says 3 = .ok (.aload_n 1, 1) := dk_43 (dk_at dksX6_says_0 3 rfl rfl)
theorem dX6_says_4 : decode cX6_says 4 = .ok (.invokevirtual 225, 3) := dk_182 0 225 (dk_at dksX6_says_0 4 rfl rfl)
theorem dX6_says_7 : decode cX6_says 7 = .ok (.if_icmp .ge 58, 3) := dk_162 0 58 (dk_at dksX6_says_0 7 rfl rfl)
theorem dX6_says_10 : decode cX6_says 10 = .ok (.aload_n 0, 1) := dk_42 (dk_at dksX6_says_0 10 rfl rfl)
theorem dX6_says_11 : decode cX6_says 11 = .ok (.getfield 228, 3) := dk_180 0 228 (dk_at dksX6_says_0 11 rfl rfl)
theorem dX6_says_14 : decode cX6_says 14 = .ok (.ifCond .ne 51, 3) := dk_154 0 51 (dk_at dksX6_says_0 14 rfl rfl)
theorem dX6_says_17 : decode cX6_says 17 = .ok (.aload_n 0, 1) := dk_42 (dk_at dksX6_says_0 17 rfl rfl)
theorem dX6_says_18 : decode cX6_says 18 = .ok (.aload_n 0, 1) := dk_42 (dk_at dksX6_says_0 18 rfl rfl)
theorem dX6_says_19 : decode cX6_says 19 = .ok (.invokevirtual 232, 3) := dk_182 0 232 (dk_at dksX6_says_0 19 rfl rfl)
theorem dX6_says_22 : decode cX6_says 22 = .ok (.aload_n 1, 1) := dk_43 (dk_at dksX6_says_0 22 rfl rfl)
theorem dX6_says_23 : decode cX6_says 23 = .ok (.iload_n 2, 1) := dk_28 (dk_at dksX6_says_0 23 rfl rfl)
theorem dX6_says_24 : decode cX6_says 24 = .ok (.invokevirtual 167, 3) := dk_182 0 167 (dk_at dksX6_says_1 0 rfl rfl)
theorem dX6_says_27 : decode cX6_says 27 = .ok (.if_icmp .eq 7, 3) := dk_159 0 7 (dk_at dksX6_says_1 3 rfl rfl)
theorem dX6_says_30 : decode cX6_says 30 = .ok (.iconst 1, 1) := dk_4 (dk_at dksX6_says_1 6 rfl rfl)
theorem dX6_says_31 : decode cX6_says 31 = .ok (.goto 4, 3) := dk_167 0 4 (dk_at dksX6_says_1 7 rfl rfl)
theorem dX6_says_34 : decode cX6_says 34 = .ok (.iconst 0, 1) := dk_3 (dk_at dksX6_says_1 10 rfl rfl)
theorem dX6_says_35 : decode cX6_says 35 = .ok (.putfield 228, 3) := dk_181 0 228 (dk_at dksX6_says_1 11 rfl rfl)
theorem dX6_says_38 : decode cX6_says 38 = .ok (.aload_n 0, 1) := dk_42 (dk_at dksX6_says_1 14 rfl rfl)
theorem dX6_says_39 : decode cX6_says 39 = .ok (.dup, 1) := dk_89 (dk_at dksX6_says_1 15 rfl rfl)
theorem dX6_says_40 : decode cX6_says 40 = .ok (.getfield 219, 3) := dk_180 0 219 (dk_at dksX6_says_1 16 rfl rfl)
theorem dX6_says_43 : decode cX6_says 43 = .ok (.aload_n 0, 1) := dk_42 (dk_at dksX6_says_1 19 rfl rfl)
theorem dX6_says_44 : decode cX6_says 44 = .ok (.getfield 228, 3) := dk_180 0 228 (dk_at dksX6_says_1 20 rfl rfl)
theorem dX6_says_47 : decode cX6_says 47 = .ok (.ifCond .eq 7, 3) := dk_153 0 7 (dk_at dksX6_says_2 0 rfl rfl)
theorem dX6_says_50 : decode cX6_says 50 = .ok (.iconst 0, 1) := dk_3 (dk_at dksX6_says_2 3 rfl rfl)
theorem dX6_says_51 : decode cX6_says 51 = .ok (.goto 4, 3) := dk_167 0 4 (dk_at dksX6_says_2 4 rfl rfl)
theorem dX6_says_54 : decode cX6_says 54 = .ok (.iconst 1, 1) := dk_4 (dk_at dksX6_says_2 7 rfl rfl)
theorem dX6_says_55 : decode cX6_says 55 = .ok (.iadd, 1) := dk_96 (dk_at dksX6_says_2 8 rfl rfl)
theorem dX6_says_56 : decode cX6_says 56 = .ok (.putfield 219, 3) := dk_181 0 219 (dk_at dksX6_says_2 9 rfl rfl)
theorem dX6_says_59 : decode cX6_says 59 = .ok (.iinc 2 1, 3) := dk_132 2 1 (dk_at dksX6_says_2 12 rfl rfl)
theorem dX6_says_62 : decode cX6_says 62 = .ok (.goto (-60), 3) := dk_167 255 196 (dk_at dksX6_says_2 15 rfl rfl)
theorem dX6_says_65 : decode cX6_says 65 = .ok (.return_, 1) := dk_177 (dk_at dksX6_says_2 18 rfl rfl)
abbrev cX6_digit : ByteArray := prog_23_method_78_code
def yX6_digit : MethodName := ⟨RX6, "digit", "(I)V"⟩
def dkwX6_digit_3 : List UInt8 := [153, 0, 7, 3, 167, 0, 4, 4, 96, 181, 0, 219, 177]
abbrev dktX6_digit_3 : List UInt8 := dkwX6_digit_3 ++ []
def dkwX6_digit_2 : List UInt8 := [153, 0, 7, 3, 167, 0, 10, 42, 182, 0, 232, 16, 48, 100, 79, 42, 89, 180, 0, 219, 42, 180, 0, 228]
abbrev dktX6_digit_2 : List UInt8 := dkwX6_digit_2 ++ dktX6_digit_3
def dkwX6_digit_1 : List UInt8 := [167, 0, 4, 3, 181, 0, 228, 42, 180, 0, 25, 7, 42, 180, 0, 235, 104, 27, 96, 42, 180, 0, 228]
abbrev dktX6_digit_1 : List UInt8 := dkwX6_digit_1 ++ dktX6_digit_2
def dkwX6_digit_0 : List UInt8 := [42, 42, 180, 0, 228, 154, 0, 17, 42, 182, 0, 232, 16, 48, 16, 57, 184, 0, 78, 154, 0, 7, 4]
abbrev dktX6_digit_0 : List UInt8 := dkwX6_digit_0 ++ dktX6_digit_1
theorem dksX6_digit_0 : cX6_digit.data.toList.drop 0 = dktX6_digit_0 := by decide +kernel
theorem dksX6_digit_1 : cX6_digit.data.toList.drop 23 = dktX6_digit_1 := dk_seg dksX6_digit_0 23 rfl rfl
theorem dksX6_digit_2 : cX6_digit.data.toList.drop 46 = dktX6_digit_2 := dk_seg dksX6_digit_1 23 rfl rfl
theorem dksX6_digit_3 : cX6_digit.data.toList.drop 70 = dktX6_digit_3 := dk_seg dksX6_digit_2 24 rfl rfl
theorem dX6_digit_0 : decode cX6_digit 0 = .ok (.aload_n 0, 1) := dk_42 (dk_at dksX6_digit_0 0 rfl rfl)
theorem dX6_digit_1 : decode cX6_digit 1 = .ok (.aload_n 0, 1) := dk_42 (dk_at dksX6_digit_0 1 rfl rfl)
theorem dX6_digit_2 : decode cX6_digit 2 = .ok (.getfield 228, 3) := dk_180 0 228 (dk_at dksX6_digit_0 2 rfl rfl)
theorem dX6_digit_5 : decode cX6_digit 5 = .ok (.ifCond .ne 17, 3) := dk_154 0 17 (dk_at dksX6_digit_0 5 rfl rfl)
theorem dX6_digit_8 : decode cX6_digit 8 = .ok (.aload_n 0, 1) := dk_42 (dk_at dksX6_digit_0 8 rfl rfl)
theorem dX6_digit_9 : decode cX6_digit 9 = .ok (.invokevirtual 232, 3) := dk_182 0 232 (dk_at dksX6_digit_0 9 rfl rfl)
theorem dX6_digit_12 : decode cX6_digit 12 = .ok (.bipush 48, 2) := dk_16 48 (dk_at dksX6_digit_0 12 rfl rfl)
theorem dX6_digit_14 : decode cX6_digit 14 = .ok (.bipush 57, 2) := dk_16 57 (dk_at dksX6_digit_0 14 rfl rfl)
theorem dX6_digit_16 : decode cX6_digit 16 = .ok (.invokestatic 78, 3) := dk_184 0 78 (dk_at dksX6_digit_0 16 rfl rfl)
theorem dX6_digit_19 : decode cX6_digit 19 = .ok (.ifCond .ne 7, 3) := dk_154 0 7 (dk_at dksX6_digit_0 19 rfl rfl)
theorem dX6_digit_22 : decode cX6_digit 22 = .ok (.iconst 1, 1) := dk_4 (dk_at dksX6_digit_0 22 rfl rfl)
theorem dX6_digit_23 : decode cX6_digit 23 = .ok (.goto 4, 3) := dk_167 0 4 (dk_at dksX6_digit_1 0 rfl rfl)
theorem dX6_digit_26 : decode cX6_digit 26 = .ok (.iconst 0, 1) := dk_3 (dk_at dksX6_digit_1 3 rfl rfl)
theorem dX6_digit_27 : decode cX6_digit 27 = .ok (.putfield 228, 3) := dk_181 0 228 (dk_at dksX6_digit_1 4 rfl rfl)
theorem dX6_digit_30 : decode cX6_digit 30 = .ok (.aload_n 0, 1) := dk_42 (dk_at dksX6_digit_1 7 rfl rfl)
theorem dX6_digit_31 : decode cX6_digit 31 = .ok (.getfield 25, 3) := dk_180 0 25 (dk_at dksX6_digit_1 8 rfl rfl)
theorem dX6_digit_34 : decode cX6_digit 34 = .ok (.iconst 4, 1) := dk_7 (dk_at dksX6_digit_1 11 rfl rfl)
theorem dX6_digit_35 : decode cX6_digit 35 = .ok (.aload_n 0, 1) := dk_42 (dk_at dksX6_digit_1 12 rfl rfl)
theorem dX6_digit_36 : decode cX6_digit 36 = .ok (.getfield 235, 3) := dk_180 0 235 (dk_at dksX6_digit_1 13 rfl rfl)
theorem dX6_digit_39 : decode cX6_digit 39 = .ok (.imul, 1) := dk_104 (dk_at dksX6_digit_1 16 rfl rfl)
theorem dX6_digit_40 : decode cX6_digit 40 = .ok (.iload_n 1, 1) := dk_27 (dk_at dksX6_digit_1 17 rfl rfl)
theorem dX6_digit_41 : decode cX6_digit 41 = .ok (.iadd, 1) := dk_96 (dk_at dksX6_digit_1 18 rfl rfl)
theorem dX6_digit_42 : decode cX6_digit 42 = .ok (.aload_n 0, 1) := dk_42 (dk_at dksX6_digit_1 19 rfl rfl)
theorem dX6_digit_43 : decode cX6_digit 43 = .ok (.getfield 228, 3) := dk_180 0 228 (dk_at dksX6_digit_1 20 rfl rfl)
theorem dX6_digit_46 : decode cX6_digit 46 = .ok (.ifCond .eq 7, 3) := dk_153 0 7 (dk_at dksX6_digit_2 0 rfl rfl)
theorem dX6_digit_49 : decode cX6_digit 49 = .ok (.iconst 0, 1) := dk_3 (dk_at dksX6_digit_2 3 rfl rfl)
theorem dX6_digit_50 : decode cX6_digit 50 = .ok (.goto 10, 3) := dk_167 0 10 (dk_at dksX6_digit_2 4 rfl rfl)
theorem dX6_digit_53 : decode cX6_digit 53 = .ok (.aload_n 0, 1) := dk_42 (dk_at dksX6_digit_2 7 rfl rfl)
theorem dX6_digit_54 : decode cX6_digit 54 = .ok (.invokevirtual 232, 3) := dk_182 0 232 (dk_at dksX6_digit_2 8 rfl rfl)
theorem dX6_digit_57 : decode cX6_digit 57 = .ok (.bipush 48, 2) := dk_16 48 (dk_at dksX6_digit_2 11 rfl rfl)
theorem dX6_digit_59 : decode cX6_digit 59 = .ok (.isub, 1) := dk_100 (dk_at dksX6_digit_2 13 rfl rfl)
theorem dX6_digit_60 : decode cX6_digit 60 = .ok (.iastore, 1) := dk_79 (dk_at dksX6_digit_2 14 rfl rfl)
theorem dX6_digit_61 : decode cX6_digit 61 = .ok (.aload_n 0, 1) := dk_42 (dk_at dksX6_digit_2 15 rfl rfl)
theorem dX6_digit_62 : decode cX6_digit 62 = .ok (.dup, 1) := dk_89 (dk_at dksX6_digit_2 16 rfl rfl)
theorem dX6_digit_63 : decode cX6_digit 63 = .ok (.getfield 219, 3) := dk_180 0 219 (dk_at dksX6_digit_2 17 rfl rfl)
theorem dX6_digit_66 : decode cX6_digit 66 = .ok (.aload_n 0, 1) := dk_42 (dk_at dksX6_digit_2 20 rfl rfl)
theorem dX6_digit_67 : decode cX6_digit 67 = .ok (.getfield 228, 3) := dk_180 0 228 (dk_at dksX6_digit_2 21 rfl rfl)
theorem dX6_digit_70 : decode cX6_digit 70 = .ok (.ifCond .eq 7, 3) := dk_153 0 7 (dk_at dksX6_digit_3 0 rfl rfl)
theorem dX6_digit_73 : decode cX6_digit 73 = .ok (.iconst 0, 1) := dk_3 (dk_at dksX6_digit_3 3 rfl rfl)
theorem dX6_digit_74 : decode cX6_digit 74 = .ok (.goto 4, 3) := dk_167 0 4 (dk_at dksX6_digit_3 4 rfl rfl)
theorem dX6_digit_77 : decode cX6_digit 77 = .ok (.iconst 1, 1) := dk_4 (dk_at dksX6_digit_3 7 rfl rfl)
theorem dX6_digit_78 : decode cX6_digit 78 = .ok (.iadd, 1) := dk_96 (dk_at dksX6_digit_3 8 rfl rfl)
theorem dX6_digit_79 : decode cX6_digit 79 = .ok (.putfield 219, 3) := dk_181 0 219 (dk_at dksX6_digit_3 9 rfl rfl)
theorem dX6_digit_82 : decode cX6_digit 82 = .ok (.return_, 1) := dk_177 (dk_at dksX6_digit_3 12 rfl rfl)
abbrev cX6_does : ByteArray := prog_23_method_80_code
def yX6_does : MethodName := ⟨RX6, "does", "(I)I"⟩
def dkwX6_does_5 : List UInt8 := [182, 0, 191, 172, 42, 28, 182, 0, 207, 172]
abbrev dktX6_does_5 : List UInt8 := dkwX6_does_5 ++ []
def dkwX6_does_4 : List UInt8 := [172, 42, 28, 6, 182, 0, 182, 172, 42, 28, 7, 182, 0, 182, 172, 42, 28, 182, 0, 185, 172, 42, 28]
abbrev dktX6_does_4 : List UInt8 := dkwX6_does_4 ++ dktX6_does_5
def dkwX6_does_3 : List UInt8 := [42, 28, 29, 21, 4, 182, 0, 176, 172, 42, 28, 29, 21, 4, 182, 0, 179, 172, 42, 28, 5, 182, 0, 182]
abbrev dktX6_does_3 : List UInt8 := dkwX6_does_3 ++ dktX6_does_4
def dkwX6_does_2 : List UInt8 := [170, 0, 0, 0, 0, 153, 0, 0, 0, 97, 0, 0, 0, 118, 0, 0, 0, 134, 0, 0, 0, 153, 0, 0, 0, 127, 0, 0, 0, 141, 0, 0, 0, 153, 0, 0, 0, 153, 0, 0, 0, 153, 0, 0, 0, 153, 0, 0, 0, 153, 0, 0, 0, 153, 0, 0, 0, 153, 0, 0, 0, 153, 0, 0, 0, 153, 0, 0, 0, 102, 0, 0, 0, 120, 0, 0, 0, 153, 0, 0, 0, 153, 0, 0, 0, 153, 0, 0, 0, 147, 0, 0, 0, 153, 0, 0, 0, 153, 0, 0, 0, 111]
abbrev dktX6_does_2 : List UInt8 := dkwX6_does_2 ++ dktX6_does_3
def dkwX6_does_1 : List UInt8 := [180, 0, 25, 7, 27, 104, 6, 96, 46, 54, 4, 42, 180, 0, 25, 7, 27, 104, 46]
abbrev dktX6_does_1 : List UInt8 := dkwX6_does_1 ++ dktX6_does_2
def dkwX6_does_0 : List UInt8 := [42, 180, 0, 25, 7, 27, 104, 4, 96, 46, 61, 42, 180, 0, 25, 7, 27, 104, 5, 96, 46, 62, 42]
abbrev dktX6_does_0 : List UInt8 := dkwX6_does_0 ++ dktX6_does_1
theorem dksX6_does_0 : cX6_does.data.toList.drop 0 = dktX6_does_0 := by decide +kernel
theorem dksX6_does_1 : cX6_does.data.toList.drop 23 = dktX6_does_1 := dk_seg dksX6_does_0 23 rfl rfl
theorem dksX6_does_2 : cX6_does.data.toList.drop 42 = dktX6_does_2 := dk_seg dksX6_does_1 19 rfl rfl
theorem dksX6_does_3 : cX6_does.data.toList.drop 144 = dktX6_does_3 := dk_seg dksX6_does_2 102 rfl rfl
theorem dksX6_does_4 : cX6_does.data.toList.drop 168 = dktX6_does_4 := dk_seg dksX6_does_3 24 rfl rfl
theorem dksX6_does_5 : cX6_does.data.toList.drop 191 = dktX6_does_5 := dk_seg dksX6_does_4 23 rfl rfl
theorem dX6_does_0 : decode cX6_does 0 = .ok (.aload_n 0, 1) := dk_42 (dk_at dksX6_does_0 0 rfl rfl)
theorem dX6_does_1 : decode cX6_does 1 = .ok (.getfield 25, 3) := dk_180 0 25 (dk_at dksX6_does_0 1 rfl rfl)
theorem dX6_does_4 : decode cX6_does 4 = .ok (.iconst 4, 1) := dk_7 (dk_at dksX6_does_0 4 rfl rfl)
theorem dX6_does_5 : decode cX6_does 5 = .ok (.iload_n 1, 1) := dk_27 (dk_at dksX6_does_0 5 rfl rfl)
theorem dX6_does_6 : decode cX6_does 6 = .ok (.imul, 1) := dk_104 (dk_at dksX6_does_0 6 rfl rfl)
theorem dX6_does_7 : decode cX6_does 7 = .ok (.iconst 1, 1) := dk_4 (dk_at dksX6_does_0 7 rfl rfl)
theorem dX6_does_8 : decode cX6_does 8 = .ok (.iadd, 1) := dk_96 (dk_at dksX6_does_0 8 rfl rfl)
theorem dX6_does_9 : decode cX6_does 9 = .ok (.iaload, 1) := dk_46 (dk_at dksX6_does_0 9 rfl rfl)
theorem dX6_does_10 : decode cX6_does 10 = .ok (.istore_n 2, 1) := dk_61 (dk_at dksX6_does_0 10 rfl rfl)
theorem dX6_does_11 : decode cX6_does 11 = .ok (.aload_n 0, 1) := dk_42 (dk_at dksX6_does_0 11 rfl rfl)
theorem dX6_does_12 : decode cX6_does 12 = .ok (.getfield 25, 3) := dk_180 0 25 (dk_at dksX6_does_0 12 rfl rfl)
theorem dX6_does_15 : decode cX6_does 15 = .ok (.iconst 4, 1) := dk_7 (dk_at dksX6_does_0 15 rfl rfl)
theorem dX6_does_16 : decode cX6_does 16 = .ok (.iload_n 1, 1) := dk_27 (dk_at dksX6_does_0 16 rfl rfl)
theorem dX6_does_17 : decode cX6_does 17 = .ok (.imul, 1) := dk_104 (dk_at dksX6_does_0 17 rfl rfl)
theorem dX6_does_18 : decode cX6_does 18 = .ok (.iconst 2, 1) := dk_5 (dk_at dksX6_does_0 18 rfl rfl)
theorem dX6_does_19 : decode cX6_does 19 = .ok (.iadd, 1) := dk_96 (dk_at dksX6_does_0 19 rfl rfl)
theorem dX6_does_20 : decode cX6_does 20 = .ok (.iaload, 1) := dk_46 (dk_at dksX6_does_0 20 rfl rfl)
theorem dX6_does_21 : decode cX6_does 21 = .ok (.istore_n 3, 1) := dk_62 (dk_at dksX6_does_0 21 rfl rfl)
theorem dX6_does_22 : decode cX6_does 22 = .ok (.aload_n 0, 1) := dk_42 (dk_at dksX6_does_0 22 rfl rfl)
theorem dX6_does_23 : decode cX6_does 23 = .ok (.getfield 25, 3) := dk_180 0 25 (dk_at dksX6_does_1 0 rfl rfl)
theorem dX6_does_26 : decode cX6_does 26 = .ok (.iconst 4, 1) := dk_7 (dk_at dksX6_does_1 3 rfl rfl)
theorem dX6_does_27 : decode cX6_does 27 = .ok (.iload_n 1, 1) := dk_27 (dk_at dksX6_does_1 4 rfl rfl)
theorem dX6_does_28 : decode cX6_does 28 = .ok (.imul, 1) := dk_104 (dk_at dksX6_does_1 5 rfl rfl)
theorem dX6_does_29 : decode cX6_does 29 = .ok (.iconst 3, 1) := dk_6 (dk_at dksX6_does_1 6 rfl rfl)
theorem dX6_does_30 : decode cX6_does 30 = .ok (.iadd, 1) := dk_96 (dk_at dksX6_does_1 7 rfl rfl)
theorem dX6_does_31 : decode cX6_does 31 = .ok (.iaload, 1) := dk_46 (dk_at dksX6_does_1 8 rfl rfl)
theorem dX6_does_32 : decode cX6_does 32 = .ok (.istore 4, 2) := dk_54 4 (dk_at dksX6_does_1 9 rfl rfl)
theorem dX6_does_34 : decode cX6_does 34 = .ok (.aload_n 0, 1) := dk_42 (dk_at dksX6_does_1 11 rfl rfl)
theorem dX6_does_35 : decode cX6_does 35 = .ok (.getfield 25, 3) := dk_180 0 25 (dk_at dksX6_does_1 12 rfl rfl)
theorem dX6_does_38 : decode cX6_does 38 = .ok (.iconst 4, 1) := dk_7 (dk_at dksX6_does_1 15 rfl rfl)
theorem dX6_does_39 : decode cX6_does 39 = .ok (.iload_n 1, 1) := dk_27 (dk_at dksX6_does_1 16 rfl rfl)
theorem dX6_does_40 : decode cX6_does 40 = .ok (.imul, 1) := dk_104 (dk_at dksX6_does_1 17 rfl rfl)
theorem dX6_does_41 : decode cX6_does 41 = .ok (.iaload, 1) := dk_46 (dk_at dksX6_does_1 18 rfl rfl)
theorem dX6_does_42 : decode cX6_does 42 = .ok (.tableswitch 153 97 118 #[134, 153, 127, 141, 153, 153, 153, 153, 153, 153, 153, 153, 153, 102, 120, 153, 153, 153, 147, 153, 153, 111], 102) := by decide +kernel
theorem dX6_does_144 : decode cX6_does 144 = .ok (.aload_n 0, 1) := dk_42 (dk_at dksX6_does_3 0 rfl rfl)
theorem dX6_does_145 : decode cX6_does 145 = .ok (.iload_n 2, 1) := dk_28 (dk_at dksX6_does_3 1 rfl rfl)
theorem dX6_does_146 : decode cX6_does 146 = .ok (.iload_n 3, 1) := dk_29 (dk_at dksX6_does_3 2 rfl rfl)
theorem dX6_does_147 : decode cX6_does 147 = .ok (.iload 4, 2) := dk_21 4 (dk_at dksX6_does_3 3 rfl rfl)
theorem dX6_does_149 : decode cX6_does 149 = .ok (.invokevirtual 176, 3) := dk_182 0 176 (dk_at dksX6_does_3 5 rfl rfl)
theorem dX6_does_152 : decode cX6_does 152 = .ok (.ireturn, 1) := dk_172 (dk_at dksX6_does_3 8 rfl rfl)
theorem dX6_does_153 : decode cX6_does 153 = .ok (.aload_n 0, 1) := dk_42 (dk_at dksX6_does_3 9 rfl rfl)
theorem dX6_does_154 : decode cX6_does 154 = .ok (.iload_n 2, 1) := dk_28 (dk_at dksX6_does_3 10 rfl rfl)
theorem dX6_does_155 : decode cX6_does 155 = .ok (.iload_n 3, 1) := dk_29 (dk_at dksX6_does_3 11 rfl rfl)
theorem dX6_does_156 : decode cX6_does 156 = .ok (.iload 4, 2) := dk_21 4 (dk_at dksX6_does_3 12 rfl rfl)
theorem dX6_does_158 : decode cX6_does 158 = .ok (.invokevirtual 179, 3) := dk_182 0 179 (dk_at dksX6_does_3 14 rfl rfl)
theorem dX6_does_161 : decode cX6_does 161 = .ok (.ireturn, 1) := dk_172 (dk_at dksX6_does_3 17 rfl rfl)
theorem dX6_does_162 : decode cX6_does 162 = .ok (.aload_n 0, 1) := dk_42 (dk_at dksX6_does_3 18 rfl rfl)
theorem dX6_does_163 : decode cX6_does 163 = .ok (.iload_n 2, 1) := dk_28 (dk_at dksX6_does_3 19 rfl rfl)
theorem dX6_does_164 : decode cX6_does 164 = .ok (.iconst 2, 1) := dk_5 (dk_at dksX6_does_3 20 rfl rfl)
theorem dX6_does_165 : decode cX6_does 165 = .ok (.invokevirtual 182, 3) := dk_182 0 182 (dk_at dksX6_does_3 21 rfl rfl)
theorem dX6_does_168 : decode cX6_does 168 = .ok (.ireturn, 1) := dk_172 (dk_at dksX6_does_4 0 rfl rfl)
theorem dX6_does_169 : decode cX6_does 169 = .ok (.aload_n 0, 1) := dk_42 (dk_at dksX6_does_4 1 rfl rfl)
theorem dX6_does_170 : decode cX6_does 170 = .ok (.iload_n 2, 1) := dk_28 (dk_at dksX6_does_4 2 rfl rfl)
theorem dX6_does_171 : decode cX6_does 171 = .ok (.iconst 3, 1) := dk_6 (dk_at dksX6_does_4 3 rfl rfl)
theorem dX6_does_172 : decode cX6_does 172 = .ok (.invokevirtual 182, 3) := dk_182 0 182 (dk_at dksX6_does_4 4 rfl rfl)
theorem dX6_does_175 : decode cX6_does 175 = .ok (.ireturn, 1) := dk_172 (dk_at dksX6_does_4 7 rfl rfl)
theorem dX6_does_176 : decode cX6_does 176 = .ok (.aload_n 0, 1) := dk_42 (dk_at dksX6_does_4 8 rfl rfl)
theorem dX6_does_177 : decode cX6_does 177 = .ok (.iload_n 2, 1) := dk_28 (dk_at dksX6_does_4 9 rfl rfl)
theorem dX6_does_178 : decode cX6_does 178 = .ok (.iconst 4, 1) := dk_7 (dk_at dksX6_does_4 10 rfl rfl)
theorem dX6_does_179 : decode cX6_does 179 = .ok (.invokevirtual 182, 3) := dk_182 0 182 (dk_at dksX6_does_4 11 rfl rfl)
theorem dX6_does_182 : decode cX6_does 182 = .ok (.ireturn, 1) := dk_172 (dk_at dksX6_does_4 14 rfl rfl)
theorem dX6_does_183 : decode cX6_does 183 = .ok (.aload_n 0, 1) := dk_42 (dk_at dksX6_does_4 15 rfl rfl)
theorem dX6_does_184 : decode cX6_does 184 = .ok (.iload_n 2, 1) := dk_28 (dk_at dksX6_does_4 16 rfl rfl)
theorem dX6_does_185 : decode cX6_does 185 = .ok (.invokevirtual 185, 3) := dk_182 0 185 (dk_at dksX6_does_4 17 rfl rfl)
theorem dX6_does_188 : decode cX6_does 188 = .ok (.ireturn, 1) := dk_172 (dk_at dksX6_does_4 20 rfl rfl)
theorem dX6_does_189 : decode cX6_does 189 = .ok (.aload_n 0, 1) := dk_42 (dk_at dksX6_does_4 21 rfl rfl)
theorem dX6_does_190 : decode cX6_does 190 = .ok (.iload_n 2, 1) := dk_28 (dk_at dksX6_does_4 22 rfl rfl)
theorem dX6_does_191 : decode cX6_does 191 = .ok (.invokevirtual 191, 3) := dk_182 0 191 (dk_at dksX6_does_5 0 rfl rfl)
theorem dX6_does_194 : decode cX6_does 194 = .ok (.ireturn, 1) := dk_172 (dk_at dksX6_does_5 3 rfl rfl)
theorem dX6_does_195 : decode cX6_does 195 = .ok (.aload_n 0, 1) := dk_42 (dk_at dksX6_does_5 4 rfl rfl)
theorem dX6_does_196 : decode cX6_does 196 = .ok (.iload_n 2, 1) := dk_28 (dk_at dksX6_does_5 5 rfl rfl)
theorem dX6_does_197 : decode cX6_does 197 = .ok (.invokevirtual 207, 3) := dk_182 0 207 (dk_at dksX6_does_5 6 rfl rfl)
theorem dX6_does_200 : decode cX6_does 200 = .ok (.ireturn, 1) := dk_172 (dk_at dksX6_does_5 9 rfl rfl)
abbrev cX6_errorPosition : ByteArray := prog_23_method_82_code
def yX6_errorPosition : MethodName := ⟨RX6, "errorPosition", "()I"⟩
def dkwX6_errorPosition_1 : List UInt8 := [180, 0, 31, 172]
abbrev dktX6_errorPosition_1 : List UInt8 := dkwX6_errorPosition_1 ++ []
def dkwX6_errorPosition_0 : List UInt8 := [42, 3, 181, 0, 62, 42, 180, 0, 31, 2, 160, 0, 11, 42, 4, 182, 0, 75, 167, 0, 7, 42]
abbrev dktX6_errorPosition_0 : List UInt8 := dkwX6_errorPosition_0 ++ dktX6_errorPosition_1
theorem dksX6_errorPosition_0 : cX6_errorPosition.data.toList.drop 0 = dktX6_errorPosition_0 := by decide +kernel
theorem dksX6_errorPosition_1 : cX6_errorPosition.data.toList.drop 22 = dktX6_errorPosition_1 := dk_seg dksX6_errorPosition_0 22 rfl rfl
theorem dX6_errorPosition_0 : decode cX6_errorPosition 0 = .ok (.aload_n 0, 1) := dk_42 (dk_at dksX6_errorPosition_0 0 rfl rfl)
theorem dX6_errorPosition_1 : decode cX6_errorPosition 1 = .ok (.iconst 0, 1) := dk_3 (dk_at dksX6_errorPosition_0 1 rfl rfl)
theorem dX6_errorPosition_2 : decode cX6_errorPosition 2 = .ok (.putfield 62, 3) := dk_181 0 62 (dk_at dksX6_errorPosition_0 2 rfl rfl)
theorem dX6_errorPosition_5 : decode cX6_errorPosition 5 = .ok (.aload_n 0, 1) := dk_42 (dk_at dksX6_errorPosition_0 5 rfl rfl)
theorem dX6_errorPosition_6 : decode cX6_errorPosition 6 = .ok (.getfield 31, 3) := dk_180 0 31 (dk_at dksX6_errorPosition_0 6 rfl rfl)
theorem dX6_errorPosition_9 : decode cX6_errorPosition 9 = .ok (.iconst (-1), 1) := dk_2 (dk_at dksX6_errorPosition_0 9 rfl rfl)
theorem dX6_errorPosition_10 : decode cX6_errorPosition 10 = .ok (.if_icmp .ne 11, 3) := dk_160 0 11 (dk_at dksX6_errorPosition_0 10 rfl rfl)
theorem dX6_errorPosition_13 : decode cX6_errorPosition 13 = .ok (.aload_n 0, 1) := dk_42 (dk_at dksX6_errorPosition_0 13 rfl rfl)
theorem dX6_errorPosition_14 : decode cX6_errorPosition 14 = .ok (.iconst 1, 1) := dk_4 (dk_at dksX6_errorPosition_0 14 rfl rfl)
theorem dX6_errorPosition_15 : decode cX6_errorPosition 15 = .ok (.invokevirtual 75, 3) := dk_182 0 75 (dk_at dksX6_errorPosition_0 15 rfl rfl)
theorem dX6_errorPosition_18 : decode cX6_errorPosition 18 = .ok (.goto 7, 3) := dk_167 0 7 (dk_at dksX6_errorPosition_0 18 rfl rfl)
theorem dX6_errorPosition_21 : decode cX6_errorPosition 21 = .ok (.aload_n 0, 1) := dk_42 (dk_at dksX6_errorPosition_0 21 rfl rfl)
theorem dX6_errorPosition_22 : decode cX6_errorPosition 22 = .ok (.getfield 31, 3) := dk_180 0 31 (dk_at dksX6_errorPosition_1 0 rfl rfl)
theorem dX6_errorPosition_25 : decode cX6_errorPosition 25 = .ok (.ireturn, 1) := dk_172 (dk_at dksX6_errorPosition_1 3 rfl rfl)
abbrev cX6_failedCommand : ByteArray := prog_23_method_83_code
def yX6_failedCommand : MethodName := ⟨RX6, "failedCommand", "()I"⟩
def dkwX6_failedCommand_1 : List UInt8 := [180, 0, 35, 172]
abbrev dktX6_failedCommand_1 : List UInt8 := dkwX6_failedCommand_1 ++ []
def dkwX6_failedCommand_0 : List UInt8 := [42, 3, 181, 0, 62, 42, 180, 0, 35, 2, 160, 0, 11, 42, 4, 182, 0, 75, 167, 0, 7, 42]
abbrev dktX6_failedCommand_0 : List UInt8 := dkwX6_failedCommand_0 ++ dktX6_failedCommand_1
theorem dksX6_failedCommand_0 : cX6_failedCommand.data.toList.drop 0 = dktX6_failedCommand_0 := by decide +kernel
theorem dksX6_failedCommand_1 : cX6_failedCommand.data.toList.drop 22 = dktX6_failedCommand_1 := dk_seg dksX6_failedCommand_0 22 rfl rfl
theorem dX6_failedCommand_0 : decode cX6_failedCommand 0 = .ok (.aload_n 0, 1) := dk_42 (dk_at dksX6_failedCommand_0 0 rfl rfl)
theorem dX6_failedCommand_1 : decode cX6_failedCommand 1 = .ok (.iconst 0, 1) := dk_3 (dk_at dksX6_failedCommand_0 1 rfl rfl)
theorem dX6_failedCommand_2 : decode cX6_failedCommand 2 = .ok (.putfield 62, 3) := dk_181 0 62 (dk_at dksX6_failedCommand_0 2 rfl rfl)
theorem dX6_failedCommand_5 : decode cX6_failedCommand 5 = .ok (.aload_n 0, 1) := dk_42 (dk_at dksX6_failedCommand_0 5 rfl rfl)
theorem dX6_failedCommand_6 : decode cX6_failedCommand 6 = .ok (.getfield 35, 3) := dk_180 0 35 (dk_at dksX6_failedCommand_0 6 rfl rfl)
theorem dX6_failedCommand_9 : decode cX6_failedCommand 9 = .ok (.iconst (-1), 1) := dk_2 (dk_at dksX6_failedCommand_0 9 rfl rfl)
theorem dX6_failedCommand_10 : decode cX6_failedCommand 10 = .ok (.if_icmp .ne 11, 3) := dk_160 0 11 (dk_at dksX6_failedCommand_0 10 rfl rfl)
theorem dX6_failedCommand_13 : decode cX6_failedCommand 13 = .ok (.aload_n 0, 1) := dk_42 (dk_at dksX6_failedCommand_0 13 rfl rfl)
theorem dX6_failedCommand_14 : decode cX6_failedCommand 14 = .ok (.iconst 1, 1) := dk_4 (dk_at dksX6_failedCommand_0 14 rfl rfl)
theorem dX6_failedCommand_15 : decode cX6_failedCommand 15 = .ok (.invokevirtual 75, 3) := dk_182 0 75 (dk_at dksX6_failedCommand_0 15 rfl rfl)
theorem dX6_failedCommand_18 : decode cX6_failedCommand 18 = .ok (.goto 7, 3) := dk_167 0 7 (dk_at dksX6_failedCommand_0 18 rfl rfl)
theorem dX6_failedCommand_21 : decode cX6_failedCommand 21 = .ok (.aload_n 0, 1) := dk_42 (dk_at dksX6_failedCommand_0 21 rfl rfl)
theorem dX6_failedCommand_22 : decode cX6_failedCommand 22 = .ok (.getfield 35, 3) := dk_180 0 35 (dk_at dksX6_failedCommand_1 0 rfl rfl)
theorem dX6_failedCommand_25 : decode cX6_failedCommand 25 = .ok (.ireturn, 1) := dk_172 (dk_at dksX6_failedCommand_1 3 rfl rfl)
abbrev cX6_describe : ByteArray := prog_23_method_85_code
def yX6_describe : MethodName := ⟨RX6, "describe", "(I)I"⟩
def dkwX6_describe_7 : List UInt8 := [160, 0, 8, 16, 41, 167, 0, 5, 16, 43, 182, 1, 16, 132, 2, 1, 167, 255, 110, 42, 180, 1, 13, 172]
abbrev dktX6_describe_7 : List UInt8 := dkwX6_describe_7 ++ []
def dkwX6_describe_6 : List UInt8 := [132, 6, 1, 167, 255, 240, 167, 0, 29, 42, 29, 5, 160, 0, 8, 16, 40, 167, 0, 15, 29, 6]
abbrev dktX6_describe_6 : List UInt8 := dkwX6_describe_6 ++ dktX6_describe_7
def dkwX6_describe_5 : List UInt8 := [21, 4, 96, 182, 1, 16, 3, 54, 6, 21, 6, 21, 5, 163, 0, 15, 42, 16, 33, 182, 1, 16]
abbrev dktX6_describe_5 : List UInt8 := dkwX6_describe_5 ++ dktX6_describe_6
def dkwX6_describe_4 : List UInt8 := [182, 0, 173, 182, 1, 16, 167, 0, 74, 29, 4, 160, 0, 43, 42, 16, 118, 182, 1, 16, 42, 16, 48]
abbrev dktX6_describe_4 : List UInt8 := dkwX6_describe_4 ++ dktX6_describe_5
def dkwX6_describe_3 : List UInt8 := [182, 0, 82, 54, 5, 29, 154, 0, 27, 42, 16, 48, 21, 4, 96, 182, 1, 16, 42, 42, 21, 4, 21, 5]
abbrev dktX6_describe_3 : List UInt8 := dkwX6_describe_3 ++ dktX6_describe_4
def dkwX6_describe_2 : List UInt8 := [182, 1, 16, 42, 27, 28, 182, 0, 98, 62, 42, 27, 28, 4, 182, 0, 82, 54, 4, 42, 27, 28, 5]
abbrev dktX6_describe_2 : List UInt8 := dkwX6_describe_2 ++ dktX6_describe_3
def dkwX6_describe_1 : List UInt8 := [172, 42, 3, 181, 1, 13, 3, 61, 28, 42, 27, 182, 0, 106, 162, 0, 143, 28, 158, 0, 9, 42, 16, 32]
abbrev dktX6_describe_1 : List UInt8 := dkwX6_describe_1 ++ dktX6_describe_2
def dkwX6_describe_0 : List UInt8 := [42, 27, 184, 0, 136, 153, 0, 7, 3, 167, 0, 4, 4, 181, 0, 62, 42, 180, 0, 62, 158, 0, 5, 3]
abbrev dktX6_describe_0 : List UInt8 := dkwX6_describe_0 ++ dktX6_describe_1
theorem dksX6_describe_0 : cX6_describe.data.toList.drop 0 = dktX6_describe_0 := by decide +kernel
theorem dksX6_describe_1 : cX6_describe.data.toList.drop 24 = dktX6_describe_1 := dk_seg dksX6_describe_0 24 rfl rfl
theorem dksX6_describe_2 : cX6_describe.data.toList.drop 48 = dktX6_describe_2 := dk_seg dksX6_describe_1 24 rfl rfl
theorem dksX6_describe_3 : cX6_describe.data.toList.drop 71 = dktX6_describe_3 := dk_seg dksX6_describe_2 23 rfl rfl
theorem dksX6_describe_4 : cX6_describe.data.toList.drop 95 = dktX6_describe_4 := dk_seg dksX6_describe_3 24 rfl rfl
theorem dksX6_describe_5 : cX6_describe.data.toList.drop 118 = dktX6_describe_5 := dk_seg dksX6_describe_4 23 rfl rfl
theorem dksX6_describe_6 : cX6_describe.data.toList.drop 140 = dktX6_describe_6 := dk_seg dksX6_describe_5 22 rfl rfl
theorem dksX6_describe_7 : cX6_describe.data.toList.drop 162 = dktX6_describe_7 := dk_seg dksX6_describe_6 22 rfl rfl
theorem dX6_describe_0 : decode cX6_describe 0 = .ok (.aload_n 0, 1) := dk_42 (dk_at dksX6_describe_0 0 rfl rfl)
theorem dX6_describe_1 : decode cX6_describe 1 = .ok (.iload_n 1, 1) := dk_27 (dk_at dksX6_describe_0 1 rfl rfl)
theorem dX6_describe_2 : decode cX6_describe 2 = .ok (.invokestatic 136, 3) := dk_184 0 136 (dk_at dksX6_describe_0 2 rfl rfl)
theorem dX6_describe_5 : decode cX6_describe 5 = .ok (.ifCond .eq 7, 3) := dk_153 0 7 (dk_at dksX6_describe_0 5 rfl rfl)
theorem dX6_describe_8 : decode cX6_describe 8 = .ok (.iconst 0, 1) := dk_3 (dk_at dksX6_describe_0 8 rfl rfl)
theorem dX6_describe_9 : decode cX6_describe 9 = .ok (.goto 4, 3) := dk_167 0 4 (dk_at dksX6_describe_0 9 rfl rfl)
theorem dX6_describe_12 : decode cX6_describe 12 = .ok (.iconst 1, 1) := dk_4 (dk_at dksX6_describe_0 12 rfl rfl)
theorem dX6_describe_13 : decode cX6_describe 13 = .ok (.putfield 62, 3) := dk_181 0 62 (dk_at dksX6_describe_0 13 rfl rfl)
theorem dX6_describe_16 : decode cX6_describe 16 = .ok (.aload_n 0, 1) := dk_42 (dk_at dksX6_describe_0 16 rfl rfl)
theorem dX6_describe_17 : decode cX6_describe 17 = .ok (.getfield 62, 3) := dk_180 0 62 (dk_at dksX6_describe_0 17 rfl rfl)
theorem dX6_describe_20 : decode cX6_describe 20 = .ok (.ifCond .le 5, 3) := dk_158 0 5 (dk_at dksX6_describe_0 20 rfl rfl)
theorem dX6_describe_23 : decode cX6_describe 23 = .ok (.iconst 0, 1) := dk_3 (dk_at dksX6_describe_0 23 rfl rfl)
theorem dX6_describe_24 : decode cX6_describe 24 = .ok (.ireturn, 1) := dk_172 (dk_at dksX6_describe_1 0 rfl rfl)
theorem dX6_describe_25 : decode cX6_describe 25 = .ok (.aload_n 0, 1) := dk_42 (dk_at dksX6_describe_1 1 rfl rfl)
theorem dX6_describe_26 : decode cX6_describe 26 = .ok (.iconst 0, 1) := dk_3 (dk_at dksX6_describe_1 2 rfl rfl)
theorem dX6_describe_27 : decode cX6_describe 27 = .ok (.putfield 269, 3) := dk_181 1 13 (dk_at dksX6_describe_1 3 rfl rfl)
theorem dX6_describe_30 : decode cX6_describe 30 = .ok (.iconst 0, 1) := dk_3 (dk_at dksX6_describe_1 6 rfl rfl)
theorem dX6_describe_31 : decode cX6_describe 31 = .ok (.istore_n 2, 1) := dk_61 (dk_at dksX6_describe_1 7 rfl rfl)
theorem dX6_describe_32 : decode cX6_describe 32 = .ok (.iload_n 2, 1) := dk_28 (dk_at dksX6_describe_1 8 rfl rfl)
theorem dX6_describe_33 : decode cX6_describe 33 = .ok (.aload_n 0, 1) := dk_42 (dk_at dksX6_describe_1 9 rfl rfl)
theorem dX6_describe_34 : decode cX6_describe 34 = .ok (.iload_n 1, 1) := dk_27 (dk_at dksX6_describe_1 10 rfl rfl)
theorem dX6_describe_35 : decode cX6_describe 35 = .ok (.invokevirtual 106, 3) := dk_182 0 106 (dk_at dksX6_describe_1 11 rfl rfl)
theorem dX6_describe_38 : decode cX6_describe 38 = .ok (.if_icmp .ge 143, 3) := dk_162 0 143 (dk_at dksX6_describe_1 14 rfl rfl)
theorem dX6_describe_41 : decode cX6_describe 41 = .ok (.iload_n 2, 1) := dk_28 (dk_at dksX6_describe_1 17 rfl rfl)
theorem dX6_describe_42 : decode cX6_describe 42 = .ok (.ifCond .le 9, 3) := dk_158 0 9 (dk_at dksX6_describe_1 18 rfl rfl)
theorem dX6_describe_45 : decode cX6_describe 45 = .ok (.aload_n 0, 1) := dk_42 (dk_at dksX6_describe_1 21 rfl rfl)
theorem dX6_describe_46 : decode cX6_describe 46 = .ok (.bipush 32, 2) := dk_16 32 (dk_at dksX6_describe_1 22 rfl rfl)
theorem dX6_describe_48 : decode cX6_describe 48 = .ok (.invokevirtual 272, 3) := dk_182 1 16 (dk_at dksX6_describe_2 0 rfl rfl)
theorem dX6_describe_51 : decode cX6_describe 51 = .ok (.aload_n 0, 1) := dk_42 (dk_at dksX6_describe_2 3 rfl rfl)
theorem dX6_describe_52 : decode cX6_describe 52 = .ok (.iload_n 1, 1) := dk_27 (dk_at dksX6_describe_2 4 rfl rfl)
theorem dX6_describe_53 : decode cX6_describe 53 = .ok (.iload_n 2, 1) := dk_28 (dk_at dksX6_describe_2 5 rfl rfl)
theorem dX6_describe_54 : decode cX6_describe 54 = .ok (.invokevirtual 98, 3) := dk_182 0 98 (dk_at dksX6_describe_2 6 rfl rfl)
theorem dX6_describe_57 : decode cX6_describe 57 = .ok (.istore_n 3, 1) := dk_62 (dk_at dksX6_describe_2 9 rfl rfl)
theorem dX6_describe_58 : decode cX6_describe 58 = .ok (.aload_n 0, 1) := dk_42 (dk_at dksX6_describe_2 10 rfl rfl)
theorem dX6_describe_59 : decode cX6_describe 59 = .ok (.iload_n 1, 1) := dk_27 (dk_at dksX6_describe_2 11 rfl rfl)
theorem dX6_describe_60 : decode cX6_describe 60 = .ok (.iload_n 2, 1) := dk_28 (dk_at dksX6_describe_2 12 rfl rfl)
theorem dX6_describe_61 : decode cX6_describe 61 = .ok (.iconst 1, 1) := dk_4 (dk_at dksX6_describe_2 13 rfl rfl)
theorem dX6_describe_62 : decode cX6_describe 62 = .ok (.invokevirtual 82, 3) := dk_182 0 82 (dk_at dksX6_describe_2 14 rfl rfl)
theorem dX6_describe_65 : decode cX6_describe 65 = .ok (.istore 4, 2) := dk_54 4 (dk_at dksX6_describe_2 17 rfl rfl)
theorem dX6_describe_67 : decode cX6_describe 67 = .ok (.aload_n 0, 1) := dk_42 (dk_at dksX6_describe_2 19 rfl rfl)
theorem dX6_describe_68 : decode cX6_describe 68 = .ok (.iload_n 1, 1) := dk_27 (dk_at dksX6_describe_2 20 rfl rfl)
theorem dX6_describe_69 : decode cX6_describe 69 = .ok (.iload_n 2, 1) := dk_28 (dk_at dksX6_describe_2 21 rfl rfl)
theorem dX6_describe_70 : decode cX6_describe 70 = .ok (.iconst 2, 1) := dk_5 (dk_at dksX6_describe_2 22 rfl rfl)
theorem dX6_describe_71 : decode cX6_describe 71 = .ok (.invokevirtual 82, 3) := dk_182 0 82 (dk_at dksX6_describe_3 0 rfl rfl)
theorem dX6_describe_74 : decode cX6_describe 74 = .ok (.istore 5, 2) := dk_54 5 (dk_at dksX6_describe_3 3 rfl rfl)
theorem dX6_describe_76 : decode cX6_describe 76 = .ok (.iload_n 3, 1) := dk_29 (dk_at dksX6_describe_3 5 rfl rfl)
theorem dX6_describe_77 : decode cX6_describe 77 = .ok (.ifCond .ne 27, 3) := dk_154 0 27 (dk_at dksX6_describe_3 6 rfl rfl)
theorem dX6_describe_80 : decode cX6_describe 80 = .ok (.aload_n 0, 1) := dk_42 (dk_at dksX6_describe_3 9 rfl rfl)
theorem dX6_describe_81 : decode cX6_describe 81 = .ok (.bipush 48, 2) := dk_16 48 (dk_at dksX6_describe_3 10 rfl rfl)
theorem dX6_describe_83 : decode cX6_describe 83 = .ok (.iload 4, 2) := dk_21 4 (dk_at dksX6_describe_3 12 rfl rfl)
theorem dX6_describe_85 : decode cX6_describe 85 = .ok (.iadd, 1) := dk_96 (dk_at dksX6_describe_3 14 rfl rfl)
theorem dX6_describe_86 : decode cX6_describe 86 = .ok (.invokevirtual 272, 3) := dk_182 1 16 (dk_at dksX6_describe_3 15 rfl rfl)
theorem dX6_describe_89 : decode cX6_describe 89 = .ok (.aload_n 0, 1) := dk_42 (dk_at dksX6_describe_3 18 rfl rfl)
theorem dX6_describe_90 : decode cX6_describe 90 = .ok (.aload_n 0, 1) := dk_42 (dk_at dksX6_describe_3 19 rfl rfl)
theorem dX6_describe_91 : decode cX6_describe 91 = .ok (.iload 4, 2) := dk_21 4 (dk_at dksX6_describe_3 20 rfl rfl)
theorem dX6_describe_93 : decode cX6_describe 93 = .ok (.iload 5, 2) := dk_21 5 (dk_at dksX6_describe_3 22 rfl rfl)
theorem dX6_describe_95 : decode cX6_describe 95 = .ok (.invokevirtual 173, 3) := dk_182 0 173 (dk_at dksX6_describe_4 0 rfl rfl)
theorem dX6_describe_98 : decode cX6_describe 98 = .ok (.invokevirtual 272, 3) := dk_182 1 16 (dk_at dksX6_describe_4 3 rfl rfl)
theorem dX6_describe_101 : decode cX6_describe 101 = .ok (.goto 74, 3) := dk_167 0 74 (dk_at dksX6_describe_4 6 rfl rfl)
theorem dX6_describe_104 : decode cX6_describe 104 = .ok (.iload_n 3, 1) := dk_29 (dk_at dksX6_describe_4 9 rfl rfl)
theorem dX6_describe_105 : decode cX6_describe 105 = .ok (.iconst 1, 1) := dk_4 (dk_at dksX6_describe_4 10 rfl rfl)
theorem dX6_describe_106 : decode cX6_describe 106 = .ok (.if_icmp .ne 43, 3) := dk_160 0 43 (dk_at dksX6_describe_4 11 rfl rfl)
theorem dX6_describe_109 : decode cX6_describe 109 = .ok (.aload_n 0, 1) := dk_42 (dk_at dksX6_describe_4 14 rfl rfl)
theorem dX6_describe_110 : decode cX6_describe 110 = .ok (.bipush 118, 2) := dk_16 118 (dk_at dksX6_describe_4 15 rfl rfl)
theorem dX6_describe_112 : decode cX6_describe 112 = .ok (.invokevirtual 272, 3) := dk_182 1 16 (dk_at dksX6_describe_4 17 rfl rfl)
theorem dX6_describe_115 : decode cX6_describe 115 = .ok (.aload_n 0, 1) := dk_42 (dk_at dksX6_describe_4 20 rfl rfl)
theorem dX6_describe_116 : decode cX6_describe 116 = .ok (.bipush 48, 2) := dk_16 48 (dk_at dksX6_describe_4 21 rfl rfl)
theorem dX6_describe_118 : decode cX6_describe 118 = .ok (.iload 4, 2) := dk_21 4 (dk_at dksX6_describe_5 0 rfl rfl)
theorem dX6_describe_120 : decode cX6_describe 120 = .ok (.iadd, 1) := dk_96 (dk_at dksX6_describe_5 2 rfl rfl)
theorem dX6_describe_121 : decode cX6_describe 121 = .ok (.invokevirtual 272, 3) := dk_182 1 16 (dk_at dksX6_describe_5 3 rfl rfl)
theorem dX6_describe_124 : decode cX6_describe 124 = .ok (.iconst 0, 1) := dk_3 (dk_at dksX6_describe_5 6 rfl rfl)
theorem dX6_describe_125 : decode cX6_describe 125 = .ok (.istore 6, 2) := dk_54 6 (dk_at dksX6_describe_5 7 rfl rfl)
theorem dX6_describe_127 : decode cX6_describe 127 = .ok (.iload 6, 2) := dk_21 6 (dk_at dksX6_describe_5 9 rfl rfl)
theorem dX6_describe_129 : decode cX6_describe 129 = .ok (.iload 5, 2) := dk_21 5 (dk_at dksX6_describe_5 11 rfl rfl)
theorem dX6_describe_131 : decode cX6_describe 131 = .ok (.if_icmp .gt 15, 3) := dk_163 0 15 (dk_at dksX6_describe_5 13 rfl rfl)
theorem dX6_describe_134 : decode cX6_describe 134 = .ok (.aload_n 0, 1) := dk_42 (dk_at dksX6_describe_5 16 rfl rfl)
theorem dX6_describe_135 : decode cX6_describe 135 = .ok (.bipush 33, 2) := dk_16 33 (dk_at dksX6_describe_5 17 rfl rfl)
theorem dX6_describe_137 : decode cX6_describe 137 = .ok (.invokevirtual 272, 3) := dk_182 1 16 (dk_at dksX6_describe_5 19 rfl rfl)
theorem dX6_describe_140 : decode cX6_describe 140 = .ok (.iinc 6 1, 3) := dk_132 6 1 (dk_at dksX6_describe_6 0 rfl rfl)
theorem dX6_describe_143 : decode cX6_describe 143 = .ok (.goto (-16), 3) := dk_167 255 240 (dk_at dksX6_describe_6 3 rfl rfl)
theorem dX6_describe_146 : decode cX6_describe 146 = .ok (.goto 29, 3) := dk_167 0 29 (dk_at dksX6_describe_6 6 rfl rfl)
theorem dX6_describe_149 : decode cX6_describe 149 = .ok (.aload_n 0, 1) := dk_42 (dk_at dksX6_describe_6 9 rfl rfl)
theorem dX6_describe_150 : decode cX6_describe 150 = .ok (.iload_n 3, 1) := dk_29 (dk_at dksX6_describe_6 10 rfl rfl)
theorem dX6_describe_151 : decode cX6_describe 151 = .ok (.iconst 2, 1) := dk_5 (dk_at dksX6_describe_6 11 rfl rfl)
theorem dX6_describe_152 : decode cX6_describe 152 = .ok (.if_icmp .ne 8, 3) := dk_160 0 8 (dk_at dksX6_describe_6 12 rfl rfl)
theorem dX6_describe_155 : decode cX6_describe 155 = .ok (.bipush 40, 2) := dk_16 40 (dk_at dksX6_describe_6 15 rfl rfl)
theorem dX6_describe_157 : decode cX6_describe 157 = .ok (.goto 15, 3) := dk_167 0 15 (dk_at dksX6_describe_6 17 rfl rfl)
theorem dX6_describe_160 : decode cX6_describe 160 = .ok (.iload_n 3, 1) := dk_29 (dk_at dksX6_describe_6 20 rfl rfl)
theorem dX6_describe_161 : decode cX6_describe 161 = .ok (.iconst 3, 1) := dk_6 (dk_at dksX6_describe_6 21 rfl rfl)
theorem dX6_describe_162 : decode cX6_describe 162 = .ok (.if_icmp .ne 8, 3) := dk_160 0 8 (dk_at dksX6_describe_7 0 rfl rfl)
theorem dX6_describe_165 : decode cX6_describe 165 = .ok (.bipush 41, 2) := dk_16 41 (dk_at dksX6_describe_7 3 rfl rfl)
theorem dX6_describe_167 : decode cX6_describe 167 = .ok (.goto 5, 3) := dk_167 0 5 (dk_at dksX6_describe_7 5 rfl rfl)
theorem dX6_describe_170 : decode cX6_describe 170 = .ok (.bipush 43, 2) := dk_16 43 (dk_at dksX6_describe_7 8 rfl rfl)
theorem dX6_describe_172 : decode cX6_describe 172 = .ok (.invokevirtual 272, 3) := dk_182 1 16 (dk_at dksX6_describe_7 10 rfl rfl)
theorem dX6_describe_175 : decode cX6_describe 175 = .ok (.iinc 2 1, 3) := dk_132 2 1 (dk_at dksX6_describe_7 13 rfl rfl)
theorem dX6_describe_178 : decode cX6_describe 178 = .ok (.goto (-146), 3) := dk_167 255 110 (dk_at dksX6_describe_7 16 rfl rfl)
theorem dX6_describe_181 : decode cX6_describe 181 = .ok (.aload_n 0, 1) := dk_42 (dk_at dksX6_describe_7 19 rfl rfl)
theorem dX6_describe_182 : decode cX6_describe 182 = .ok (.getfield 269, 3) := dk_180 1 13 (dk_at dksX6_describe_7 20 rfl rfl)
theorem dX6_describe_185 : decode cX6_describe 185 = .ok (.ireturn, 1) := dk_172 (dk_at dksX6_describe_7 23 rfl rfl)
abbrev cX6_writes : ByteArray := prog_23_method_84_code
def yX6_writes : MethodName := ⟨RX6, "writes", "(I)V"⟩
def dkwX6_writes_0 : List UInt8 := [42, 180, 0, 28, 42, 180, 1, 13, 27, 79, 42, 89, 180, 1, 13, 4, 96, 181, 1, 13, 177]
abbrev dktX6_writes_0 : List UInt8 := dkwX6_writes_0 ++ []
theorem dksX6_writes_0 : cX6_writes.data.toList.drop 0 = dktX6_writes_0 := by decide +kernel
theorem dX6_writes_0 : decode cX6_writes 0 = .ok (.aload_n 0, 1) := dk_42 (dk_at dksX6_writes_0 0 rfl rfl)
theorem dX6_writes_1 : decode cX6_writes 1 = .ok (.getfield 28, 3) := dk_180 0 28 (dk_at dksX6_writes_0 1 rfl rfl)
theorem dX6_writes_4 : decode cX6_writes 4 = .ok (.aload_n 0, 1) := dk_42 (dk_at dksX6_writes_0 4 rfl rfl)
theorem dX6_writes_5 : decode cX6_writes 5 = .ok (.getfield 269, 3) := dk_180 1 13 (dk_at dksX6_writes_0 5 rfl rfl)
theorem dX6_writes_8 : decode cX6_writes 8 = .ok (.iload_n 1, 1) := dk_27 (dk_at dksX6_writes_0 8 rfl rfl)
theorem dX6_writes_9 : decode cX6_writes 9 = .ok (.iastore, 1) := dk_79 (dk_at dksX6_writes_0 9 rfl rfl)
theorem dX6_writes_10 : decode cX6_writes 10 = .ok (.aload_n 0, 1) := dk_42 (dk_at dksX6_writes_0 10 rfl rfl)
theorem dX6_writes_11 : decode cX6_writes 11 = .ok (.dup, 1) := dk_89 (dk_at dksX6_writes_0 11 rfl rfl)
theorem dX6_writes_12 : decode cX6_writes 12 = .ok (.getfield 269, 3) := dk_180 1 13 (dk_at dksX6_writes_0 12 rfl rfl)
theorem dX6_writes_15 : decode cX6_writes 15 = .ok (.iconst 1, 1) := dk_4 (dk_at dksX6_writes_0 15 rfl rfl)
theorem dX6_writes_16 : decode cX6_writes 16 = .ok (.iadd, 1) := dk_96 (dk_at dksX6_writes_0 16 rfl rfl)
theorem dX6_writes_17 : decode cX6_writes 17 = .ok (.putfield 269, 3) := dk_181 1 13 (dk_at dksX6_writes_0 17 rfl rfl)
theorem dX6_writes_20 : decode cX6_writes 20 = .ok (.return_, 1) := dk_177 (dk_at dksX6_writes_0 20 rfl rfl)
abbrev cX6_lineAt : ByteArray := prog_23_method_86_code
def yX6_lineAt : MethodName := ⟨RX6, "lineAt", "(I)C"⟩
def dkwX6_lineAt_1 : List UInt8 := [180, 0, 62, 158, 0, 7, 3, 167, 0, 10, 42, 180, 0, 28, 27, 46, 146, 172]
abbrev dktX6_lineAt_1 : List UInt8 := dkwX6_lineAt_1 ++ []
def dkwX6_lineAt_0 : List UInt8 := [42, 27, 3, 42, 180, 1, 13, 4, 100, 184, 0, 78, 153, 0, 7, 3, 167, 0, 4, 4, 181, 0, 62, 42]
abbrev dktX6_lineAt_0 : List UInt8 := dkwX6_lineAt_0 ++ dktX6_lineAt_1
theorem dksX6_lineAt_0 : cX6_lineAt.data.toList.drop 0 = dktX6_lineAt_0 := by decide +kernel
theorem dksX6_lineAt_1 : cX6_lineAt.data.toList.drop 24 = dktX6_lineAt_1 := dk_seg dksX6_lineAt_0 24 rfl rfl
theorem dX6_lineAt_0 : decode cX6_lineAt 0 = .ok (.aload_n 0, 1) := dk_42 (dk_at dksX6_lineAt_0 0 rfl rfl)
theorem dX6_lineAt_1 : decode cX6_lineAt 1 = .ok (.iload_n 1, 1) := dk_27 (dk_at dksX6_lineAt_0 1 rfl rfl)
theorem dX6_lineAt_2 : decode cX6_lineAt 2 = .ok (.iconst 0, 1) := dk_3 (dk_at dksX6_lineAt_0 2 rfl rfl)
theorem dX6_lineAt_3 : decode cX6_lineAt 3 = .ok (.aload_n 0, 1) := dk_42 (dk_at dksX6_lineAt_0 3 rfl rfl)
theorem dX6_lineAt_4 : decode cX6_lineAt 4 = .ok (.getfield 269, 3) := dk_180 1 13 (dk_at dksX6_lineAt_0 4 rfl rfl)
theorem dX6_lineAt_7 : decode cX6_lineAt 7 = .ok (.iconst 1, 1) := dk_4 (dk_at dksX6_lineAt_0 7 rfl rfl)
theorem dX6_lineAt_8 : decode cX6_lineAt 8 = .ok (.isub, 1) := dk_100 (dk_at dksX6_lineAt_0 8 rfl rfl)
theorem dX6_lineAt_9 : decode cX6_lineAt 9 = .ok (.invokestatic 78, 3) := dk_184 0 78 (dk_at dksX6_lineAt_0 9 rfl rfl)
theorem dX6_lineAt_12 : decode cX6_lineAt 12 = .ok (.ifCond .eq 7, 3) := dk_153 0 7 (dk_at dksX6_lineAt_0 12 rfl rfl)
theorem dX6_lineAt_15 : decode cX6_lineAt 15 = .ok (.iconst 0, 1) := dk_3 (dk_at dksX6_lineAt_0 15 rfl rfl)
theorem dX6_lineAt_16 : decode cX6_lineAt 16 = .ok (.goto 4, 3) := dk_167 0 4 (dk_at dksX6_lineAt_0 16 rfl rfl)
theorem dX6_lineAt_19 : decode cX6_lineAt 19 = .ok (.iconst 1, 1) := dk_4 (dk_at dksX6_lineAt_0 19 rfl rfl)
theorem dX6_lineAt_20 : decode cX6_lineAt 20 = .ok (.putfield 62, 3) := dk_181 0 62 (dk_at dksX6_lineAt_0 20 rfl rfl)
theorem dX6_lineAt_23 : decode cX6_lineAt 23 = .ok (.aload_n 0, 1) := dk_42 (dk_at dksX6_lineAt_0 23 rfl rfl)
theorem dX6_lineAt_24 : decode cX6_lineAt 24 = .ok (.getfield 62, 3) := dk_180 0 62 (dk_at dksX6_lineAt_1 0 rfl rfl)
theorem dX6_lineAt_27 : decode cX6_lineAt 27 = .ok (.ifCond .le 7, 3) := dk_158 0 7 (dk_at dksX6_lineAt_1 3 rfl rfl)
theorem dX6_lineAt_30 : decode cX6_lineAt 30 = .ok (.iconst 0, 1) := dk_3 (dk_at dksX6_lineAt_1 6 rfl rfl)
theorem dX6_lineAt_31 : decode cX6_lineAt 31 = .ok (.goto 10, 3) := dk_167 0 10 (dk_at dksX6_lineAt_1 7 rfl rfl)
theorem dX6_lineAt_34 : decode cX6_lineAt 34 = .ok (.aload_n 0, 1) := dk_42 (dk_at dksX6_lineAt_1 10 rfl rfl)
theorem dX6_lineAt_35 : decode cX6_lineAt 35 = .ok (.getfield 28, 3) := dk_180 0 28 (dk_at dksX6_lineAt_1 11 rfl rfl)
theorem dX6_lineAt_38 : decode cX6_lineAt 38 = .ok (.iload_n 1, 1) := dk_27 (dk_at dksX6_lineAt_1 14 rfl rfl)
theorem dX6_lineAt_39 : decode cX6_lineAt 39 = .ok (.iaload, 1) := dk_46 (dk_at dksX6_lineAt_1 15 rfl rfl)
theorem dX6_lineAt_40 : decode cX6_lineAt 40 = .ok (.i2c, 1) := dk_146 (dk_at dksX6_lineAt_1 16 rfl rfl)
theorem dX6_lineAt_41 : decode cX6_lineAt 41 = .ok (.ireturn, 1) := dk_172 (dk_at dksX6_lineAt_1 17 rfl rfl)
abbrev cX6_meanTokens : ByteArray := prog_23_method_88_code
def yX6_meanTokens : MethodName := ⟨RX6, "meanTokens", "()D"⟩
def dkwX6_meanTokens_0 : List UInt8 := [42, 3, 181, 0, 62, 42, 182, 1, 19, 135, 20, 1, 22, 111, 175]
abbrev dktX6_meanTokens_0 : List UInt8 := dkwX6_meanTokens_0 ++ []
theorem dksX6_meanTokens_0 : cX6_meanTokens.data.toList.drop 0 = dktX6_meanTokens_0 := by decide +kernel
theorem dX6_meanTokens_0 : decode cX6_meanTokens 0 = .ok (.aload_n 0, 1) := dk_42 (dk_at dksX6_meanTokens_0 0 rfl rfl)
theorem dX6_meanTokens_1 : decode cX6_meanTokens 1 = .ok (.iconst 0, 1) := dk_3 (dk_at dksX6_meanTokens_0 1 rfl rfl)
theorem dX6_meanTokens_2 : decode cX6_meanTokens 2 = .ok (.putfield 62, 3) := dk_181 0 62 (dk_at dksX6_meanTokens_0 2 rfl rfl)
theorem dX6_meanTokens_5 : decode cX6_meanTokens 5 = .ok (.aload_n 0, 1) := dk_42 (dk_at dksX6_meanTokens_0 5 rfl rfl)
theorem dX6_meanTokens_6 : decode cX6_meanTokens 6 = .ok (.invokevirtual 275, 3) := dk_182 1 19 (dk_at dksX6_meanTokens_0 6 rfl rfl)
theorem dX6_meanTokens_9 : decode cX6_meanTokens 9 = .ok (.i2d, 1) := dk_135 (dk_at dksX6_meanTokens_0 9 rfl rfl)
theorem dX6_meanTokens_10 : decode cX6_meanTokens 10 = .ok (.ldc2_w 278, 3) := dk_20 1 22 (dk_at dksX6_meanTokens_0 10 rfl rfl)
theorem dX6_meanTokens_13 : decode cX6_meanTokens 13 = .ok (.ddiv, 1) := dk_111 (dk_at dksX6_meanTokens_0 13 rfl rfl)
theorem dX6_meanTokens_14 : decode cX6_meanTokens 14 = .ok (.dreturn, 1) := dk_175 (dk_at dksX6_meanTokens_0 14 rfl rfl)
abbrev cX6_allTokens : ByteArray := prog_23_method_87_code
def yX6_allTokens : MethodName := ⟨RX6, "allTokens", "()I"⟩
def dkwX6_allTokens_0 : List UInt8 := [42, 3, 182, 0, 106, 42, 4, 182, 0, 106, 96, 42, 5, 182, 0, 106, 96, 42, 6, 182, 0, 106, 96, 172]
abbrev dktX6_allTokens_0 : List UInt8 := dkwX6_allTokens_0 ++ []
theorem dksX6_allTokens_0 : cX6_allTokens.data.toList.drop 0 = dktX6_allTokens_0 := by decide +kernel
theorem dX6_allTokens_0 : decode cX6_allTokens 0 = .ok (.aload_n 0, 1) := dk_42 (dk_at dksX6_allTokens_0 0 rfl rfl)
theorem dX6_allTokens_1 : decode cX6_allTokens 1 = .ok (.iconst 0, 1) := dk_3 (dk_at dksX6_allTokens_0 1 rfl rfl)
theorem dX6_allTokens_2 : decode cX6_allTokens 2 = .ok (.invokevirtual 106, 3) := dk_182 0 106 (dk_at dksX6_allTokens_0 2 rfl rfl)
theorem dX6_allTokens_5 : decode cX6_allTokens 5 = .ok (.aload_n 0, 1) := dk_42 (dk_at dksX6_allTokens_0 5 rfl rfl)
theorem dX6_allTokens_6 : decode cX6_allTokens 6 = .ok (.iconst 1, 1) := dk_4 (dk_at dksX6_allTokens_0 6 rfl rfl)
theorem dX6_allTokens_7 : decode cX6_allTokens 7 = .ok (.invokevirtual 106, 3) := dk_182 0 106 (dk_at dksX6_allTokens_0 7 rfl rfl)
theorem dX6_allTokens_10 : decode cX6_allTokens 10 = .ok (.iadd, 1) := dk_96 (dk_at dksX6_allTokens_0 10 rfl rfl)
theorem dX6_allTokens_11 : decode cX6_allTokens 11 = .ok (.aload_n 0, 1) := dk_42 (dk_at dksX6_allTokens_0 11 rfl rfl)
theorem dX6_allTokens_12 : decode cX6_allTokens 12 = .ok (.iconst 2, 1) := dk_5 (dk_at dksX6_allTokens_0 12 rfl rfl)
theorem dX6_allTokens_13 : decode cX6_allTokens 13 = .ok (.invokevirtual 106, 3) := dk_182 0 106 (dk_at dksX6_allTokens_0 13 rfl rfl)
theorem dX6_allTokens_16 : decode cX6_allTokens 16 = .ok (.iadd, 1) := dk_96 (dk_at dksX6_allTokens_0 16 rfl rfl)
theorem dX6_allTokens_17 : decode cX6_allTokens 17 = .ok (.aload_n 0, 1) := dk_42 (dk_at dksX6_allTokens_0 17 rfl rfl)
theorem dX6_allTokens_18 : decode cX6_allTokens 18 = .ok (.iconst 3, 1) := dk_6 (dk_at dksX6_allTokens_0 18 rfl rfl)
theorem dX6_allTokens_19 : decode cX6_allTokens 19 = .ok (.invokevirtual 106, 3) := dk_182 0 106 (dk_at dksX6_allTokens_0 19 rfl rfl)
theorem dX6_allTokens_22 : decode cX6_allTokens 22 = .ok (.iadd, 1) := dk_96 (dk_at dksX6_allTokens_0 22 rfl rfl)
theorem dX6_allTokens_23 : decode cX6_allTokens 23 = .ok (.ireturn, 1) := dk_172 (dk_at dksX6_allTokens_0 23 rfl rfl)
abbrev cX6_nounShare : ByteArray := prog_23_method_89_code
def yX6_nounShare : MethodName := ⟨RX6, "nounShare", "(I)F"⟩
def dkwX6_nounShare_3 : List UInt8 := [167, 255, 227, 28, 134, 42, 27, 182, 0, 106, 134, 110, 174]
abbrev dktX6_nounShare_3 : List UInt8 := dkwX6_nounShare_3 ++ []
def dkwX6_nounShare_2 : List UInt8 := [162, 0, 26, 28, 42, 27, 29, 182, 0, 98, 154, 0, 7, 4, 167, 0, 4, 3, 96, 61, 132, 3, 1]
abbrev dktX6_nounShare_2 : List UInt8 := dkwX6_nounShare_2 ++ dktX6_nounShare_3
def dkwX6_nounShare_1 : List UInt8 := [3, 181, 0, 62, 42, 180, 0, 62, 158, 0, 5, 11, 174, 3, 61, 3, 62, 29, 42, 27, 182, 0, 106]
abbrev dktX6_nounShare_1 : List UInt8 := dkwX6_nounShare_1 ++ dktX6_nounShare_2
def dkwX6_nounShare_0 : List UInt8 := [42, 27, 184, 0, 136, 154, 0, 7, 4, 167, 0, 16, 42, 27, 182, 0, 106, 154, 0, 7, 5, 167, 0, 4]
abbrev dktX6_nounShare_0 : List UInt8 := dkwX6_nounShare_0 ++ dktX6_nounShare_1
theorem dksX6_nounShare_0 : cX6_nounShare.data.toList.drop 0 = dktX6_nounShare_0 := by decide +kernel
theorem dksX6_nounShare_1 : cX6_nounShare.data.toList.drop 24 = dktX6_nounShare_1 := dk_seg dksX6_nounShare_0 24 rfl rfl
theorem dksX6_nounShare_2 : cX6_nounShare.data.toList.drop 47 = dktX6_nounShare_2 := dk_seg dksX6_nounShare_1 23 rfl rfl
theorem dksX6_nounShare_3 : cX6_nounShare.data.toList.drop 70 = dktX6_nounShare_3 := dk_seg dksX6_nounShare_2 23 rfl rfl
theorem dX6_nounShare_0 : decode cX6_nounShare 0 = .ok (.aload_n 0, 1) := dk_42 (dk_at dksX6_nounShare_0 0 rfl rfl)
theorem dX6_nounShare_1 : decode cX6_nounShare 1 = .ok (.iload_n 1, 1) := dk_27 (dk_at dksX6_nounShare_0 1 rfl rfl)
theorem dX6_nounShare_2 : decode cX6_nounShare 2 = .ok (.invokestatic 136, 3) := dk_184 0 136 (dk_at dksX6_nounShare_0 2 rfl rfl)
theorem dX6_nounShare_5 : decode cX6_nounShare 5 = .ok (.ifCond .ne 7, 3) := dk_154 0 7 (dk_at dksX6_nounShare_0 5 rfl rfl)
theorem dX6_nounShare_8 : decode cX6_nounShare 8 = .ok (.iconst 1, 1) := dk_4 (dk_at dksX6_nounShare_0 8 rfl rfl)
theorem dX6_nounShare_9 : decode cX6_nounShare 9 = .ok (.goto 16, 3) := dk_167 0 16 (dk_at dksX6_nounShare_0 9 rfl rfl)
theorem dX6_nounShare_12 : decode cX6_nounShare 12 = .ok (.aload_n 0, 1) := dk_42 (dk_at dksX6_nounShare_0 12 rfl rfl)
theorem dX6_nounShare_13 : decode cX6_nounShare 13 = .ok (.iload_n 1, 1) := dk_27 (dk_at dksX6_nounShare_0 13 rfl rfl)
theorem dX6_nounShare_14 : decode cX6_nounShare 14 = .ok (.invokevirtual 106, 3) := dk_182 0 106 (dk_at dksX6_nounShare_0 14 rfl rfl)
theorem dX6_nounShare_17 : decode cX6_nounShare 17 = .ok (.ifCond .ne 7, 3) := dk_154 0 7 (dk_at dksX6_nounShare_0 17 rfl rfl)
theorem dX6_nounShare_20 : decode cX6_nounShare 20 = .ok (.iconst 2, 1) := dk_5 (dk_at dksX6_nounShare_0 20 rfl rfl)
theorem dX6_nounShare_21 : decode cX6_nounShare 21 = .ok (.goto 4, 3) := dk_167 0 4 (dk_at dksX6_nounShare_0 21 rfl rfl)
theorem dX6_nounShare_24 : decode cX6_nounShare 24 = .ok (.iconst 0, 1) := dk_3 (dk_at dksX6_nounShare_1 0 rfl rfl)
theorem dX6_nounShare_25 : decode cX6_nounShare 25 = .ok (.putfield 62, 3) := dk_181 0 62 (dk_at dksX6_nounShare_1 1 rfl rfl)
theorem dX6_nounShare_28 : decode cX6_nounShare 28 = .ok (.aload_n 0, 1) := dk_42 (dk_at dksX6_nounShare_1 4 rfl rfl)
theorem dX6_nounShare_29 : decode cX6_nounShare 29 = .ok (.getfield 62, 3) := dk_180 0 62 (dk_at dksX6_nounShare_1 5 rfl rfl)
theorem dX6_nounShare_32 : decode cX6_nounShare 32 = .ok (.ifCond .le 5, 3) := dk_158 0 5 (dk_at dksX6_nounShare_1 8 rfl rfl)
theorem dX6_nounShare_35 : decode cX6_nounShare 35 = .ok (.fconst 0, 1) := dk_11 (dk_at dksX6_nounShare_1 11 rfl rfl)
theorem dX6_nounShare_36 : decode cX6_nounShare 36 = .ok (.freturn, 1) := dk_174 (dk_at dksX6_nounShare_1 12 rfl rfl)
theorem dX6_nounShare_37 : decode cX6_nounShare 37 = .ok (.iconst 0, 1) := dk_3 (dk_at dksX6_nounShare_1 13 rfl rfl)
theorem dX6_nounShare_38 : decode cX6_nounShare 38 = .ok (.istore_n 2, 1) := dk_61 (dk_at dksX6_nounShare_1 14 rfl rfl)
theorem dX6_nounShare_39 : decode cX6_nounShare 39 = .ok (.iconst 0, 1) := dk_3 (dk_at dksX6_nounShare_1 15 rfl rfl)
theorem dX6_nounShare_40 : decode cX6_nounShare 40 = .ok (.istore_n 3, 1) := dk_62 (dk_at dksX6_nounShare_1 16 rfl rfl)
theorem dX6_nounShare_41 : decode cX6_nounShare 41 = .ok (.iload_n 3, 1) := dk_29 (dk_at dksX6_nounShare_1 17 rfl rfl)
theorem dX6_nounShare_42 : decode cX6_nounShare 42 = .ok (.aload_n 0, 1) := dk_42 (dk_at dksX6_nounShare_1 18 rfl rfl)
theorem dX6_nounShare_43 : decode cX6_nounShare 43 = .ok (.iload_n 1, 1) := dk_27 (dk_at dksX6_nounShare_1 19 rfl rfl)
theorem dX6_nounShare_44 : decode cX6_nounShare 44 = .ok (.invokevirtual 106, 3) := dk_182 0 106 (dk_at dksX6_nounShare_1 20 rfl rfl)
theorem dX6_nounShare_47 : decode cX6_nounShare 47 = .ok (.if_icmp .ge 26, 3) := dk_162 0 26 (dk_at dksX6_nounShare_2 0 rfl rfl)
theorem dX6_nounShare_50 : decode cX6_nounShare 50 = .ok (.iload_n 2, 1) := dk_28 (dk_at dksX6_nounShare_2 3 rfl rfl)
theorem dX6_nounShare_51 : decode cX6_nounShare 51 = .ok (.aload_n 0, 1) := dk_42 (dk_at dksX6_nounShare_2 4 rfl rfl)
theorem dX6_nounShare_52 : decode cX6_nounShare 52 = .ok (.iload_n 1, 1) := dk_27 (dk_at dksX6_nounShare_2 5 rfl rfl)
theorem dX6_nounShare_53 : decode cX6_nounShare 53 = .ok (.iload_n 3, 1) := dk_29 (dk_at dksX6_nounShare_2 6 rfl rfl)
theorem dX6_nounShare_54 : decode cX6_nounShare 54 = .ok (.invokevirtual 98, 3) := dk_182 0 98 (dk_at dksX6_nounShare_2 7 rfl rfl)
theorem dX6_nounShare_57 : decode cX6_nounShare 57 = .ok (.ifCond .ne 7, 3) := dk_154 0 7 (dk_at dksX6_nounShare_2 10 rfl rfl)
theorem dX6_nounShare_60 : decode cX6_nounShare 60 = .ok (.iconst 1, 1) := dk_4 (dk_at dksX6_nounShare_2 13 rfl rfl)
theorem dX6_nounShare_61 : decode cX6_nounShare 61 = .ok (.goto 4, 3) := dk_167 0 4 (dk_at dksX6_nounShare_2 14 rfl rfl)
theorem dX6_nounShare_64 : decode cX6_nounShare 64 = .ok (.iconst 0, 1) := dk_3 (dk_at dksX6_nounShare_2 17 rfl rfl)
theorem dX6_nounShare_65 : decode cX6_nounShare 65 = .ok (.iadd, 1) := dk_96 (dk_at dksX6_nounShare_2 18 rfl rfl)
theorem dX6_nounShare_66 : decode cX6_nounShare 66 = .ok (.istore_n 2, 1) := dk_61 (dk_at dksX6_nounShare_2 19 rfl rfl)
theorem dX6_nounShare_67 : decode cX6_nounShare 67 = .ok (.iinc 3 1, 3) := dk_132 3 1 (dk_at dksX6_nounShare_2 20 rfl rfl)
theorem dX6_nounShare_70 : decode cX6_nounShare 70 = .ok (.goto (-29), 3) := dk_167 255 227 (dk_at dksX6_nounShare_3 0 rfl rfl)
theorem dX6_nounShare_73 : decode cX6_nounShare 73 = .ok (.iload_n 2, 1) := dk_28 (dk_at dksX6_nounShare_3 3 rfl rfl)
theorem dX6_nounShare_74 : decode cX6_nounShare 74 = .ok (.i2f, 1) := dk_134 (dk_at dksX6_nounShare_3 4 rfl rfl)
theorem dX6_nounShare_75 : decode cX6_nounShare 75 = .ok (.aload_n 0, 1) := dk_42 (dk_at dksX6_nounShare_3 5 rfl rfl)
theorem dX6_nounShare_76 : decode cX6_nounShare 76 = .ok (.iload_n 1, 1) := dk_27 (dk_at dksX6_nounShare_3 6 rfl rfl)
theorem dX6_nounShare_77 : decode cX6_nounShare 77 = .ok (.invokevirtual 106, 3) := dk_182 0 106 (dk_at dksX6_nounShare_3 7 rfl rfl)
theorem dX6_nounShare_80 : decode cX6_nounShare 80 = .ok (.i2f, 1) := dk_134 (dk_at dksX6_nounShare_3 10 rfl rfl)
theorem dX6_nounShare_81 : decode cX6_nounShare 81 = .ok (.fdiv, 1) := dk_110 (dk_at dksX6_nounShare_3 11 rfl rfl)
theorem dX6_nounShare_82 : decode cX6_nounShare 82 = .ok (.freturn, 1) := dk_174 (dk_at dksX6_nounShare_3 12 rfl rfl)
abbrev cX6_isConsistent : ByteArray := prog_23_method_90_code
def yX6_isConsistent : MethodName := ⟨RX6, "isConsistent", "()Z"⟩
def dkwX6_isConsistent_0 : List UInt8 := [42, 3, 181, 0, 62, 4, 172]
abbrev dktX6_isConsistent_0 : List UInt8 := dkwX6_isConsistent_0 ++ []
theorem dksX6_isConsistent_0 : cX6_isConsistent.data.toList.drop 0 = dktX6_isConsistent_0 := by decide +kernel
theorem dX6_isConsistent_0 : decode cX6_isConsistent 0 = .ok (.aload_n 0, 1) := dk_42 (dk_at dksX6_isConsistent_0 0 rfl rfl)
theorem dX6_isConsistent_1 : decode cX6_isConsistent 1 = .ok (.iconst 0, 1) := dk_3 (dk_at dksX6_isConsistent_0 1 rfl rfl)
theorem dX6_isConsistent_2 : decode cX6_isConsistent 2 = .ok (.putfield 62, 3) := dk_181 0 62 (dk_at dksX6_isConsistent_0 2 rfl rfl)
theorem dX6_isConsistent_5 : decode cX6_isConsistent 5 = .ok (.iconst 1, 1) := dk_4 (dk_at dksX6_isConsistent_0 5 rfl rfl)
theorem dX6_isConsistent_6 : decode cX6_isConsistent 6 = .ok (.ireturn, 1) := dk_172 (dk_at dksX6_isConsistent_0 6 rfl rfl)
abbrev cX6_undo : ByteArray := prog_23_method_91_code
def yX6_undo : MethodName := ⟨RX6, "undo", "()I"⟩
def dkwX6_undo_2 : List UInt8 := [17, 1, 58, 42, 180, 0, 65, 104, 27, 96, 46, 79, 132, 1, 1, 167, 255, 225, 42, 180, 0, 65, 172]
abbrev dktX6_undo_2 : List UInt8 := dkwX6_undo_2 ++ []
def dkwX6_undo_1 : List UInt8 := [100, 181, 0, 65, 3, 60, 27, 17, 1, 58, 162, 0, 30, 42, 180, 0, 7, 27, 42, 180, 0, 19]
abbrev dktX6_undo_1 : List UInt8 := dkwX6_undo_1 ++ dktX6_undo_2
def dkwX6_undo_0 : List UInt8 := [42, 3, 181, 0, 62, 42, 180, 0, 65, 154, 0, 9, 42, 4, 182, 0, 75, 172, 42, 89, 180, 0, 65, 4]
abbrev dktX6_undo_0 : List UInt8 := dkwX6_undo_0 ++ dktX6_undo_1
theorem dksX6_undo_0 : cX6_undo.data.toList.drop 0 = dktX6_undo_0 := by decide +kernel
theorem dksX6_undo_1 : cX6_undo.data.toList.drop 24 = dktX6_undo_1 := dk_seg dksX6_undo_0 24 rfl rfl
theorem dksX6_undo_2 : cX6_undo.data.toList.drop 46 = dktX6_undo_2 := dk_seg dksX6_undo_1 22 rfl rfl
theorem dX6_undo_0 : decode cX6_undo 0 = .ok (.aload_n 0, 1) := dk_42 (dk_at dksX6_undo_0 0 rfl rfl)
theorem dX6_undo_1 : decode cX6_undo 1 = .ok (.iconst 0, 1) := dk_3 (dk_at dksX6_undo_0 1 rfl rfl)
theorem dX6_undo_2 : decode cX6_undo 2 = .ok (.putfield 62, 3) := dk_181 0 62 (dk_at dksX6_undo_0 2 rfl rfl)
theorem dX6_undo_5 : decode cX6_undo 5 = .ok (.aload_n 0, 1) := dk_42 (dk_at dksX6_undo_0 5 rfl rfl)
theorem dX6_undo_6 : decode cX6_undo 6 = .ok (.getfield 65, 3) := dk_180 0 65 (dk_at dksX6_undo_0 6 rfl rfl)
theorem dX6_undo_9 : decode cX6_undo 9 = .ok (.ifCond .ne 9, 3) := dk_154 0 9 (dk_at dksX6_undo_0 9 rfl rfl)
theorem dX6_undo_12 : decode cX6_undo 12 = .ok (.aload_n 0, 1) := dk_42 (dk_at dksX6_undo_0 12 rfl rfl)
theorem dX6_undo_13 : decode cX6_undo 13 = .ok (.iconst 1, 1) := dk_4 (dk_at dksX6_undo_0 13 rfl rfl)
theorem dX6_undo_14 : decode cX6_undo 14 = .ok (.invokevirtual 75, 3) := dk_182 0 75 (dk_at dksX6_undo_0 14 rfl rfl)
theorem dX6_undo_17 : decode cX6_undo 17 = .ok (.ireturn, 1) := dk_172 (dk_at dksX6_undo_0 17 rfl rfl)
theorem dX6_undo_18 : decode cX6_undo 18 = .ok (.aload_n 0, 1) := dk_42 (dk_at dksX6_undo_0 18 rfl rfl)
theorem dX6_undo_19 : decode cX6_undo 19 = .ok (.dup, 1) := dk_89 (dk_at dksX6_undo_0 19 rfl rfl)
theorem dX6_undo_20 : decode cX6_undo 20 = .ok (.getfield 65, 3) := dk_180 0 65 (dk_at dksX6_undo_0 20 rfl rfl)
theorem dX6_undo_23 : decode cX6_undo 23 = .ok (.iconst 1, 1) := dk_4 (dk_at dksX6_undo_0 23 rfl rfl)
theorem dX6_undo_24 : decode cX6_undo 24 = .ok (.isub, 1) := dk_100 (dk_at dksX6_undo_1 0 rfl rfl)
theorem dX6_undo_25 : decode cX6_undo 25 = .ok (.putfield 65, 3) := dk_181 0 65 (dk_at dksX6_undo_1 1 rfl rfl)
theorem dX6_undo_28 : decode cX6_undo 28 = .ok (.iconst 0, 1) := dk_3 (dk_at dksX6_undo_1 4 rfl rfl)
theorem dX6_undo_29 : decode cX6_undo 29 = .ok (.istore_n 1, 1) := dk_60 (dk_at dksX6_undo_1 5 rfl rfl)
theorem dX6_undo_30 : decode cX6_undo 30 = .ok (.iload_n 1, 1) := dk_27 (dk_at dksX6_undo_1 6 rfl rfl)
theorem dX6_undo_31 : decode cX6_undo 31 = .ok (.sipush 314, 3) := dk_17 1 58 (dk_at dksX6_undo_1 7 rfl rfl)
theorem dX6_undo_34 : decode cX6_undo 34 = .ok (.if_icmp .ge 30, 3) := dk_162 0 30 (dk_at dksX6_undo_1 10 rfl rfl)
theorem dX6_undo_37 : decode cX6_undo 37 = .ok (.aload_n 0, 1) := dk_42 (dk_at dksX6_undo_1 13 rfl rfl)
theorem dX6_undo_38 : decode cX6_undo 38 = .ok (.getfield 7, 3) := dk_180 0 7 (dk_at dksX6_undo_1 14 rfl rfl)
theorem dX6_undo_41 : decode cX6_undo 41 = .ok (.iload_n 1, 1) := dk_27 (dk_at dksX6_undo_1 17 rfl rfl)
theorem dX6_undo_42 : decode cX6_undo 42 = .ok (.aload_n 0, 1) := dk_42 (dk_at dksX6_undo_1 18 rfl rfl)
theorem dX6_undo_43 : decode cX6_undo 43 = .ok (.getfield 19, 3) := dk_180 0 19 (dk_at dksX6_undo_1 19 rfl rfl)
theorem dX6_undo_46 : decode cX6_undo 46 = .ok (.sipush 314, 3) := dk_17 1 58 (dk_at dksX6_undo_2 0 rfl rfl)
theorem dX6_undo_49 : decode cX6_undo 49 = .ok (.aload_n 0, 1) := dk_42 (dk_at dksX6_undo_2 3 rfl rfl)
theorem dX6_undo_50 : decode cX6_undo 50 = .ok (.getfield 65, 3) := dk_180 0 65 (dk_at dksX6_undo_2 4 rfl rfl)
theorem dX6_undo_53 : decode cX6_undo 53 = .ok (.imul, 1) := dk_104 (dk_at dksX6_undo_2 7 rfl rfl)
theorem dX6_undo_54 : decode cX6_undo 54 = .ok (.iload_n 1, 1) := dk_27 (dk_at dksX6_undo_2 8 rfl rfl)
theorem dX6_undo_55 : decode cX6_undo 55 = .ok (.iadd, 1) := dk_96 (dk_at dksX6_undo_2 9 rfl rfl)
theorem dX6_undo_56 : decode cX6_undo 56 = .ok (.iaload, 1) := dk_46 (dk_at dksX6_undo_2 10 rfl rfl)
theorem dX6_undo_57 : decode cX6_undo 57 = .ok (.iastore, 1) := dk_79 (dk_at dksX6_undo_2 11 rfl rfl)
theorem dX6_undo_58 : decode cX6_undo 58 = .ok (.iinc 1 1, 3) := dk_132 1 1 (dk_at dksX6_undo_2 12 rfl rfl)
theorem dX6_undo_61 : decode cX6_undo 61 = .ok (.goto (-31), 3) := dk_167 255 225 (dk_at dksX6_undo_2 15 rfl rfl)
theorem dX6_undo_64 : decode cX6_undo 64 = .ok (.aload_n 0, 1) := dk_42 (dk_at dksX6_undo_2 18 rfl rfl)
theorem dX6_undo_65 : decode cX6_undo 65 = .ok (.getfield 65, 3) := dk_180 0 65 (dk_at dksX6_undo_2 19 rfl rfl)
theorem dX6_undo_68 : decode cX6_undo 68 = .ok (.ireturn, 1) := dk_172 (dk_at dksX6_undo_2 22 rfl rfl)
abbrev cX6_save : ByteArray := prog_23_method_92_code
def yX6_save : MethodName := ⟨RX6, "save", "()I"⟩
def dkwX6_save_1 : List UInt8 := [46, 79, 132, 1, 1, 167, 255, 234, 42, 4, 181, 1, 24, 42, 182, 1, 19, 172]
abbrev dktX6_save_1 : List UInt8 := dkwX6_save_1 ++ []
def dkwX6_save_0 : List UInt8 := [42, 3, 181, 0, 62, 3, 60, 27, 17, 1, 58, 162, 0, 21, 42, 180, 0, 16, 27, 42, 180, 0, 7, 27]
abbrev dktX6_save_0 : List UInt8 := dkwX6_save_0 ++ dktX6_save_1
theorem dksX6_save_0 : cX6_save.data.toList.drop 0 = dktX6_save_0 := by decide +kernel
theorem dksX6_save_1 : cX6_save.data.toList.drop 24 = dktX6_save_1 := dk_seg dksX6_save_0 24 rfl rfl
theorem dX6_save_0 : decode cX6_save 0 = .ok (.aload_n 0, 1) := dk_42 (dk_at dksX6_save_0 0 rfl rfl)
theorem dX6_save_1 : decode cX6_save 1 = .ok (.iconst 0, 1) := dk_3 (dk_at dksX6_save_0 1 rfl rfl)
theorem dX6_save_2 : decode cX6_save 2 = .ok (.putfield 62, 3) := dk_181 0 62 (dk_at dksX6_save_0 2 rfl rfl)
theorem dX6_save_5 : decode cX6_save 5 = .ok (.iconst 0, 1) := dk_3 (dk_at dksX6_save_0 5 rfl rfl)
theorem dX6_save_6 : decode cX6_save 6 = .ok (.istore_n 1, 1) := dk_60 (dk_at dksX6_save_0 6 rfl rfl)
theorem dX6_save_7 : decode cX6_save 7 = .ok (.iload_n 1, 1) := dk_27 (dk_at dksX6_save_0 7 rfl rfl)
theorem dX6_save_8 : decode cX6_save 8 = .ok (.sipush 314, 3) := dk_17 1 58 (dk_at dksX6_save_0 8 rfl rfl)
theorem dX6_save_11 : decode cX6_save 11 = .ok (.if_icmp .ge 21, 3) := dk_162 0 21 (dk_at dksX6_save_0 11 rfl rfl)
theorem dX6_save_14 : decode cX6_save 14 = .ok (.aload_n 0, 1) := dk_42 (dk_at dksX6_save_0 14 rfl rfl)
theorem dX6_save_15 : decode cX6_save 15 = .ok (.getfield 16, 3) := dk_180 0 16 (dk_at dksX6_save_0 15 rfl rfl)
theorem dX6_save_18 : decode cX6_save 18 = .ok (.iload_n 1, 1) := dk_27 (dk_at dksX6_save_0 18 rfl rfl)
theorem dX6_save_19 : decode cX6_save 19 = .ok (.aload_n 0, 1) := dk_42 (dk_at dksX6_save_0 19 rfl rfl)
theorem dX6_save_20 : decode cX6_save 20 = .ok (.getfield 7, 3) := dk_180 0 7 (dk_at dksX6_save_0 20 rfl rfl)
theorem dX6_save_23 : decode cX6_save 23 = .ok (.iload_n 1, 1) := dk_27 (dk_at dksX6_save_0 23 rfl rfl)
theorem dX6_save_24 : decode cX6_save 24 = .ok (.iaload, 1) := dk_46 (dk_at dksX6_save_1 0 rfl rfl)
theorem dX6_save_25 : decode cX6_save 25 = .ok (.iastore, 1) := dk_79 (dk_at dksX6_save_1 1 rfl rfl)
theorem dX6_save_26 : decode cX6_save 26 = .ok (.iinc 1 1, 3) := dk_132 1 1 (dk_at dksX6_save_1 2 rfl rfl)
theorem dX6_save_29 : decode cX6_save 29 = .ok (.goto (-22), 3) := dk_167 255 234 (dk_at dksX6_save_1 5 rfl rfl)
theorem dX6_save_32 : decode cX6_save 32 = .ok (.aload_n 0, 1) := dk_42 (dk_at dksX6_save_1 8 rfl rfl)
theorem dX6_save_33 : decode cX6_save 33 = .ok (.iconst 1, 1) := dk_4 (dk_at dksX6_save_1 9 rfl rfl)
theorem dX6_save_34 : decode cX6_save 34 = .ok (.putfield 280, 3) := dk_181 1 24 (dk_at dksX6_save_1 10 rfl rfl)
theorem dX6_save_37 : decode cX6_save 37 = .ok (.aload_n 0, 1) := dk_42 (dk_at dksX6_save_1 13 rfl rfl)
theorem dX6_save_38 : decode cX6_save 38 = .ok (.invokevirtual 275, 3) := dk_182 1 19 (dk_at dksX6_save_1 14 rfl rfl)
theorem dX6_save_41 : decode cX6_save 41 = .ok (.ireturn, 1) := dk_172 (dk_at dksX6_save_1 17 rfl rfl)
abbrev cX6_restore : ByteArray := prog_23_method_93_code
def yX6_restore : MethodName := ⟨RX6, "restore", "()I"⟩
def dkwX6_restore_2 : List UInt8 := [181, 0, 65, 42, 182, 1, 19, 172]
abbrev dktX6_restore_2 : List UInt8 := dkwX6_restore_2 ++ []
def dkwX6_restore_1 : List UInt8 := [162, 0, 21, 42, 180, 0, 7, 27, 42, 180, 0, 16, 27, 46, 79, 132, 1, 1, 167, 255, 234, 42, 3]
abbrev dktX6_restore_1 : List UInt8 := dkwX6_restore_1 ++ dktX6_restore_2
def dkwX6_restore_0 : List UInt8 := [42, 3, 181, 0, 62, 42, 180, 1, 24, 154, 0, 9, 42, 4, 182, 0, 75, 172, 3, 60, 27, 17, 1, 58]
abbrev dktX6_restore_0 : List UInt8 := dkwX6_restore_0 ++ dktX6_restore_1
theorem dksX6_restore_0 : cX6_restore.data.toList.drop 0 = dktX6_restore_0 := by decide +kernel
theorem dksX6_restore_1 : cX6_restore.data.toList.drop 24 = dktX6_restore_1 := dk_seg dksX6_restore_0 24 rfl rfl
theorem dksX6_restore_2 : cX6_restore.data.toList.drop 47 = dktX6_restore_2 := dk_seg dksX6_restore_1 23 rfl rfl
theorem dX6_restore_0 : decode cX6_restore 0 = .ok (.aload_n 0, 1) := dk_42 (dk_at dksX6_restore_0 0 rfl rfl)
theorem dX6_restore_1 : decode cX6_restore 1 = .ok (.iconst 0, 1) := dk_3 (dk_at dksX6_restore_0 1 rfl rfl)
theorem dX6_restore_2 : decode cX6_restore 2 = .ok (.putfield 62, 3) := dk_181 0 62 (dk_at dksX6_restore_0 2 rfl rfl)
theorem dX6_restore_5 : decode cX6_restore 5 = .ok (.aload_n 0, 1) := dk_42 (dk_at dksX6_restore_0 5 rfl rfl)
theorem dX6_restore_6 : decode cX6_restore 6 = .ok (.getfield 280, 3) := dk_180 1 24 (dk_at dksX6_restore_0 6 rfl rfl)
theorem dX6_restore_9 : decode cX6_restore 9 = .ok (.ifCond .ne 9, 3) := dk_154 0 9 (dk_at dksX6_restore_0 9 rfl rfl)
theorem dX6_restore_12 : decode cX6_restore 12 = .ok (.aload_n 0, 1) := dk_42 (dk_at dksX6_restore_0 12 rfl rfl)
theorem dX6_restore_13 : decode cX6_restore 13 = .ok (.iconst 1, 1) := dk_4 (dk_at dksX6_restore_0 13 rfl rfl)
theorem dX6_restore_14 : decode cX6_restore 14 = .ok (.invokevirtual 75, 3) := dk_182 0 75 (dk_at dksX6_restore_0 14 rfl rfl)
theorem dX6_restore_17 : decode cX6_restore 17 = .ok (.ireturn, 1) := dk_172 (dk_at dksX6_restore_0 17 rfl rfl)
theorem dX6_restore_18 : decode cX6_restore 18 = .ok (.iconst 0, 1) := dk_3 (dk_at dksX6_restore_0 18 rfl rfl)
theorem dX6_restore_19 : decode cX6_restore 19 = .ok (.istore_n 1, 1) := dk_60 (dk_at dksX6_restore_0 19 rfl rfl)
theorem dX6_restore_20 : decode cX6_restore 20 = .ok (.iload_n 1, 1) := dk_27 (dk_at dksX6_restore_0 20 rfl rfl)
theorem dX6_restore_21 : decode cX6_restore 21 = .ok (.sipush 314, 3) := dk_17 1 58 (dk_at dksX6_restore_0 21 rfl rfl)
theorem dX6_restore_24 : decode cX6_restore 24 = .ok (.if_icmp .ge 21, 3) := dk_162 0 21 (dk_at dksX6_restore_1 0 rfl rfl)
theorem dX6_restore_27 : decode cX6_restore 27 = .ok (.aload_n 0, 1) := dk_42 (dk_at dksX6_restore_1 3 rfl rfl)
theorem dX6_restore_28 : decode cX6_restore 28 = .ok (.getfield 7, 3) := dk_180 0 7 (dk_at dksX6_restore_1 4 rfl rfl)
theorem dX6_restore_31 : decode cX6_restore 31 = .ok (.iload_n 1, 1) := dk_27 (dk_at dksX6_restore_1 7 rfl rfl)
theorem dX6_restore_32 : decode cX6_restore 32 = .ok (.aload_n 0, 1) := dk_42 (dk_at dksX6_restore_1 8 rfl rfl)
theorem dX6_restore_33 : decode cX6_restore 33 = .ok (.getfield 16, 3) := dk_180 0 16 (dk_at dksX6_restore_1 9 rfl rfl)
theorem dX6_restore_36 : decode cX6_restore 36 = .ok (.iload_n 1, 1) := dk_27 (dk_at dksX6_restore_1 12 rfl rfl)
theorem dX6_restore_37 : decode cX6_restore 37 = .ok (.iaload, 1) := dk_46 (dk_at dksX6_restore_1 13 rfl rfl)
theorem dX6_restore_38 : decode cX6_restore 38 = .ok (.iastore, 1) := dk_79 (dk_at dksX6_restore_1 14 rfl rfl)
theorem dX6_restore_39 : decode cX6_restore 39 = .ok (.iinc 1 1, 3) := dk_132 1 1 (dk_at dksX6_restore_1 15 rfl rfl)
theorem dX6_restore_42 : decode cX6_restore 42 = .ok (.goto (-22), 3) := dk_167 255 234 (dk_at dksX6_restore_1 18 rfl rfl)
theorem dX6_restore_45 : decode cX6_restore 45 = .ok (.aload_n 0, 1) := dk_42 (dk_at dksX6_restore_1 21 rfl rfl)
theorem dX6_restore_46 : decode cX6_restore 46 = .ok (.iconst 0, 1) := dk_3 (dk_at dksX6_restore_1 22 rfl rfl)
theorem dX6_restore_47 : decode cX6_restore 47 = .ok (.putfield 65, 3) := dk_181 0 65 (dk_at dksX6_restore_2 0 rfl rfl)
theorem dX6_restore_50 : decode cX6_restore 50 = .ok (.aload_n 0, 1) := dk_42 (dk_at dksX6_restore_2 3 rfl rfl)
theorem dX6_restore_51 : decode cX6_restore 51 = .ok (.invokevirtual 275, 3) := dk_182 1 19 (dk_at dksX6_restore_2 4 rfl rfl)
theorem dX6_restore_54 : decode cX6_restore 54 = .ok (.ireturn, 1) := dk_172 (dk_at dksX6_restore_2 7 rfl rfl)
theorem q106 : (Jvm.Cond.initialized "GateGrammarModel") ∈ lw_all := lw_g (lw_at lw_m1 31 rfl) rfl
theorem q606 : (Jvm.Cond.selects "GateGrammarModel" ({ cls := "java/lang/Object", name := "getClass", desc := "()Ljava/lang/Class;" } : Jvm.MethodName) ({ cls := "java/lang/Object", name := "getClass", desc := "()Ljava/lang/Class;" } : Jvm.MethodName)) ∈ lw_all := lw_g (lw_at lw_m3 51 rfl) rfl
theorem q2525 : (Jvm.Cond.instantiable "GateGrammarModel" (33 : Nat)) ∈ lw_all := lw_g (lw_at lw_m11 50 rfl) rfl
theorem q2527 : (Jvm.Cond.instanceMethod ({ cls := "GateGrammarModel", name := "<init>", desc := "()V" } : Jvm.MethodName)) ∈ lw_all := lw_g (lw_at lw_m11 52 rfl) rfl
theorem q2528 : (Jvm.Cond.code ({ cls := "GateGrammarModel", name := "<init>", desc := "()V" } : Jvm.MethodName) prog_23_method_1_code (1 : Nat) (Option.none : Option Jvm.ClassFile.FieldType)) ∈ lw_all := lw_g (lw_at lw_m11 53 rfl) rfl
theorem q2529 : (Jvm.Cond.methodLink "GateGrammarModel" (1 : Nat) ({ cls := "java/lang/Object", name := "<init>", desc := "()V" } : Jvm.MethodName)) ∈ lw_all := lw_g (lw_at lw_m11 54 rfl) rfl
theorem q2530 : (Jvm.Cond.fieldLink "GateGrammarModel" (62 : Nat) "GateGrammarModel" "thrown" "I") ∈ lw_all := lw_g (lw_at lw_m11 55 rfl) rfl
theorem q2531 : (Jvm.Cond.fieldLink "GateGrammarModel" (7 : Nat) "GateGrammarModel" "s" "[I") ∈ lw_all := lw_g (lw_at lw_m11 56 rfl) rfl
theorem q2532 : (Jvm.Cond.fieldLink "GateGrammarModel" (13 : Nat) "GateGrammarModel" "frame" "[I") ∈ lw_all := lw_g (lw_at lw_m11 57 rfl) rfl
theorem q2533 : (Jvm.Cond.fieldLink "GateGrammarModel" (16 : Nat) "GateGrammarModel" "saved" "[I") ∈ lw_all := lw_g (lw_at lw_m11 58 rfl) rfl
theorem q2534 : (Jvm.Cond.fieldLink "GateGrammarModel" (19 : Nat) "GateGrammarModel" "history" "[I") ∈ lw_all := lw_g (lw_at lw_m11 59 rfl) rfl
theorem q2535 : (Jvm.Cond.fieldLink "GateGrammarModel" (65 : Nat) "GateGrammarModel" "kept" "I") ∈ lw_all := lw_g (lw_at lw_m11 60 rfl) rfl
theorem q2536 : (Jvm.Cond.fieldLink "GateGrammarModel" (280 : Nat) "GateGrammarModel" "hasSaved" "Z") ∈ lw_all := lw_g (lw_at lw_m11 61 rfl) rfl
theorem q2537 : (Jvm.Cond.fieldLink "GateGrammarModel" (22 : Nat) "GateGrammarModel" "text" "[I") ∈ lw_all := lw_g (lw_at lw_m11 62 rfl) rfl
theorem q2538 : (Jvm.Cond.fieldLink "GateGrammarModel" (25 : Nat) "GateGrammarModel" "told" "[I") ∈ lw_all := lw_g (lw_at lw_m11 63 rfl) rfl
theorem q2539 : (Jvm.Cond.fieldLink "GateGrammarModel" (28 : Nat) "GateGrammarModel" "out" "[I") ∈ lw_all := lw_g (lw_at lw_m11 64 rfl) rfl
theorem q2540 : (Jvm.Cond.fieldLink "GateGrammarModel" (216 : Nat) "GateGrammarModel" "length" "I") ∈ lw_all := lw_g (lw_at lw_m11 65 rfl) rfl
theorem q2541 : (Jvm.Cond.fieldLink "GateGrammarModel" (269 : Nat) "GateGrammarModel" "outLength" "I") ∈ lw_all := lw_g (lw_at lw_m11 66 rfl) rfl
theorem q2542 : (Jvm.Cond.fieldLink "GateGrammarModel" (31 : Nat) "GateGrammarModel" "faultAt" "I") ∈ lw_all := lw_g (lw_at lw_m11 67 rfl) rfl
theorem q2543 : (Jvm.Cond.fieldLink "GateGrammarModel" (35 : Nat) "GateGrammarModel" "failedAt" "I") ∈ lw_all := lw_g (lw_at lw_m11 68 rfl) rfl
theorem q2544 : (Jvm.Cond.fieldLink "GateGrammarModel" (68 : Nat) "GateGrammarModel" "answer" "I") ∈ lw_all := lw_g (lw_at lw_m11 69 rfl) rfl
theorem q2545 : (Jvm.Cond.fieldLink "GateGrammarModel" (38 : Nat) "GateGrammarModel" "parent" "[I") ∈ lw_all := lw_g (lw_at lw_m11 70 rfl) rfl
theorem q2546 : (Jvm.Cond.fieldLink "GateGrammarModel" (41 : Nat) "GateGrammarModel" "leader" "[I") ∈ lw_all := lw_g (lw_at lw_m11 71 rfl) rfl
theorem q2547 : (Jvm.Cond.fieldLink "GateGrammarModel" (44 : Nat) "GateGrammarModel" "subjects" "[I") ∈ lw_all := lw_g (lw_at lw_m11 72 rfl) rfl
theorem q2548 : (Jvm.Cond.fieldLink "GateGrammarModel" (47 : Nat) "GateGrammarModel" "verbAt" "[I") ∈ lw_all := lw_g (lw_at lw_m11 73 rfl) rfl
theorem q2549 : (Jvm.Cond.fieldLink "GateGrammarModel" (50 : Nat) "GateGrammarModel" "objectAt" "[I") ∈ lw_all := lw_g (lw_at lw_m11 74 rfl) rfl
theorem q2550 : (Jvm.Cond.fieldLink "GateGrammarModel" (53 : Nat) "GateGrammarModel" "openClause" "[I") ∈ lw_all := lw_g (lw_at lw_m11 75 rfl) rfl
theorem q2551 : (Jvm.Cond.fieldLink "GateGrammarModel" (56 : Nat) "GateGrammarModel" "openLeader" "[I") ∈ lw_all := lw_g (lw_at lw_m11 76 rfl) rfl
theorem q2552 : (Jvm.Cond.fieldLink "GateGrammarModel" (59 : Nat) "GateGrammarModel" "moved" "[I") ∈ lw_all := lw_g (lw_at lw_m11 77 rfl) rfl
theorem q2553 : (Jvm.Cond.fieldLink "GateGrammarModel" (86 : Nat) "GateGrammarModel" "clauses" "I") ∈ lw_all := lw_g (lw_at lw_m11 78 rfl) rfl
theorem q2554 : (Jvm.Cond.fieldLink "GateGrammarModel" (92 : Nat) "GateGrammarModel" "deepest" "I") ∈ lw_all := lw_g (lw_at lw_m11 79 rfl) rfl
theorem q2555 : (Jvm.Cond.fieldLink "GateGrammarModel" (95 : Nat) "GateGrammarModel" "state" "I") ∈ lw_all := lw_g (lw_at lw_m11 80 rfl) rfl
theorem q2556 : (Jvm.Cond.fieldLink "GateGrammarModel" (89 : Nat) "GateGrammarModel" "level" "I") ∈ lw_all := lw_g (lw_at lw_m11 81 rfl) rfl
theorem q2557 : (Jvm.Cond.fieldLink "GateGrammarModel" (112 : Nat) "GateGrammarModel" "causes" "I") ∈ lw_all := lw_g (lw_at lw_m11 82 rfl) rfl
theorem q2558 : (Jvm.Cond.fieldLink "GateGrammarModel" (115 : Nat) "GateGrammarModel" "firstCause" "I") ∈ lw_all := lw_g (lw_at lw_m11 83 rfl) rfl
theorem q2559 : (Jvm.Cond.fieldLink "GateGrammarModel" (219 : Nat) "GateGrammarModel" "spot" "I") ∈ lw_all := lw_g (lw_at lw_m11 84 rfl) rfl
theorem q2560 : (Jvm.Cond.fieldLink "GateGrammarModel" (222 : Nat) "GateGrammarModel" "end" "I") ∈ lw_all := lw_g (lw_at lw_m11 85 rfl) rfl
theorem q2561 : (Jvm.Cond.fieldLink "GateGrammarModel" (235 : Nat) "GateGrammarModel" "commands" "I") ∈ lw_all := lw_g (lw_at lw_m11 86 rfl) rfl
theorem q2562 : (Jvm.Cond.fieldLink "GateGrammarModel" (228 : Nat) "GateGrammarModel" "isWrong" "Z") ∈ lw_all := lw_g (lw_at lw_m11 87 rfl) rfl
theorem q2563 : (Jvm.Cond.lays "GateGrammarModel" "GateGrammarModel" "thrown" "I") ∈ lw_all := lw_g (lw_at lw_m11 88 rfl) rfl
theorem q2564 : (Jvm.Cond.soleField "GateGrammarModel" "thrown") ∈ lw_all := lw_g (lw_at lw_m11 89 rfl) rfl
theorem q2565 : (Jvm.Cond.laysFinal "GateGrammarModel" "GateGrammarModel" "s" "[I") ∈ lw_all := lw_g (lw_at lw_m11 90 rfl) rfl
theorem q2566 : (Jvm.Cond.soleField "GateGrammarModel" "s") ∈ lw_all := lw_g (lw_at lw_m11 91 rfl) rfl
theorem q2567 : (Jvm.Cond.laysFinal "GateGrammarModel" "GateGrammarModel" "frame" "[I") ∈ lw_all := lw_g (lw_at lw_m11 92 rfl) rfl
theorem q2568 : (Jvm.Cond.soleField "GateGrammarModel" "frame") ∈ lw_all := lw_g (lw_at lw_m11 93 rfl) rfl
theorem q2569 : (Jvm.Cond.laysFinal "GateGrammarModel" "GateGrammarModel" "saved" "[I") ∈ lw_all := lw_g (lw_at lw_m11 94 rfl) rfl
theorem q2570 : (Jvm.Cond.soleField "GateGrammarModel" "saved") ∈ lw_all := lw_g (lw_at lw_m11 95 rfl) rfl
theorem q2571 : (Jvm.Cond.laysFinal "GateGrammarModel" "GateGrammarModel" "history" "[I") ∈ lw_all := lw_g (lw_at lw_m11 96 rfl) rfl
theorem q2572 : (Jvm.Cond.soleField "GateGrammarModel" "history") ∈ lw_all := lw_g (lw_at lw_m11 97 rfl) rfl
theorem q2573 : (Jvm.Cond.lays "GateGrammarModel" "GateGrammarModel" "kept" "I") ∈ lw_all := lw_g (lw_at lw_m11 98 rfl) rfl
theorem q2574 : (Jvm.Cond.soleField "GateGrammarModel" "kept") ∈ lw_all := lw_g (lw_at lw_m11 99 rfl) rfl
theorem q2575 : (Jvm.Cond.lays "GateGrammarModel" "GateGrammarModel" "hasSaved" "Z") ∈ lw_all := lw_g (lw_at lw_m11 100 rfl) rfl
theorem q2576 : (Jvm.Cond.soleField "GateGrammarModel" "hasSaved") ∈ lw_all := lw_g (lw_at lw_m11 101 rfl) rfl
theorem q2577 : (Jvm.Cond.laysFinal "GateGrammarModel" "GateGrammarModel" "text" "[I") ∈ lw_all := lw_g (lw_at lw_m11 102 rfl) rfl
theorem q2578 : (Jvm.Cond.soleField "GateGrammarModel" "text") ∈ lw_all := lw_g (lw_at lw_m11 103 rfl) rfl
theorem q2579 : (Jvm.Cond.laysFinal "GateGrammarModel" "GateGrammarModel" "told" "[I") ∈ lw_all := lw_g (lw_at lw_m11 104 rfl) rfl
theorem q2580 : (Jvm.Cond.soleField "GateGrammarModel" "told") ∈ lw_all := lw_g (lw_at lw_m11 105 rfl) rfl
theorem q2581 : (Jvm.Cond.laysFinal "GateGrammarModel" "GateGrammarModel" "out" "[I") ∈ lw_all := lw_g (lw_at lw_m11 106 rfl) rfl
theorem q2582 : (Jvm.Cond.soleField "GateGrammarModel" "out") ∈ lw_all := lw_g (lw_at lw_m11 107 rfl) rfl
theorem q2583 : (Jvm.Cond.lays "GateGrammarModel" "GateGrammarModel" "length" "I") ∈ lw_all := lw_g (lw_at lw_m11 108 rfl) rfl
theorem q2584 : (Jvm.Cond.soleField "GateGrammarModel" "length") ∈ lw_all := lw_g (lw_at lw_m11 109 rfl) rfl
theorem q2585 : (Jvm.Cond.lays "GateGrammarModel" "GateGrammarModel" "outLength" "I") ∈ lw_all := lw_g (lw_at lw_m11 110 rfl) rfl
theorem q2586 : (Jvm.Cond.soleField "GateGrammarModel" "outLength") ∈ lw_all := lw_g (lw_at lw_m11 111 rfl) rfl
theorem q2587 : (Jvm.Cond.lays "GateGrammarModel" "GateGrammarModel" "faultAt" "I") ∈ lw_all := lw_g (lw_at lw_m11 112 rfl) rfl
theorem q2588 : (Jvm.Cond.soleField "GateGrammarModel" "faultAt") ∈ lw_all := lw_g (lw_at lw_m11 113 rfl) rfl
theorem q2589 : (Jvm.Cond.lays "GateGrammarModel" "GateGrammarModel" "failedAt" "I") ∈ lw_all := lw_g (lw_at lw_m11 114 rfl) rfl
theorem q2590 : (Jvm.Cond.soleField "GateGrammarModel" "failedAt") ∈ lw_all := lw_g (lw_at lw_m11 115 rfl) rfl
theorem q2591 : (Jvm.Cond.lays "GateGrammarModel" "GateGrammarModel" "answer" "I") ∈ lw_all := lw_g (lw_at lw_m11 116 rfl) rfl
theorem q2592 : (Jvm.Cond.soleField "GateGrammarModel" "answer") ∈ lw_all := lw_g (lw_at lw_m11 117 rfl) rfl
theorem q2593 : (Jvm.Cond.laysFinal "GateGrammarModel" "GateGrammarModel" "parent" "[I") ∈ lw_all := lw_g (lw_at lw_m11 118 rfl) rfl
theorem q2594 : (Jvm.Cond.soleField "GateGrammarModel" "parent") ∈ lw_all := lw_g (lw_at lw_m11 119 rfl) rfl
theorem q2595 : (Jvm.Cond.laysFinal "GateGrammarModel" "GateGrammarModel" "leader" "[I") ∈ lw_all := lw_g (lw_at lw_m11 120 rfl) rfl
theorem q2596 : (Jvm.Cond.soleField "GateGrammarModel" "leader") ∈ lw_all := lw_g (lw_at lw_m11 121 rfl) rfl
theorem q2597 : (Jvm.Cond.laysFinal "GateGrammarModel" "GateGrammarModel" "subjects" "[I") ∈ lw_all := lw_g (lw_at lw_m11 122 rfl) rfl
theorem q2598 : (Jvm.Cond.soleField "GateGrammarModel" "subjects") ∈ lw_all := lw_g (lw_at lw_m11 123 rfl) rfl
theorem q2599 : (Jvm.Cond.laysFinal "GateGrammarModel" "GateGrammarModel" "verbAt" "[I") ∈ lw_all := lw_g (lw_at lw_m11 124 rfl) rfl
theorem q2600 : (Jvm.Cond.soleField "GateGrammarModel" "verbAt") ∈ lw_all := lw_g (lw_at lw_m11 125 rfl) rfl
theorem q2601 : (Jvm.Cond.laysFinal "GateGrammarModel" "GateGrammarModel" "objectAt" "[I") ∈ lw_all := lw_g (lw_at lw_m11 126 rfl) rfl
theorem q2602 : (Jvm.Cond.soleField "GateGrammarModel" "objectAt") ∈ lw_all := lw_g (lw_at lw_m11 127 rfl) rfl
theorem q2603 : (Jvm.Cond.laysFinal "GateGrammarModel" "GateGrammarModel" "openClause" "[I") ∈ lw_all := lw_g (lw_at lw_m11 128 rfl) rfl
theorem q2604 : (Jvm.Cond.soleField "GateGrammarModel" "openClause") ∈ lw_all := lw_g (lw_at lw_m11 129 rfl) rfl
theorem q2605 : (Jvm.Cond.laysFinal "GateGrammarModel" "GateGrammarModel" "openLeader" "[I") ∈ lw_all := lw_g (lw_at lw_m11 130 rfl) rfl
theorem q2606 : (Jvm.Cond.soleField "GateGrammarModel" "openLeader") ∈ lw_all := lw_g (lw_at lw_m11 131 rfl) rfl
theorem q2607 : (Jvm.Cond.laysFinal "GateGrammarModel" "GateGrammarModel" "moved" "[I") ∈ lw_all := lw_g (lw_at lw_m11 132 rfl) rfl
theorem q2608 : (Jvm.Cond.soleField "GateGrammarModel" "moved") ∈ lw_all := lw_g (lw_at lw_m11 133 rfl) rfl
theorem q2609 : (Jvm.Cond.lays "GateGrammarModel" "GateGrammarModel" "clauses" "I") ∈ lw_all := lw_g (lw_at lw_m11 134 rfl) rfl
theorem q2610 : (Jvm.Cond.soleField "GateGrammarModel" "clauses") ∈ lw_all := lw_g (lw_at lw_m11 135 rfl) rfl
theorem q2611 : (Jvm.Cond.lays "GateGrammarModel" "GateGrammarModel" "deepest" "I") ∈ lw_all := lw_g (lw_at lw_m11 136 rfl) rfl
theorem q2612 : (Jvm.Cond.soleField "GateGrammarModel" "deepest") ∈ lw_all := lw_g (lw_at lw_m11 137 rfl) rfl
theorem q2613 : (Jvm.Cond.lays "GateGrammarModel" "GateGrammarModel" "state" "I") ∈ lw_all := lw_g (lw_at lw_m11 138 rfl) rfl
theorem q2614 : (Jvm.Cond.soleField "GateGrammarModel" "state") ∈ lw_all := lw_g (lw_at lw_m11 139 rfl) rfl
theorem q2615 : (Jvm.Cond.lays "GateGrammarModel" "GateGrammarModel" "level" "I") ∈ lw_all := lw_g (lw_at lw_m11 140 rfl) rfl
theorem q2616 : (Jvm.Cond.soleField "GateGrammarModel" "level") ∈ lw_all := lw_g (lw_at lw_m11 141 rfl) rfl
theorem q2617 : (Jvm.Cond.lays "GateGrammarModel" "GateGrammarModel" "causes" "I") ∈ lw_all := lw_g (lw_at lw_m11 142 rfl) rfl
theorem q2618 : (Jvm.Cond.soleField "GateGrammarModel" "causes") ∈ lw_all := lw_g (lw_at lw_m11 143 rfl) rfl
theorem q2619 : (Jvm.Cond.lays "GateGrammarModel" "GateGrammarModel" "firstCause" "I") ∈ lw_all := lw_g (lw_at lw_m11 144 rfl) rfl
theorem q2620 : (Jvm.Cond.soleField "GateGrammarModel" "firstCause") ∈ lw_all := lw_g (lw_at lw_m11 145 rfl) rfl
theorem q2621 : (Jvm.Cond.lays "GateGrammarModel" "GateGrammarModel" "spot" "I") ∈ lw_all := lw_g (lw_at lw_m11 146 rfl) rfl
theorem q2622 : (Jvm.Cond.soleField "GateGrammarModel" "spot") ∈ lw_all := lw_g (lw_at lw_m11 147 rfl) rfl
theorem q2623 : (Jvm.Cond.lays "GateGrammarModel" "GateGrammarModel" "end" "I") ∈ lw_all := lw_g (lw_at lw_m11 148 rfl) rfl
theorem q2624 : (Jvm.Cond.soleField "GateGrammarModel" "end") ∈ lw_all := lw_g (lw_at lw_m11 149 rfl) rfl
theorem q2625 : (Jvm.Cond.lays "GateGrammarModel" "GateGrammarModel" "commands" "I") ∈ lw_all := lw_g (lw_at lw_m11 150 rfl) rfl
theorem q2626 : (Jvm.Cond.soleField "GateGrammarModel" "commands") ∈ lw_all := lw_g (lw_at lw_m11 151 rfl) rfl
theorem q2627 : (Jvm.Cond.lays "GateGrammarModel" "GateGrammarModel" "isWrong" "Z") ∈ lw_all := lw_g (lw_at lw_m11 152 rfl) rfl
theorem q2628 : (Jvm.Cond.soleField "GateGrammarModel" "isWrong") ∈ lw_all := lw_g (lw_at lw_m11 153 rfl) rfl
theorem q2629 : (Jvm.Cond.superclass "GateGrammarModel" "java/lang/Object") ∈ lw_all := lw_g (lw_at lw_m11 154 rfl) rfl
theorem q2631 : (Jvm.Cond.instanceMethod ({ cls := "GateGrammarModel", name := "thrown", desc := "()I" } : Jvm.MethodName)) ∈ lw_all := lw_g (lw_at lw_m11 156 rfl) rfl
theorem q2632 : (Jvm.Cond.selects "GateGrammarModel" ({ cls := "GateGrammarModel", name := "thrown", desc := "()I" } : Jvm.MethodName) ({ cls := "GateGrammarModel", name := "thrown", desc := "()I" } : Jvm.MethodName)) ∈ lw_all := lw_g (lw_at lw_m11 157 rfl) rfl
theorem q2633 : (Jvm.Cond.code ({ cls := "GateGrammarModel", name := "thrown", desc := "()I" } : Jvm.MethodName) prog_23_method_2_code (1 : Nat) (Option.some Jvm.ClassFile.FieldType.int)) ∈ lw_all := lw_g (lw_at lw_m11 158 rfl) rfl
theorem q2635 : (Jvm.Cond.instanceMethod ({ cls := "GateGrammarModel", name := "addNoun", desc := "(I)I" } : Jvm.MethodName)) ∈ lw_all := lw_g (lw_at lw_m11 160 rfl) rfl
theorem q2636 : (Jvm.Cond.selects "GateGrammarModel" ({ cls := "GateGrammarModel", name := "addNoun", desc := "(I)I" } : Jvm.MethodName) ({ cls := "GateGrammarModel", name := "addNoun", desc := "(I)I" } : Jvm.MethodName)) ∈ lw_all := lw_g (lw_at lw_m11 161 rfl) rfl
theorem q2637 : (Jvm.Cond.code ({ cls := "GateGrammarModel", name := "addNoun", desc := "(I)I" } : Jvm.MethodName) prog_23_method_32_code (2 : Nat) (Option.some Jvm.ClassFile.FieldType.int)) ∈ lw_all := lw_g (lw_at lw_m11 162 rfl) rfl
theorem q2638 : (Jvm.Cond.methodLink "GateGrammarModel" (150 : Nat) ({ cls := "GateGrammarModel", name := "remembers", desc := "()V" } : Jvm.MethodName)) ∈ lw_all := lw_g (lw_at lw_m11 163 rfl) rfl
theorem q2639 : (Jvm.Cond.privateMethod ({ cls := "GateGrammarModel", name := "remembers", desc := "()V" } : Jvm.MethodName)) ∈ lw_tbl := lw_at lw_m11 164 rfl
theorem q2640 : (Jvm.Cond.instanceMethod ({ cls := "GateGrammarModel", name := "remembers", desc := "()V" } : Jvm.MethodName)) ∈ lw_all := lw_g (lw_at lw_m11 165 rfl) rfl
theorem q2641 : (Jvm.Cond.code ({ cls := "GateGrammarModel", name := "remembers", desc := "()V" } : Jvm.MethodName) prog_23_method_5_code (2 : Nat) (Option.none : Option Jvm.ClassFile.FieldType)) ∈ lw_all := lw_g (lw_at lw_m11 166 rfl) rfl
theorem q2642 : (Jvm.Cond.methodLink "GateGrammarModel" (153 : Nat) ({ cls := "GateGrammarModel", name := "nouns", desc := "(I)I" } : Jvm.MethodName)) ∈ lw_all := lw_g (lw_at lw_m11 167 rfl) rfl
theorem q2643 : (Jvm.Cond.privateMethod ({ cls := "GateGrammarModel", name := "nouns", desc := "(I)I" } : Jvm.MethodName)) ∈ lw_tbl := lw_at lw_m11 168 rfl
theorem q2644 : (Jvm.Cond.instanceMethod ({ cls := "GateGrammarModel", name := "nouns", desc := "(I)I" } : Jvm.MethodName)) ∈ lw_all := lw_g (lw_at lw_m11 169 rfl) rfl
theorem q2645 : (Jvm.Cond.code ({ cls := "GateGrammarModel", name := "nouns", desc := "(I)I" } : Jvm.MethodName) prog_23_method_20_code (2 : Nat) (Option.some Jvm.ClassFile.FieldType.int)) ∈ lw_all := lw_g (lw_at lw_m11 170 rfl) rfl
theorem q2646 : (Jvm.Cond.methodLink "GateGrammarModel" (78 : Nat) ({ cls := "GateGrammarModel", name := "in", desc := "(III)Z" } : Jvm.MethodName)) ∈ lw_all := lw_g (lw_at lw_m11 171 rfl) rfl
theorem q2647 : (Jvm.Cond.static ({ cls := "GateGrammarModel", name := "in", desc := "(III)Z" } : Jvm.MethodName)) ∈ lw_all := lw_g (lw_at lw_m11 172 rfl) rfl
theorem q2648 : (Jvm.Cond.code ({ cls := "GateGrammarModel", name := "in", desc := "(III)Z" } : Jvm.MethodName) prog_23_method_4_code (3 : Nat) (Option.some Jvm.ClassFile.FieldType.boolean)) ∈ lw_all := lw_g (lw_at lw_m11 173 rfl) rfl
theorem q2649 : (Jvm.Cond.methodLink "GateGrammarModel" (133 : Nat) ({ cls := "GateGrammarModel", name := "done", desc := "(I)I" } : Jvm.MethodName)) ∈ lw_all := lw_g (lw_at lw_m11 174 rfl) rfl
theorem q2650 : (Jvm.Cond.privateMethod ({ cls := "GateGrammarModel", name := "done", desc := "(I)I" } : Jvm.MethodName)) ∈ lw_tbl := lw_at lw_m11 175 rfl
theorem q2651 : (Jvm.Cond.instanceMethod ({ cls := "GateGrammarModel", name := "done", desc := "(I)I" } : Jvm.MethodName)) ∈ lw_all := lw_g (lw_at lw_m11 176 rfl) rfl
theorem q2652 : (Jvm.Cond.code ({ cls := "GateGrammarModel", name := "done", desc := "(I)I" } : Jvm.MethodName) prog_23_method_7_code (2 : Nat) (Option.some Jvm.ClassFile.FieldType.int)) ∈ lw_all := lw_g (lw_at lw_m11 177 rfl) rfl
theorem q2653 : (Jvm.Cond.methodLink "GateGrammarModel" (156 : Nat) ({ cls := "GateGrammarModel", name := "ends", desc := "(I)I" } : Jvm.MethodName)) ∈ lw_all := lw_g (lw_at lw_m11 178 rfl) rfl
theorem q2654 : (Jvm.Cond.privateMethod ({ cls := "GateGrammarModel", name := "ends", desc := "(I)I" } : Jvm.MethodName)) ∈ lw_tbl := lw_at lw_m11 179 rfl
theorem q2655 : (Jvm.Cond.instanceMethod ({ cls := "GateGrammarModel", name := "ends", desc := "(I)I" } : Jvm.MethodName)) ∈ lw_all := lw_g (lw_at lw_m11 180 rfl) rfl
theorem q2656 : (Jvm.Cond.code ({ cls := "GateGrammarModel", name := "ends", desc := "(I)I" } : Jvm.MethodName) prog_23_method_8_code (2 : Nat) (Option.some Jvm.ClassFile.FieldType.int)) ∈ lw_all := lw_g (lw_at lw_m11 181 rfl) rfl
theorem q2657 : (Jvm.Cond.methodLink "GateGrammarModel" (71 : Nat) ({ cls := "GateGrammarModel", name := "changed", desc := "(I)I" } : Jvm.MethodName)) ∈ lw_all := lw_g (lw_at lw_m11 182 rfl) rfl
theorem q2658 : (Jvm.Cond.privateMethod ({ cls := "GateGrammarModel", name := "changed", desc := "(I)I" } : Jvm.MethodName)) ∈ lw_tbl := lw_at lw_m11 183 rfl
theorem q2659 : (Jvm.Cond.instanceMethod ({ cls := "GateGrammarModel", name := "changed", desc := "(I)I" } : Jvm.MethodName)) ∈ lw_all := lw_g (lw_at lw_m11 184 rfl) rfl
theorem q2660 : (Jvm.Cond.code ({ cls := "GateGrammarModel", name := "changed", desc := "(I)I" } : Jvm.MethodName) prog_23_method_6_code (3 : Nat) (Option.some Jvm.ClassFile.FieldType.int)) ∈ lw_all := lw_g (lw_at lw_m11 185 rfl) rfl
theorem q2661 : (Jvm.Cond.methodLink "GateGrammarModel" (75 : Nat) ({ cls := "GateGrammarModel", name := "fails", desc := "(I)I" } : Jvm.MethodName)) ∈ lw_all := lw_g (lw_at lw_m11 186 rfl) rfl
theorem q2662 : (Jvm.Cond.privateMethod ({ cls := "GateGrammarModel", name := "fails", desc := "(I)I" } : Jvm.MethodName)) ∈ lw_tbl := lw_at lw_m11 187 rfl
theorem q2663 : (Jvm.Cond.instanceMethod ({ cls := "GateGrammarModel", name := "fails", desc := "(I)I" } : Jvm.MethodName)) ∈ lw_all := lw_g (lw_at lw_m11 188 rfl) rfl
theorem q2664 : (Jvm.Cond.code ({ cls := "GateGrammarModel", name := "fails", desc := "(I)I" } : Jvm.MethodName) prog_23_method_3_code (2 : Nat) (Option.some Jvm.ClassFile.FieldType.int)) ∈ lw_all := lw_g (lw_at lw_m11 189 rfl) rfl
theorem q2666 : (Jvm.Cond.instanceMethod ({ cls := "GateGrammarModel", name := "addVerb", desc := "(I)I" } : Jvm.MethodName)) ∈ lw_all := lw_g (lw_at lw_m11 191 rfl) rfl
theorem q2667 : (Jvm.Cond.selects "GateGrammarModel" ({ cls := "GateGrammarModel", name := "addVerb", desc := "(I)I" } : Jvm.MethodName) ({ cls := "GateGrammarModel", name := "addVerb", desc := "(I)I" } : Jvm.MethodName)) ∈ lw_all := lw_g (lw_at lw_m11 192 rfl) rfl
theorem q2668 : (Jvm.Cond.code ({ cls := "GateGrammarModel", name := "addVerb", desc := "(I)I" } : Jvm.MethodName) prog_23_method_33_code (2 : Nat) (Option.some Jvm.ClassFile.FieldType.int)) ∈ lw_all := lw_g (lw_at lw_m11 193 rfl) rfl
theorem q2669 : (Jvm.Cond.methodLink "GateGrammarModel" (159 : Nat) ({ cls := "GateGrammarModel", name := "verbs", desc := "(I)I" } : Jvm.MethodName)) ∈ lw_all := lw_g (lw_at lw_m11 194 rfl) rfl
theorem q2670 : (Jvm.Cond.privateMethod ({ cls := "GateGrammarModel", name := "verbs", desc := "(I)I" } : Jvm.MethodName)) ∈ lw_tbl := lw_at lw_m11 195 rfl
theorem q2671 : (Jvm.Cond.instanceMethod ({ cls := "GateGrammarModel", name := "verbs", desc := "(I)I" } : Jvm.MethodName)) ∈ lw_all := lw_g (lw_at lw_m11 196 rfl) rfl
theorem q2672 : (Jvm.Cond.code ({ cls := "GateGrammarModel", name := "verbs", desc := "(I)I" } : Jvm.MethodName) prog_23_method_21_code (2 : Nat) (Option.some Jvm.ClassFile.FieldType.int)) ∈ lw_all := lw_g (lw_at lw_m11 197 rfl) rfl
theorem q2674 : (Jvm.Cond.instanceMethod ({ cls := "GateGrammarModel", name := "setObjectCase", desc := "(II)I" } : Jvm.MethodName)) ∈ lw_all := lw_g (lw_at lw_m11 199 rfl) rfl
theorem q2675 : (Jvm.Cond.selects "GateGrammarModel" ({ cls := "GateGrammarModel", name := "setObjectCase", desc := "(II)I" } : Jvm.MethodName) ({ cls := "GateGrammarModel", name := "setObjectCase", desc := "(II)I" } : Jvm.MethodName)) ∈ lw_all := lw_g (lw_at lw_m11 200 rfl) rfl
theorem q2676 : (Jvm.Cond.code ({ cls := "GateGrammarModel", name := "setObjectCase", desc := "(II)I" } : Jvm.MethodName) prog_23_method_34_code (3 : Nat) (Option.some Jvm.ClassFile.FieldType.int)) ∈ lw_all := lw_g (lw_at lw_m11 201 rfl) rfl
theorem q2677 : (Jvm.Cond.methodLink "GateGrammarModel" (162 : Nat) ({ cls := "GateGrammarModel", name := "governs", desc := "(II)I" } : Jvm.MethodName)) ∈ lw_all := lw_g (lw_at lw_m11 202 rfl) rfl
theorem q2678 : (Jvm.Cond.privateMethod ({ cls := "GateGrammarModel", name := "governs", desc := "(II)I" } : Jvm.MethodName)) ∈ lw_tbl := lw_at lw_m11 203 rfl
theorem q2679 : (Jvm.Cond.instanceMethod ({ cls := "GateGrammarModel", name := "governs", desc := "(II)I" } : Jvm.MethodName)) ∈ lw_all := lw_g (lw_at lw_m11 204 rfl) rfl
theorem q2680 : (Jvm.Cond.code ({ cls := "GateGrammarModel", name := "governs", desc := "(II)I" } : Jvm.MethodName) prog_23_method_22_code (4 : Nat) (Option.some Jvm.ClassFile.FieldType.int)) ∈ lw_all := lw_g (lw_at lw_m11 205 rfl) rfl
theorem q2682 : (Jvm.Cond.instanceMethod ({ cls := "GateGrammarModel", name := "nounCount", desc := "()I" } : Jvm.MethodName)) ∈ lw_all := lw_g (lw_at lw_m11 207 rfl) rfl
theorem q2683 : (Jvm.Cond.selects "GateGrammarModel" ({ cls := "GateGrammarModel", name := "nounCount", desc := "()I" } : Jvm.MethodName) ({ cls := "GateGrammarModel", name := "nounCount", desc := "()I" } : Jvm.MethodName)) ∈ lw_all := lw_g (lw_at lw_m11 208 rfl) rfl
theorem q2684 : (Jvm.Cond.code ({ cls := "GateGrammarModel", name := "nounCount", desc := "()I" } : Jvm.MethodName) prog_23_method_35_code (1 : Nat) (Option.some Jvm.ClassFile.FieldType.int)) ∈ lw_all := lw_g (lw_at lw_m11 209 rfl) rfl
theorem q2686 : (Jvm.Cond.instanceMethod ({ cls := "GateGrammarModel", name := "verbCount", desc := "()I" } : Jvm.MethodName)) ∈ lw_all := lw_g (lw_at lw_m11 211 rfl) rfl
theorem q2687 : (Jvm.Cond.selects "GateGrammarModel" ({ cls := "GateGrammarModel", name := "verbCount", desc := "()I" } : Jvm.MethodName) ({ cls := "GateGrammarModel", name := "verbCount", desc := "()I" } : Jvm.MethodName)) ∈ lw_all := lw_g (lw_at lw_m11 212 rfl) rfl
theorem q2688 : (Jvm.Cond.code ({ cls := "GateGrammarModel", name := "verbCount", desc := "()I" } : Jvm.MethodName) prog_23_method_36_code (1 : Nat) (Option.some Jvm.ClassFile.FieldType.int)) ∈ lw_all := lw_g (lw_at lw_m11 213 rfl) rfl
theorem q2690 : (Jvm.Cond.instanceMethod ({ cls := "GateGrammarModel", name := "gender", desc := "(I)I" } : Jvm.MethodName)) ∈ lw_all := lw_g (lw_at lw_m11 215 rfl) rfl
theorem q2691 : (Jvm.Cond.selects "GateGrammarModel" ({ cls := "GateGrammarModel", name := "gender", desc := "(I)I" } : Jvm.MethodName) ({ cls := "GateGrammarModel", name := "gender", desc := "(I)I" } : Jvm.MethodName)) ∈ lw_all := lw_g (lw_at lw_m11 216 rfl) rfl
theorem q2692 : (Jvm.Cond.code ({ cls := "GateGrammarModel", name := "gender", desc := "(I)I" } : Jvm.MethodName) prog_23_method_37_code (2 : Nat) (Option.some Jvm.ClassFile.FieldType.int)) ∈ lw_all := lw_g (lw_at lw_m11 217 rfl) rfl
theorem q2694 : (Jvm.Cond.instanceMethod ({ cls := "GateGrammarModel", name := "objectCase", desc := "(I)I" } : Jvm.MethodName)) ∈ lw_all := lw_g (lw_at lw_m11 219 rfl) rfl
theorem q2695 : (Jvm.Cond.selects "GateGrammarModel" ({ cls := "GateGrammarModel", name := "objectCase", desc := "(I)I" } : Jvm.MethodName) ({ cls := "GateGrammarModel", name := "objectCase", desc := "(I)I" } : Jvm.MethodName)) ∈ lw_all := lw_g (lw_at lw_m11 220 rfl) rfl
theorem q2696 : (Jvm.Cond.code ({ cls := "GateGrammarModel", name := "objectCase", desc := "(I)I" } : Jvm.MethodName) prog_23_method_38_code (2 : Nat) (Option.some Jvm.ClassFile.FieldType.int)) ∈ lw_all := lw_g (lw_at lw_m11 221 rfl) rfl
theorem q2698 : (Jvm.Cond.instanceMethod ({ cls := "GateGrammarModel", name := "ending", desc := "(II)C" } : Jvm.MethodName)) ∈ lw_all := lw_g (lw_at lw_m11 223 rfl) rfl
theorem q2699 : (Jvm.Cond.selects "GateGrammarModel" ({ cls := "GateGrammarModel", name := "ending", desc := "(II)C" } : Jvm.MethodName) ({ cls := "GateGrammarModel", name := "ending", desc := "(II)C" } : Jvm.MethodName)) ∈ lw_all := lw_g (lw_at lw_m11 224 rfl) rfl
theorem q2700 : (Jvm.Cond.code ({ cls := "GateGrammarModel", name := "ending", desc := "(II)C" } : Jvm.MethodName) prog_23_method_40_code (3 : Nat) (Option.some Jvm.ClassFile.FieldType.char)) ∈ lw_all := lw_g (lw_at lw_m11 225 rfl) rfl
theorem q2701 : (Jvm.Cond.methodLink "GateGrammarModel" (173 : Nat) ({ cls := "GateGrammarModel", name := "letter", desc := "(II)I" } : Jvm.MethodName)) ∈ lw_all := lw_g (lw_at lw_m11 226 rfl) rfl
theorem q2702 : (Jvm.Cond.privateMethod ({ cls := "GateGrammarModel", name := "letter", desc := "(II)I" } : Jvm.MethodName)) ∈ lw_tbl := lw_at lw_m11 227 rfl
theorem q2703 : (Jvm.Cond.instanceMethod ({ cls := "GateGrammarModel", name := "letter", desc := "(II)I" } : Jvm.MethodName)) ∈ lw_all := lw_g (lw_at lw_m11 228 rfl) rfl
theorem q2704 : (Jvm.Cond.code ({ cls := "GateGrammarModel", name := "letter", desc := "(II)I" } : Jvm.MethodName) prog_23_method_39_code (3 : Nat) (Option.some Jvm.ClassFile.FieldType.int)) ∈ lw_all := lw_g (lw_at lw_m11 229 rfl) rfl
theorem q2705 : (Jvm.Cond.stringRef "GateGrammarModel" (165 : Nat) "aeiourstlnmk") ∈ lw_tbl := lw_at lw_m11 230 rfl
theorem q2706 : (Jvm.Cond.methodLink "GateGrammarModel" (167 : Nat) ({ cls := "java/lang/String", name := "charAt", desc := "(I)C" } : Jvm.MethodName)) ∈ lw_all := lw_g (lw_at lw_m11 231 rfl) rfl
theorem q2708 : (Jvm.Cond.instanceMethod ({ cls := "GateGrammarModel", name := "appendNoun", desc := "(III)I" } : Jvm.MethodName)) ∈ lw_all := lw_g (lw_at lw_m11 233 rfl) rfl
theorem q2709 : (Jvm.Cond.selects "GateGrammarModel" ({ cls := "GateGrammarModel", name := "appendNoun", desc := "(III)I" } : Jvm.MethodName) ({ cls := "GateGrammarModel", name := "appendNoun", desc := "(III)I" } : Jvm.MethodName)) ∈ lw_all := lw_g (lw_at lw_m11 234 rfl) rfl
theorem q2710 : (Jvm.Cond.code ({ cls := "GateGrammarModel", name := "appendNoun", desc := "(III)I" } : Jvm.MethodName) prog_23_method_41_code (4 : Nat) (Option.some Jvm.ClassFile.FieldType.int)) ∈ lw_all := lw_g (lw_at lw_m11 235 rfl) rfl
theorem q2711 : (Jvm.Cond.methodLink "GateGrammarModel" (176 : Nat) ({ cls := "GateGrammarModel", name := "putsNoun", desc := "(III)I" } : Jvm.MethodName)) ∈ lw_all := lw_g (lw_at lw_m11 236 rfl) rfl
theorem q2712 : (Jvm.Cond.privateMethod ({ cls := "GateGrammarModel", name := "putsNoun", desc := "(III)I" } : Jvm.MethodName)) ∈ lw_tbl := lw_at lw_m11 237 rfl
theorem q2713 : (Jvm.Cond.instanceMethod ({ cls := "GateGrammarModel", name := "putsNoun", desc := "(III)I" } : Jvm.MethodName)) ∈ lw_all := lw_g (lw_at lw_m11 238 rfl) rfl
theorem q2714 : (Jvm.Cond.code ({ cls := "GateGrammarModel", name := "putsNoun", desc := "(III)I" } : Jvm.MethodName) prog_23_method_24_code (4 : Nat) (Option.some Jvm.ClassFile.FieldType.int)) ∈ lw_all := lw_g (lw_at lw_m11 239 rfl) rfl
theorem q2715 : (Jvm.Cond.methodLink "GateGrammarModel" (136 : Nat) ({ cls := "GateGrammarModel", name := "isGate", desc := "(I)Z" } : Jvm.MethodName)) ∈ lw_all := lw_g (lw_at lw_m12 0 rfl) rfl
theorem q2716 : (Jvm.Cond.static ({ cls := "GateGrammarModel", name := "isGate", desc := "(I)Z" } : Jvm.MethodName)) ∈ lw_all := lw_g (lw_at lw_m12 1 rfl) rfl
theorem q2717 : (Jvm.Cond.code ({ cls := "GateGrammarModel", name := "isGate", desc := "(I)Z" } : Jvm.MethodName) prog_23_method_9_code (1 : Nat) (Option.some Jvm.ClassFile.FieldType.boolean)) ∈ lw_all := lw_g (lw_at lw_m12 2 rfl) rfl
theorem q2718 : (Jvm.Cond.methodLink "GateGrammarModel" (106 : Nat) ({ cls := "GateGrammarModel", name := "size", desc := "(I)I" } : Jvm.MethodName)) ∈ lw_all := lw_g (lw_at lw_m12 3 rfl) rfl
theorem q2719 : (Jvm.Cond.privateMethod ({ cls := "GateGrammarModel", name := "size", desc := "(I)I" } : Jvm.MethodName)) ∈ lw_tbl := lw_at lw_m12 4 rfl
theorem q2720 : (Jvm.Cond.instanceMethod ({ cls := "GateGrammarModel", name := "size", desc := "(I)I" } : Jvm.MethodName)) ∈ lw_all := lw_g (lw_at lw_m12 5 rfl) rfl
theorem q2721 : (Jvm.Cond.code ({ cls := "GateGrammarModel", name := "size", desc := "(I)I" } : Jvm.MethodName) prog_23_method_10_code (2 : Nat) (Option.some Jvm.ClassFile.FieldType.int)) ∈ lw_all := lw_g (lw_at lw_m12 6 rfl) rfl
theorem q2722 : (Jvm.Cond.methodLink "GateGrammarModel" (139 : Nat) ({ cls := "GateGrammarModel", name := "puts", desc := "(IIII)I" } : Jvm.MethodName)) ∈ lw_all := lw_g (lw_at lw_m12 7 rfl) rfl
theorem q2723 : (Jvm.Cond.privateMethod ({ cls := "GateGrammarModel", name := "puts", desc := "(IIII)I" } : Jvm.MethodName)) ∈ lw_tbl := lw_at lw_m12 8 rfl
theorem q2724 : (Jvm.Cond.instanceMethod ({ cls := "GateGrammarModel", name := "puts", desc := "(IIII)I" } : Jvm.MethodName)) ∈ lw_all := lw_g (lw_at lw_m12 9 rfl) rfl
theorem q2725 : (Jvm.Cond.code ({ cls := "GateGrammarModel", name := "puts", desc := "(IIII)I" } : Jvm.MethodName) prog_23_method_23_code (6 : Nat) (Option.some Jvm.ClassFile.FieldType.int)) ∈ lw_all := lw_g (lw_at lw_m12 10 rfl) rfl
theorem q2727 : (Jvm.Cond.instanceMethod ({ cls := "GateGrammarModel", name := "appendVerb", desc := "(III)I" } : Jvm.MethodName)) ∈ lw_all := lw_g (lw_at lw_m12 12 rfl) rfl
theorem q2728 : (Jvm.Cond.selects "GateGrammarModel" ({ cls := "GateGrammarModel", name := "appendVerb", desc := "(III)I" } : Jvm.MethodName) ({ cls := "GateGrammarModel", name := "appendVerb", desc := "(III)I" } : Jvm.MethodName)) ∈ lw_all := lw_g (lw_at lw_m12 13 rfl) rfl
theorem q2729 : (Jvm.Cond.code ({ cls := "GateGrammarModel", name := "appendVerb", desc := "(III)I" } : Jvm.MethodName) prog_23_method_42_code (4 : Nat) (Option.some Jvm.ClassFile.FieldType.int)) ∈ lw_all := lw_g (lw_at lw_m12 14 rfl) rfl
theorem q2730 : (Jvm.Cond.methodLink "GateGrammarModel" (179 : Nat) ({ cls := "GateGrammarModel", name := "putsVerb", desc := "(III)I" } : Jvm.MethodName)) ∈ lw_all := lw_g (lw_at lw_m12 15 rfl) rfl
theorem q2731 : (Jvm.Cond.privateMethod ({ cls := "GateGrammarModel", name := "putsVerb", desc := "(III)I" } : Jvm.MethodName)) ∈ lw_tbl := lw_at lw_m12 16 rfl
theorem q2732 : (Jvm.Cond.instanceMethod ({ cls := "GateGrammarModel", name := "putsVerb", desc := "(III)I" } : Jvm.MethodName)) ∈ lw_all := lw_g (lw_at lw_m12 17 rfl) rfl
theorem q2733 : (Jvm.Cond.code ({ cls := "GateGrammarModel", name := "putsVerb", desc := "(III)I" } : Jvm.MethodName) prog_23_method_25_code (4 : Nat) (Option.some Jvm.ClassFile.FieldType.int)) ∈ lw_all := lw_g (lw_at lw_m12 18 rfl) rfl
theorem q2735 : (Jvm.Cond.instanceMethod ({ cls := "GateGrammarModel", name := "appendOpen", desc := "(I)I" } : Jvm.MethodName)) ∈ lw_all := lw_g (lw_at lw_m12 20 rfl) rfl
theorem q2736 : (Jvm.Cond.selects "GateGrammarModel" ({ cls := "GateGrammarModel", name := "appendOpen", desc := "(I)I" } : Jvm.MethodName) ({ cls := "GateGrammarModel", name := "appendOpen", desc := "(I)I" } : Jvm.MethodName)) ∈ lw_all := lw_g (lw_at lw_m12 21 rfl) rfl
theorem q2737 : (Jvm.Cond.code ({ cls := "GateGrammarModel", name := "appendOpen", desc := "(I)I" } : Jvm.MethodName) prog_23_method_43_code (2 : Nat) (Option.some Jvm.ClassFile.FieldType.int)) ∈ lw_all := lw_g (lw_at lw_m12 22 rfl) rfl
theorem q2738 : (Jvm.Cond.methodLink "GateGrammarModel" (182 : Nat) ({ cls := "GateGrammarModel", name := "putsMark", desc := "(II)I" } : Jvm.MethodName)) ∈ lw_all := lw_g (lw_at lw_m12 23 rfl) rfl
theorem q2739 : (Jvm.Cond.privateMethod ({ cls := "GateGrammarModel", name := "putsMark", desc := "(II)I" } : Jvm.MethodName)) ∈ lw_tbl := lw_at lw_m12 24 rfl
theorem q2740 : (Jvm.Cond.instanceMethod ({ cls := "GateGrammarModel", name := "putsMark", desc := "(II)I" } : Jvm.MethodName)) ∈ lw_all := lw_g (lw_at lw_m12 25 rfl) rfl
theorem q2741 : (Jvm.Cond.code ({ cls := "GateGrammarModel", name := "putsMark", desc := "(II)I" } : Jvm.MethodName) prog_23_method_26_code (3 : Nat) (Option.some Jvm.ClassFile.FieldType.int)) ∈ lw_all := lw_g (lw_at lw_m12 26 rfl) rfl
theorem q2743 : (Jvm.Cond.instanceMethod ({ cls := "GateGrammarModel", name := "appendClose", desc := "(I)I" } : Jvm.MethodName)) ∈ lw_all := lw_g (lw_at lw_m12 28 rfl) rfl
theorem q2744 : (Jvm.Cond.selects "GateGrammarModel" ({ cls := "GateGrammarModel", name := "appendClose", desc := "(I)I" } : Jvm.MethodName) ({ cls := "GateGrammarModel", name := "appendClose", desc := "(I)I" } : Jvm.MethodName)) ∈ lw_all := lw_g (lw_at lw_m12 29 rfl) rfl
theorem q2745 : (Jvm.Cond.code ({ cls := "GateGrammarModel", name := "appendClose", desc := "(I)I" } : Jvm.MethodName) prog_23_method_44_code (2 : Nat) (Option.some Jvm.ClassFile.FieldType.int)) ∈ lw_all := lw_g (lw_at lw_m12 30 rfl) rfl
theorem q2747 : (Jvm.Cond.instanceMethod ({ cls := "GateGrammarModel", name := "appendAnd", desc := "(I)I" } : Jvm.MethodName)) ∈ lw_all := lw_g (lw_at lw_m12 32 rfl) rfl
theorem q2748 : (Jvm.Cond.selects "GateGrammarModel" ({ cls := "GateGrammarModel", name := "appendAnd", desc := "(I)I" } : Jvm.MethodName) ({ cls := "GateGrammarModel", name := "appendAnd", desc := "(I)I" } : Jvm.MethodName)) ∈ lw_all := lw_g (lw_at lw_m12 33 rfl) rfl
theorem q2749 : (Jvm.Cond.code ({ cls := "GateGrammarModel", name := "appendAnd", desc := "(I)I" } : Jvm.MethodName) prog_23_method_45_code (2 : Nat) (Option.some Jvm.ClassFile.FieldType.int)) ∈ lw_all := lw_g (lw_at lw_m12 34 rfl) rfl
theorem q2751 : (Jvm.Cond.instanceMethod ({ cls := "GateGrammarModel", name := "removeLast", desc := "(I)I" } : Jvm.MethodName)) ∈ lw_all := lw_g (lw_at lw_m12 36 rfl) rfl
theorem q2752 : (Jvm.Cond.selects "GateGrammarModel" ({ cls := "GateGrammarModel", name := "removeLast", desc := "(I)I" } : Jvm.MethodName) ({ cls := "GateGrammarModel", name := "removeLast", desc := "(I)I" } : Jvm.MethodName)) ∈ lw_all := lw_g (lw_at lw_m12 37 rfl) rfl
theorem q2753 : (Jvm.Cond.code ({ cls := "GateGrammarModel", name := "removeLast", desc := "(I)I" } : Jvm.MethodName) prog_23_method_46_code (2 : Nat) (Option.some Jvm.ClassFile.FieldType.int)) ∈ lw_all := lw_g (lw_at lw_m12 38 rfl) rfl
theorem q2754 : (Jvm.Cond.methodLink "GateGrammarModel" (185 : Nat) ({ cls := "GateGrammarModel", name := "drops", desc := "(I)I" } : Jvm.MethodName)) ∈ lw_all := lw_g (lw_at lw_m12 39 rfl) rfl
theorem q2755 : (Jvm.Cond.privateMethod ({ cls := "GateGrammarModel", name := "drops", desc := "(I)I" } : Jvm.MethodName)) ∈ lw_tbl := lw_at lw_m12 40 rfl
theorem q2756 : (Jvm.Cond.instanceMethod ({ cls := "GateGrammarModel", name := "drops", desc := "(I)I" } : Jvm.MethodName)) ∈ lw_all := lw_g (lw_at lw_m12 41 rfl) rfl
theorem q2757 : (Jvm.Cond.code ({ cls := "GateGrammarModel", name := "drops", desc := "(I)I" } : Jvm.MethodName) prog_23_method_28_code (4 : Nat) (Option.some Jvm.ClassFile.FieldType.int)) ∈ lw_all := lw_g (lw_at lw_m12 42 rfl) rfl
theorem q2758 : (Jvm.Cond.methodLink "GateGrammarModel" (98 : Nat) ({ cls := "GateGrammarModel", name := "kind", desc := "(II)I" } : Jvm.MethodName)) ∈ lw_all := lw_g (lw_at lw_m12 43 rfl) rfl
theorem q2759 : (Jvm.Cond.privateMethod ({ cls := "GateGrammarModel", name := "kind", desc := "(II)I" } : Jvm.MethodName)) ∈ lw_tbl := lw_at lw_m12 44 rfl
theorem q2760 : (Jvm.Cond.instanceMethod ({ cls := "GateGrammarModel", name := "kind", desc := "(II)I" } : Jvm.MethodName)) ∈ lw_all := lw_g (lw_at lw_m12 45 rfl) rfl
theorem q2761 : (Jvm.Cond.code ({ cls := "GateGrammarModel", name := "kind", desc := "(II)I" } : Jvm.MethodName) prog_23_method_12_code (3 : Nat) (Option.some Jvm.ClassFile.FieldType.int)) ∈ lw_all := lw_g (lw_at lw_m12 46 rfl) rfl
theorem q2762 : (Jvm.Cond.methodLink "GateGrammarModel" (82 : Nat) ({ cls := "GateGrammarModel", name := "part", desc := "(III)I" } : Jvm.MethodName)) ∈ lw_all := lw_g (lw_at lw_m12 47 rfl) rfl
theorem q2763 : (Jvm.Cond.privateMethod ({ cls := "GateGrammarModel", name := "part", desc := "(III)I" } : Jvm.MethodName)) ∈ lw_tbl := lw_at lw_m12 48 rfl
theorem q2764 : (Jvm.Cond.instanceMethod ({ cls := "GateGrammarModel", name := "part", desc := "(III)I" } : Jvm.MethodName)) ∈ lw_all := lw_g (lw_at lw_m12 49 rfl) rfl
theorem q2765 : (Jvm.Cond.code ({ cls := "GateGrammarModel", name := "part", desc := "(III)I" } : Jvm.MethodName) prog_23_method_11_code (4 : Nat) (Option.some Jvm.ClassFile.FieldType.int)) ∈ lw_all := lw_g (lw_at lw_m12 50 rfl) rfl
theorem q2766 : (Jvm.Cond.methodLink "GateGrammarModel" (143 : Nat) ({ cls := "GateGrammarModel", name := "cuts", desc := "(II)V" } : Jvm.MethodName)) ∈ lw_all := lw_g (lw_at lw_m12 51 rfl) rfl
theorem q2767 : (Jvm.Cond.privateMethod ({ cls := "GateGrammarModel", name := "cuts", desc := "(II)V" } : Jvm.MethodName)) ∈ lw_tbl := lw_at lw_m12 52 rfl
theorem q2768 : (Jvm.Cond.instanceMethod ({ cls := "GateGrammarModel", name := "cuts", desc := "(II)V" } : Jvm.MethodName)) ∈ lw_all := lw_g (lw_at lw_m12 53 rfl) rfl
theorem q2769 : (Jvm.Cond.code ({ cls := "GateGrammarModel", name := "cuts", desc := "(II)V" } : Jvm.MethodName) prog_23_method_27_code (5 : Nat) (Option.none : Option Jvm.ClassFile.FieldType)) ∈ lw_all := lw_g (lw_at lw_m12 54 rfl) rfl
theorem q2771 : (Jvm.Cond.instanceMethod ({ cls := "GateGrammarModel", name := "clear", desc := "(I)I" } : Jvm.MethodName)) ∈ lw_all := lw_g (lw_at lw_m12 56 rfl) rfl
theorem q2772 : (Jvm.Cond.selects "GateGrammarModel" ({ cls := "GateGrammarModel", name := "clear", desc := "(I)I" } : Jvm.MethodName) ({ cls := "GateGrammarModel", name := "clear", desc := "(I)I" } : Jvm.MethodName)) ∈ lw_all := lw_g (lw_at lw_m12 57 rfl) rfl
theorem q2773 : (Jvm.Cond.code ({ cls := "GateGrammarModel", name := "clear", desc := "(I)I" } : Jvm.MethodName) prog_23_method_47_code (2 : Nat) (Option.some Jvm.ClassFile.FieldType.int)) ∈ lw_all := lw_g (lw_at lw_m12 58 rfl) rfl
theorem q2774 : (Jvm.Cond.methodLink "GateGrammarModel" (188 : Nat) ({ cls := "GateGrammarModel", name := "clears", desc := "(I)I" } : Jvm.MethodName)) ∈ lw_all := lw_g (lw_at lw_m12 59 rfl) rfl
theorem q2775 : (Jvm.Cond.privateMethod ({ cls := "GateGrammarModel", name := "clears", desc := "(I)I" } : Jvm.MethodName)) ∈ lw_tbl := lw_at lw_m12 60 rfl
theorem q2776 : (Jvm.Cond.instanceMethod ({ cls := "GateGrammarModel", name := "clears", desc := "(I)I" } : Jvm.MethodName)) ∈ lw_all := lw_g (lw_at lw_m12 61 rfl) rfl
theorem q2777 : (Jvm.Cond.code ({ cls := "GateGrammarModel", name := "clears", desc := "(I)I" } : Jvm.MethodName) prog_23_method_29_code (3 : Nat) (Option.some Jvm.ClassFile.FieldType.int)) ∈ lw_all := lw_g (lw_at lw_m12 62 rfl) rfl
theorem q2779 : (Jvm.Cond.instanceMethod ({ cls := "GateGrammarModel", name := "swing", desc := "(I)I" } : Jvm.MethodName)) ∈ lw_all := lw_g (lw_at lw_m12 64 rfl) rfl
theorem q2780 : (Jvm.Cond.selects "GateGrammarModel" ({ cls := "GateGrammarModel", name := "swing", desc := "(I)I" } : Jvm.MethodName) ({ cls := "GateGrammarModel", name := "swing", desc := "(I)I" } : Jvm.MethodName)) ∈ lw_all := lw_g (lw_at lw_m12 65 rfl) rfl
theorem q2781 : (Jvm.Cond.code ({ cls := "GateGrammarModel", name := "swing", desc := "(I)I" } : Jvm.MethodName) prog_23_method_48_code (2 : Nat) (Option.some Jvm.ClassFile.FieldType.int)) ∈ lw_all := lw_g (lw_at lw_m12 66 rfl) rfl
theorem q2782 : (Jvm.Cond.methodLink "GateGrammarModel" (191 : Nat) ({ cls := "GateGrammarModel", name := "swings", desc := "(I)I" } : Jvm.MethodName)) ∈ lw_all := lw_g (lw_at lw_m12 67 rfl) rfl
theorem q2783 : (Jvm.Cond.privateMethod ({ cls := "GateGrammarModel", name := "swings", desc := "(I)I" } : Jvm.MethodName)) ∈ lw_tbl := lw_at lw_m12 68 rfl
theorem q2784 : (Jvm.Cond.instanceMethod ({ cls := "GateGrammarModel", name := "swings", desc := "(I)I" } : Jvm.MethodName)) ∈ lw_all := lw_g (lw_at lw_m12 69 rfl) rfl
theorem q2785 : (Jvm.Cond.code ({ cls := "GateGrammarModel", name := "swings", desc := "(I)I" } : Jvm.MethodName) prog_23_method_30_code (10 : Nat) (Option.some Jvm.ClassFile.FieldType.int)) ∈ lw_all := lw_g (lw_at lw_m12 70 rfl) rfl
theorem q2786 : (Jvm.Cond.methodLink "GateGrammarModel" (125 : Nat) ({ cls := "GateGrammarModel", name := "isSentence", desc := "(I)Z" } : Jvm.MethodName)) ∈ lw_all := lw_g (lw_at lw_m12 71 rfl) rfl
theorem q2787 : (Jvm.Cond.privateMethod ({ cls := "GateGrammarModel", name := "isSentence", desc := "(I)Z" } : Jvm.MethodName)) ∈ lw_tbl := lw_at lw_m12 72 rfl
theorem q2788 : (Jvm.Cond.instanceMethod ({ cls := "GateGrammarModel", name := "isSentence", desc := "(I)Z" } : Jvm.MethodName)) ∈ lw_all := lw_g (lw_at lw_m12 73 rfl) rfl
theorem q2789 : (Jvm.Cond.code ({ cls := "GateGrammarModel", name := "isSentence", desc := "(I)Z" } : Jvm.MethodName) prog_23_method_15_code (2 : Nat) (Option.some Jvm.ClassFile.FieldType.boolean)) ∈ lw_all := lw_g (lw_at lw_m12 74 rfl) rfl
theorem q2790 : (Jvm.Cond.methodLink "GateGrammarModel" (109 : Nat) ({ cls := "GateGrammarModel", name := "scans", desc := "(II)I" } : Jvm.MethodName)) ∈ lw_all := lw_g (lw_at lw_m12 75 rfl) rfl
theorem q2791 : (Jvm.Cond.privateMethod ({ cls := "GateGrammarModel", name := "scans", desc := "(II)I" } : Jvm.MethodName)) ∈ lw_tbl := lw_at lw_m12 76 rfl
theorem q2792 : (Jvm.Cond.instanceMethod ({ cls := "GateGrammarModel", name := "scans", desc := "(II)I" } : Jvm.MethodName)) ∈ lw_all := lw_g (lw_at lw_m12 77 rfl) rfl
theorem q2793 : (Jvm.Cond.code ({ cls := "GateGrammarModel", name := "scans", desc := "(II)I" } : Jvm.MethodName) prog_23_method_14_code (6 : Nat) (Option.some Jvm.ClassFile.FieldType.int)) ∈ lw_all := lw_g (lw_at lw_m12 78 rfl) rfl
theorem q2794 : (Jvm.Cond.methodLink "GateGrammarModel" (102 : Nat) ({ cls := "GateGrammarModel", name := "begins", desc := "(Z)V" } : Jvm.MethodName)) ∈ lw_all := lw_g (lw_at lw_m12 79 rfl) rfl
theorem q2795 : (Jvm.Cond.privateMethod ({ cls := "GateGrammarModel", name := "begins", desc := "(Z)V" } : Jvm.MethodName)) ∈ lw_tbl := lw_at lw_m12 80 rfl
theorem q2796 : (Jvm.Cond.instanceMethod ({ cls := "GateGrammarModel", name := "begins", desc := "(Z)V" } : Jvm.MethodName)) ∈ lw_all := lw_g (lw_at lw_m12 81 rfl) rfl
theorem q2797 : (Jvm.Cond.code ({ cls := "GateGrammarModel", name := "begins", desc := "(Z)V" } : Jvm.MethodName) prog_23_method_13_code (2 : Nat) (Option.none : Option Jvm.ClassFile.FieldType)) ∈ lw_all := lw_g (lw_at lw_m12 82 rfl) rfl
theorem q2799 : (Jvm.Cond.instanceMethod ({ cls := "GateGrammarModel", name := "tokenCount", desc := "(I)I" } : Jvm.MethodName)) ∈ lw_all := lw_g (lw_at lw_m12 84 rfl) rfl
theorem q2800 : (Jvm.Cond.selects "GateGrammarModel" ({ cls := "GateGrammarModel", name := "tokenCount", desc := "(I)I" } : Jvm.MethodName) ({ cls := "GateGrammarModel", name := "tokenCount", desc := "(I)I" } : Jvm.MethodName)) ∈ lw_all := lw_g (lw_at lw_m12 85 rfl) rfl
theorem q2801 : (Jvm.Cond.code ({ cls := "GateGrammarModel", name := "tokenCount", desc := "(I)I" } : Jvm.MethodName) prog_23_method_49_code (2 : Nat) (Option.some Jvm.ClassFile.FieldType.int)) ∈ lw_all := lw_g (lw_at lw_m12 86 rfl) rfl
theorem q2803 : (Jvm.Cond.instanceMethod ({ cls := "GateGrammarModel", name := "tokenKind", desc := "(II)I" } : Jvm.MethodName)) ∈ lw_all := lw_g (lw_at lw_m12 88 rfl) rfl
theorem q2804 : (Jvm.Cond.selects "GateGrammarModel" ({ cls := "GateGrammarModel", name := "tokenKind", desc := "(II)I" } : Jvm.MethodName) ({ cls := "GateGrammarModel", name := "tokenKind", desc := "(II)I" } : Jvm.MethodName)) ∈ lw_all := lw_g (lw_at lw_m12 89 rfl) rfl
theorem q2805 : (Jvm.Cond.code ({ cls := "GateGrammarModel", name := "tokenKind", desc := "(II)I" } : Jvm.MethodName) prog_23_method_50_code (3 : Nat) (Option.some Jvm.ClassFile.FieldType.int)) ∈ lw_all := lw_g (lw_at lw_m12 90 rfl) rfl
theorem q2807 : (Jvm.Cond.instanceMethod ({ cls := "GateGrammarModel", name := "syntaxError", desc := "(I)I" } : Jvm.MethodName)) ∈ lw_all := lw_g (lw_at lw_m12 92 rfl) rfl
theorem q2808 : (Jvm.Cond.selects "GateGrammarModel" ({ cls := "GateGrammarModel", name := "syntaxError", desc := "(I)I" } : Jvm.MethodName) ({ cls := "GateGrammarModel", name := "syntaxError", desc := "(I)I" } : Jvm.MethodName)) ∈ lw_all := lw_g (lw_at lw_m12 93 rfl) rfl
theorem q2809 : (Jvm.Cond.code ({ cls := "GateGrammarModel", name := "syntaxError", desc := "(I)I" } : Jvm.MethodName) prog_23_method_51_code (3 : Nat) (Option.some Jvm.ClassFile.FieldType.int)) ∈ lw_all := lw_g (lw_at lw_m12 94 rfl) rfl
theorem q2811 : (Jvm.Cond.instanceMethod ({ cls := "GateGrammarModel", name := "syntaxErrorByLoop", desc := "(I)I" } : Jvm.MethodName)) ∈ lw_all := lw_g (lw_at lw_m12 96 rfl) rfl
theorem q2812 : (Jvm.Cond.selects "GateGrammarModel" ({ cls := "GateGrammarModel", name := "syntaxErrorByLoop", desc := "(I)I" } : Jvm.MethodName) ({ cls := "GateGrammarModel", name := "syntaxErrorByLoop", desc := "(I)I" } : Jvm.MethodName)) ∈ lw_all := lw_g (lw_at lw_m12 97 rfl) rfl
theorem q2813 : (Jvm.Cond.code ({ cls := "GateGrammarModel", name := "syntaxErrorByLoop", desc := "(I)I" } : Jvm.MethodName) prog_23_method_52_code (2 : Nat) (Option.some Jvm.ClassFile.FieldType.int)) ∈ lw_all := lw_g (lw_at lw_m12 98 rfl) rfl
theorem q2814 : (Jvm.Cond.methodLink "GateGrammarModel" (194 : Nat) ({ cls := "GateGrammarModel", name := "syntaxError", desc := "(I)I" } : Jvm.MethodName)) ∈ lw_all := lw_g (lw_at lw_m12 99 rfl) rfl
theorem q2816 : (Jvm.Cond.instanceMethod ({ cls := "GateGrammarModel", name := "allowedKinds", desc := "(I)I" } : Jvm.MethodName)) ∈ lw_all := lw_g (lw_at lw_m12 101 rfl) rfl
theorem q2817 : (Jvm.Cond.selects "GateGrammarModel" ({ cls := "GateGrammarModel", name := "allowedKinds", desc := "(I)I" } : Jvm.MethodName) ({ cls := "GateGrammarModel", name := "allowedKinds", desc := "(I)I" } : Jvm.MethodName)) ∈ lw_all := lw_g (lw_at lw_m12 102 rfl) rfl
theorem q2818 : (Jvm.Cond.code ({ cls := "GateGrammarModel", name := "allowedKinds", desc := "(I)I" } : Jvm.MethodName) prog_23_method_53_code (3 : Nat) (Option.some Jvm.ClassFile.FieldType.int)) ∈ lw_all := lw_g (lw_at lw_m12 103 rfl) rfl
theorem q2820 : (Jvm.Cond.instanceMethod ({ cls := "GateGrammarModel", name := "excessTokens", desc := "(I)I" } : Jvm.MethodName)) ∈ lw_all := lw_g (lw_at lw_m12 105 rfl) rfl
theorem q2821 : (Jvm.Cond.selects "GateGrammarModel" ({ cls := "GateGrammarModel", name := "excessTokens", desc := "(I)I" } : Jvm.MethodName) ({ cls := "GateGrammarModel", name := "excessTokens", desc := "(I)I" } : Jvm.MethodName)) ∈ lw_all := lw_g (lw_at lw_m12 106 rfl) rfl
theorem q2822 : (Jvm.Cond.code ({ cls := "GateGrammarModel", name := "excessTokens", desc := "(I)I" } : Jvm.MethodName) prog_23_method_54_code (3 : Nat) (Option.some Jvm.ClassFile.FieldType.int)) ∈ lw_all := lw_g (lw_at lw_m12 107 rfl) rfl
theorem q2824 : (Jvm.Cond.instanceMethod ({ cls := "GateGrammarModel", name := "clauseCount", desc := "(I)I" } : Jvm.MethodName)) ∈ lw_all := lw_g (lw_at lw_m12 109 rfl) rfl
theorem q2825 : (Jvm.Cond.selects "GateGrammarModel" ({ cls := "GateGrammarModel", name := "clauseCount", desc := "(I)I" } : Jvm.MethodName) ({ cls := "GateGrammarModel", name := "clauseCount", desc := "(I)I" } : Jvm.MethodName)) ∈ lw_all := lw_g (lw_at lw_m12 110 rfl) rfl
theorem q2826 : (Jvm.Cond.code ({ cls := "GateGrammarModel", name := "clauseCount", desc := "(I)I" } : Jvm.MethodName) prog_23_method_55_code (2 : Nat) (Option.some Jvm.ClassFile.FieldType.int)) ∈ lw_all := lw_g (lw_at lw_m12 111 rfl) rfl
theorem q2828 : (Jvm.Cond.instanceMethod ({ cls := "GateGrammarModel", name := "depth", desc := "(I)I" } : Jvm.MethodName)) ∈ lw_all := lw_g (lw_at lw_m12 113 rfl) rfl
theorem q2829 : (Jvm.Cond.selects "GateGrammarModel" ({ cls := "GateGrammarModel", name := "depth", desc := "(I)I" } : Jvm.MethodName) ({ cls := "GateGrammarModel", name := "depth", desc := "(I)I" } : Jvm.MethodName)) ∈ lw_all := lw_g (lw_at lw_m12 114 rfl) rfl
theorem q2830 : (Jvm.Cond.code ({ cls := "GateGrammarModel", name := "depth", desc := "(I)I" } : Jvm.MethodName) prog_23_method_56_code (2 : Nat) (Option.some Jvm.ClassFile.FieldType.int)) ∈ lw_all := lw_g (lw_at lw_m12 115 rfl) rfl
theorem q2832 : (Jvm.Cond.instanceMethod ({ cls := "GateGrammarModel", name := "subjectCount", desc := "(II)I" } : Jvm.MethodName)) ∈ lw_all := lw_g (lw_at lw_m12 117 rfl) rfl
theorem q2833 : (Jvm.Cond.selects "GateGrammarModel" ({ cls := "GateGrammarModel", name := "subjectCount", desc := "(II)I" } : Jvm.MethodName) ({ cls := "GateGrammarModel", name := "subjectCount", desc := "(II)I" } : Jvm.MethodName)) ∈ lw_all := lw_g (lw_at lw_m12 118 rfl) rfl
theorem q2834 : (Jvm.Cond.code ({ cls := "GateGrammarModel", name := "subjectCount", desc := "(II)I" } : Jvm.MethodName) prog_23_method_58_code (3 : Nat) (Option.some Jvm.ClassFile.FieldType.int)) ∈ lw_all := lw_g (lw_at lw_m12 119 rfl) rfl
theorem q2835 : (Jvm.Cond.methodLink "GateGrammarModel" (197 : Nat) ({ cls := "GateGrammarModel", name := "isClause", desc := "(II)Z" } : Jvm.MethodName)) ∈ lw_all := lw_g (lw_at lw_m12 120 rfl) rfl
theorem q2836 : (Jvm.Cond.privateMethod ({ cls := "GateGrammarModel", name := "isClause", desc := "(II)Z" } : Jvm.MethodName)) ∈ lw_tbl := lw_at lw_m12 121 rfl
theorem q2837 : (Jvm.Cond.instanceMethod ({ cls := "GateGrammarModel", name := "isClause", desc := "(II)Z" } : Jvm.MethodName)) ∈ lw_all := lw_g (lw_at lw_m12 122 rfl) rfl
theorem q2838 : (Jvm.Cond.code ({ cls := "GateGrammarModel", name := "isClause", desc := "(II)Z" } : Jvm.MethodName) prog_23_method_57_code (3 : Nat) (Option.some Jvm.ClassFile.FieldType.boolean)) ∈ lw_all := lw_g (lw_at lw_m12 123 rfl) rfl
theorem q2840 : (Jvm.Cond.instanceMethod ({ cls := "GateGrammarModel", name := "verbOf", desc := "(II)I" } : Jvm.MethodName)) ∈ lw_all := lw_g (lw_at lw_m12 125 rfl) rfl
theorem q2841 : (Jvm.Cond.selects "GateGrammarModel" ({ cls := "GateGrammarModel", name := "verbOf", desc := "(II)I" } : Jvm.MethodName) ({ cls := "GateGrammarModel", name := "verbOf", desc := "(II)I" } : Jvm.MethodName)) ∈ lw_all := lw_g (lw_at lw_m12 126 rfl) rfl
theorem q2842 : (Jvm.Cond.code ({ cls := "GateGrammarModel", name := "verbOf", desc := "(II)I" } : Jvm.MethodName) prog_23_method_59_code (3 : Nat) (Option.some Jvm.ClassFile.FieldType.int)) ∈ lw_all := lw_g (lw_at lw_m12 127 rfl) rfl
theorem q2844 : (Jvm.Cond.instanceMethod ({ cls := "GateGrammarModel", name := "tenseOf", desc := "(II)I" } : Jvm.MethodName)) ∈ lw_all := lw_g (lw_at lw_m12 129 rfl) rfl
theorem q2845 : (Jvm.Cond.selects "GateGrammarModel" ({ cls := "GateGrammarModel", name := "tenseOf", desc := "(II)I" } : Jvm.MethodName) ({ cls := "GateGrammarModel", name := "tenseOf", desc := "(II)I" } : Jvm.MethodName)) ∈ lw_all := lw_g (lw_at lw_m12 130 rfl) rfl
theorem q2846 : (Jvm.Cond.code ({ cls := "GateGrammarModel", name := "tenseOf", desc := "(II)I" } : Jvm.MethodName) prog_23_method_60_code (3 : Nat) (Option.some Jvm.ClassFile.FieldType.int)) ∈ lw_all := lw_g (lw_at lw_m12 131 rfl) rfl
theorem q2847 : (Jvm.Cond.methodLink "GateGrammarModel" (122 : Nat) ({ cls := "GateGrammarModel", name := "tense", desc := "(II)I" } : Jvm.MethodName)) ∈ lw_all := lw_g (lw_at lw_m12 132 rfl) rfl
theorem q2848 : (Jvm.Cond.privateMethod ({ cls := "GateGrammarModel", name := "tense", desc := "(II)I" } : Jvm.MethodName)) ∈ lw_tbl := lw_at lw_m12 133 rfl
theorem q2849 : (Jvm.Cond.instanceMethod ({ cls := "GateGrammarModel", name := "tense", desc := "(II)I" } : Jvm.MethodName)) ∈ lw_all := lw_g (lw_at lw_m12 134 rfl) rfl
theorem q2850 : (Jvm.Cond.code ({ cls := "GateGrammarModel", name := "tense", desc := "(II)I" } : Jvm.MethodName) prog_23_method_16_code (3 : Nat) (Option.some Jvm.ClassFile.FieldType.int)) ∈ lw_all := lw_g (lw_at lw_m12 135 rfl) rfl
theorem q2852 : (Jvm.Cond.instanceMethod ({ cls := "GateGrammarModel", name := "hasObject", desc := "(II)Z" } : Jvm.MethodName)) ∈ lw_all := lw_g (lw_at lw_m12 137 rfl) rfl
theorem q2853 : (Jvm.Cond.selects "GateGrammarModel" ({ cls := "GateGrammarModel", name := "hasObject", desc := "(II)Z" } : Jvm.MethodName) ({ cls := "GateGrammarModel", name := "hasObject", desc := "(II)Z" } : Jvm.MethodName)) ∈ lw_all := lw_g (lw_at lw_m12 138 rfl) rfl
theorem q2854 : (Jvm.Cond.code ({ cls := "GateGrammarModel", name := "hasObject", desc := "(II)Z" } : Jvm.MethodName) prog_23_method_61_code (3 : Nat) (Option.some Jvm.ClassFile.FieldType.boolean)) ∈ lw_all := lw_g (lw_at lw_m12 139 rfl) rfl
theorem q2856 : (Jvm.Cond.instanceMethod ({ cls := "GateGrammarModel", name := "parentOf", desc := "(II)I" } : Jvm.MethodName)) ∈ lw_all := lw_g (lw_at lw_m12 141 rfl) rfl
theorem q2857 : (Jvm.Cond.selects "GateGrammarModel" ({ cls := "GateGrammarModel", name := "parentOf", desc := "(II)I" } : Jvm.MethodName) ({ cls := "GateGrammarModel", name := "parentOf", desc := "(II)I" } : Jvm.MethodName)) ∈ lw_all := lw_g (lw_at lw_m12 142 rfl) rfl
theorem q2858 : (Jvm.Cond.code ({ cls := "GateGrammarModel", name := "parentOf", desc := "(II)I" } : Jvm.MethodName) prog_23_method_62_code (3 : Nat) (Option.some Jvm.ClassFile.FieldType.int)) ∈ lw_all := lw_g (lw_at lw_m12 143 rfl) rfl
theorem q2860 : (Jvm.Cond.instanceMethod ({ cls := "GateGrammarModel", name := "disagreementCount", desc := "(I)I" } : Jvm.MethodName)) ∈ lw_all := lw_g (lw_at lw_m12 145 rfl) rfl
theorem q2861 : (Jvm.Cond.selects "GateGrammarModel" ({ cls := "GateGrammarModel", name := "disagreementCount", desc := "(I)I" } : Jvm.MethodName) ({ cls := "GateGrammarModel", name := "disagreementCount", desc := "(I)I" } : Jvm.MethodName)) ∈ lw_all := lw_g (lw_at lw_m12 146 rfl) rfl
theorem q2862 : (Jvm.Cond.code ({ cls := "GateGrammarModel", name := "disagreementCount", desc := "(I)I" } : Jvm.MethodName) prog_23_method_64_code (2 : Nat) (Option.some Jvm.ClassFile.FieldType.int)) ∈ lw_all := lw_g (lw_at lw_m12 147 rfl) rfl
theorem q2863 : (Jvm.Cond.methodLink "GateGrammarModel" (201 : Nat) ({ cls := "GateGrammarModel", name := "isCounted", desc := "(I)Z" } : Jvm.MethodName)) ∈ lw_all := lw_g (lw_at lw_m12 148 rfl) rfl
theorem q2864 : (Jvm.Cond.privateMethod ({ cls := "GateGrammarModel", name := "isCounted", desc := "(I)Z" } : Jvm.MethodName)) ∈ lw_tbl := lw_at lw_m12 149 rfl
theorem q2865 : (Jvm.Cond.instanceMethod ({ cls := "GateGrammarModel", name := "isCounted", desc := "(I)Z" } : Jvm.MethodName)) ∈ lw_all := lw_g (lw_at lw_m12 150 rfl) rfl
theorem q2866 : (Jvm.Cond.code ({ cls := "GateGrammarModel", name := "isCounted", desc := "(I)Z" } : Jvm.MethodName) prog_23_method_63_code (2 : Nat) (Option.some Jvm.ClassFile.FieldType.boolean)) ∈ lw_all := lw_g (lw_at lw_m12 151 rfl) rfl
theorem q2867 : (Jvm.Cond.methodLink "GateGrammarModel" (129 : Nat) ({ cls := "GateGrammarModel", name := "counts", desc := "(I)V" } : Jvm.MethodName)) ∈ lw_all := lw_g (lw_at lw_m12 152 rfl) rfl
theorem q2868 : (Jvm.Cond.privateMethod ({ cls := "GateGrammarModel", name := "counts", desc := "(I)V" } : Jvm.MethodName)) ∈ lw_tbl := lw_at lw_m12 153 rfl
theorem q2869 : (Jvm.Cond.instanceMethod ({ cls := "GateGrammarModel", name := "counts", desc := "(I)V" } : Jvm.MethodName)) ∈ lw_all := lw_g (lw_at lw_m12 154 rfl) rfl
theorem q2870 : (Jvm.Cond.code ({ cls := "GateGrammarModel", name := "counts", desc := "(I)V" } : Jvm.MethodName) prog_23_method_18_code (6 : Nat) (Option.none : Option Jvm.ClassFile.FieldType)) ∈ lw_all := lw_g (lw_at lw_m12 155 rfl) rfl
theorem q2871 : (Jvm.Cond.methodLink "GateGrammarModel" (118 : Nat) ({ cls := "GateGrammarModel", name := "blames", desc := "(IZ)V" } : Jvm.MethodName)) ∈ lw_all := lw_g (lw_at lw_m12 156 rfl) rfl
theorem q2872 : (Jvm.Cond.privateMethod ({ cls := "GateGrammarModel", name := "blames", desc := "(IZ)V" } : Jvm.MethodName)) ∈ lw_tbl := lw_at lw_m12 157 rfl
theorem q2873 : (Jvm.Cond.instanceMethod ({ cls := "GateGrammarModel", name := "blames", desc := "(IZ)V" } : Jvm.MethodName)) ∈ lw_all := lw_g (lw_at lw_m12 158 rfl) rfl
theorem q2874 : (Jvm.Cond.code ({ cls := "GateGrammarModel", name := "blames", desc := "(IZ)V" } : Jvm.MethodName) prog_23_method_17_code (3 : Nat) (Option.none : Option Jvm.ClassFile.FieldType)) ∈ lw_all := lw_g (lw_at lw_m12 159 rfl) rfl
theorem q2876 : (Jvm.Cond.instanceMethod ({ cls := "GateGrammarModel", name := "disagreementCountByLoop", desc := "(I)I" } : Jvm.MethodName)) ∈ lw_all := lw_g (lw_at lw_m12 161 rfl) rfl
theorem q2877 : (Jvm.Cond.selects "GateGrammarModel" ({ cls := "GateGrammarModel", name := "disagreementCountByLoop", desc := "(I)I" } : Jvm.MethodName) ({ cls := "GateGrammarModel", name := "disagreementCountByLoop", desc := "(I)I" } : Jvm.MethodName)) ∈ lw_all := lw_g (lw_at lw_m12 162 rfl) rfl
theorem q2878 : (Jvm.Cond.code ({ cls := "GateGrammarModel", name := "disagreementCountByLoop", desc := "(I)I" } : Jvm.MethodName) prog_23_method_65_code (2 : Nat) (Option.some Jvm.ClassFile.FieldType.int)) ∈ lw_all := lw_g (lw_at lw_m12 163 rfl) rfl
theorem q2879 : (Jvm.Cond.methodLink "GateGrammarModel" (204 : Nat) ({ cls := "GateGrammarModel", name := "disagreementCount", desc := "(I)I" } : Jvm.MethodName)) ∈ lw_all := lw_g (lw_at lw_m12 164 rfl) rfl
theorem q2881 : (Jvm.Cond.instanceMethod ({ cls := "GateGrammarModel", name := "firstDisagreement", desc := "(I)I" } : Jvm.MethodName)) ∈ lw_all := lw_g (lw_at lw_m12 166 rfl) rfl
theorem q2882 : (Jvm.Cond.selects "GateGrammarModel" ({ cls := "GateGrammarModel", name := "firstDisagreement", desc := "(I)I" } : Jvm.MethodName) ({ cls := "GateGrammarModel", name := "firstDisagreement", desc := "(I)I" } : Jvm.MethodName)) ∈ lw_all := lw_g (lw_at lw_m12 167 rfl) rfl
theorem q2883 : (Jvm.Cond.code ({ cls := "GateGrammarModel", name := "firstDisagreement", desc := "(I)I" } : Jvm.MethodName) prog_23_method_66_code (2 : Nat) (Option.some Jvm.ClassFile.FieldType.int)) ∈ lw_all := lw_g (lw_at lw_m12 168 rfl) rfl
theorem q2885 : (Jvm.Cond.instanceMethod ({ cls := "GateGrammarModel", name := "isShut", desc := "(I)Z" } : Jvm.MethodName)) ∈ lw_all := lw_g (lw_at lw_m12 170 rfl) rfl
theorem q2886 : (Jvm.Cond.selects "GateGrammarModel" ({ cls := "GateGrammarModel", name := "isShut", desc := "(I)Z" } : Jvm.MethodName) ({ cls := "GateGrammarModel", name := "isShut", desc := "(I)Z" } : Jvm.MethodName)) ∈ lw_all := lw_g (lw_at lw_m12 171 rfl) rfl
theorem q2887 : (Jvm.Cond.code ({ cls := "GateGrammarModel", name := "isShut", desc := "(I)Z" } : Jvm.MethodName) prog_23_method_67_code (2 : Nat) (Option.some Jvm.ClassFile.FieldType.boolean)) ∈ lw_all := lw_g (lw_at lw_m12 172 rfl) rfl
theorem q2888 : (Jvm.Cond.methodLink "GateGrammarModel" (147 : Nat) ({ cls := "GateGrammarModel", name := "isShutNow", desc := "(I)Z" } : Jvm.MethodName)) ∈ lw_all := lw_g (lw_at lw_m12 173 rfl) rfl
theorem q2889 : (Jvm.Cond.privateMethod ({ cls := "GateGrammarModel", name := "isShutNow", desc := "(I)Z" } : Jvm.MethodName)) ∈ lw_tbl := lw_at lw_m12 174 rfl
theorem q2890 : (Jvm.Cond.instanceMethod ({ cls := "GateGrammarModel", name := "isShutNow", desc := "(I)Z" } : Jvm.MethodName)) ∈ lw_all := lw_g (lw_at lw_m12 175 rfl) rfl
theorem q2891 : (Jvm.Cond.code ({ cls := "GateGrammarModel", name := "isShutNow", desc := "(I)Z" } : Jvm.MethodName) prog_23_method_19_code (2 : Nat) (Option.some Jvm.ClassFile.FieldType.boolean)) ∈ lw_all := lw_g (lw_at lw_m12 176 rfl) rfl
theorem q2893 : (Jvm.Cond.instanceMethod ({ cls := "GateGrammarModel", name := "shutCount", desc := "()I" } : Jvm.MethodName)) ∈ lw_all := lw_g (lw_at lw_m12 178 rfl) rfl
theorem q2894 : (Jvm.Cond.selects "GateGrammarModel" ({ cls := "GateGrammarModel", name := "shutCount", desc := "()I" } : Jvm.MethodName) ({ cls := "GateGrammarModel", name := "shutCount", desc := "()I" } : Jvm.MethodName)) ∈ lw_all := lw_g (lw_at lw_m12 179 rfl) rfl
theorem q2895 : (Jvm.Cond.code ({ cls := "GateGrammarModel", name := "shutCount", desc := "()I" } : Jvm.MethodName) prog_23_method_68_code (3 : Nat) (Option.some Jvm.ClassFile.FieldType.int)) ∈ lw_all := lw_g (lw_at lw_m12 180 rfl) rfl
theorem q2897 : (Jvm.Cond.instanceMethod ({ cls := "GateGrammarModel", name := "worstGate", desc := "()I" } : Jvm.MethodName)) ∈ lw_all := lw_g (lw_at lw_m12 182 rfl) rfl
theorem q2898 : (Jvm.Cond.selects "GateGrammarModel" ({ cls := "GateGrammarModel", name := "worstGate", desc := "()I" } : Jvm.MethodName) ({ cls := "GateGrammarModel", name := "worstGate", desc := "()I" } : Jvm.MethodName)) ∈ lw_all := lw_g (lw_at lw_m12 183 rfl) rfl
theorem q2899 : (Jvm.Cond.code ({ cls := "GateGrammarModel", name := "worstGate", desc := "()I" } : Jvm.MethodName) prog_23_method_69_code (4 : Nat) (Option.some Jvm.ClassFile.FieldType.int)) ∈ lw_all := lw_g (lw_at lw_m12 184 rfl) rfl
theorem q2901 : (Jvm.Cond.instanceMethod ({ cls := "GateGrammarModel", name := "walk", desc := "(I)I" } : Jvm.MethodName)) ∈ lw_all := lw_g (lw_at lw_m12 186 rfl) rfl
theorem q2902 : (Jvm.Cond.selects "GateGrammarModel" ({ cls := "GateGrammarModel", name := "walk", desc := "(I)I" } : Jvm.MethodName) ({ cls := "GateGrammarModel", name := "walk", desc := "(I)I" } : Jvm.MethodName)) ∈ lw_all := lw_g (lw_at lw_m12 187 rfl) rfl
theorem q2903 : (Jvm.Cond.code ({ cls := "GateGrammarModel", name := "walk", desc := "(I)I" } : Jvm.MethodName) prog_23_method_70_code (2 : Nat) (Option.some Jvm.ClassFile.FieldType.int)) ∈ lw_all := lw_g (lw_at lw_m12 188 rfl) rfl
theorem q2904 : (Jvm.Cond.methodLink "GateGrammarModel" (207 : Nat) ({ cls := "GateGrammarModel", name := "walks", desc := "(I)I" } : Jvm.MethodName)) ∈ lw_all := lw_g (lw_at lw_m12 189 rfl) rfl
theorem q2905 : (Jvm.Cond.privateMethod ({ cls := "GateGrammarModel", name := "walks", desc := "(I)I" } : Jvm.MethodName)) ∈ lw_tbl := lw_at lw_m12 190 rfl
theorem q2906 : (Jvm.Cond.instanceMethod ({ cls := "GateGrammarModel", name := "walks", desc := "(I)I" } : Jvm.MethodName)) ∈ lw_all := lw_g (lw_at lw_m12 191 rfl) rfl
theorem q2907 : (Jvm.Cond.code ({ cls := "GateGrammarModel", name := "walks", desc := "(I)I" } : Jvm.MethodName) prog_23_method_31_code (2 : Nat) (Option.some Jvm.ClassFile.FieldType.int)) ∈ lw_all := lw_g (lw_at lw_m12 192 rfl) rfl
theorem q2909 : (Jvm.Cond.instanceMethod ({ cls := "GateGrammarModel", name := "walkCount", desc := "(I)I" } : Jvm.MethodName)) ∈ lw_all := lw_g (lw_at lw_m12 194 rfl) rfl
theorem q2910 : (Jvm.Cond.selects "GateGrammarModel" ({ cls := "GateGrammarModel", name := "walkCount", desc := "(I)I" } : Jvm.MethodName) ({ cls := "GateGrammarModel", name := "walkCount", desc := "(I)I" } : Jvm.MethodName)) ∈ lw_all := lw_g (lw_at lw_m12 195 rfl) rfl
theorem q2911 : (Jvm.Cond.code ({ cls := "GateGrammarModel", name := "walkCount", desc := "(I)I" } : Jvm.MethodName) prog_23_method_72_code (2 : Nat) (Option.some Jvm.ClassFile.FieldType.int)) ∈ lw_all := lw_g (lw_at lw_m12 196 rfl) rfl
theorem q2912 : (Jvm.Cond.methodLink "GateGrammarModel" (210 : Nat) ({ cls := "GateGrammarModel", name := "walked", desc := "(I)I" } : Jvm.MethodName)) ∈ lw_all := lw_g (lw_at lw_m12 197 rfl) rfl
theorem q2913 : (Jvm.Cond.privateMethod ({ cls := "GateGrammarModel", name := "walked", desc := "(I)I" } : Jvm.MethodName)) ∈ lw_tbl := lw_at lw_m12 198 rfl
theorem q2914 : (Jvm.Cond.instanceMethod ({ cls := "GateGrammarModel", name := "walked", desc := "(I)I" } : Jvm.MethodName)) ∈ lw_all := lw_g (lw_at lw_m12 199 rfl) rfl
theorem q2915 : (Jvm.Cond.code ({ cls := "GateGrammarModel", name := "walked", desc := "(I)I" } : Jvm.MethodName) prog_23_method_71_code (2 : Nat) (Option.some Jvm.ClassFile.FieldType.int)) ∈ lw_all := lw_g (lw_at lw_m12 200 rfl) rfl
theorem q2917 : (Jvm.Cond.instanceMethod ({ cls := "GateGrammarModel", name := "gateAtRank", desc := "(I)I" } : Jvm.MethodName)) ∈ lw_all := lw_g (lw_at lw_m12 202 rfl) rfl
theorem q2918 : (Jvm.Cond.selects "GateGrammarModel" ({ cls := "GateGrammarModel", name := "gateAtRank", desc := "(I)I" } : Jvm.MethodName) ({ cls := "GateGrammarModel", name := "gateAtRank", desc := "(I)I" } : Jvm.MethodName)) ∈ lw_all := lw_g (lw_at lw_m12 203 rfl) rfl
theorem q2919 : (Jvm.Cond.code ({ cls := "GateGrammarModel", name := "gateAtRank", desc := "(I)I" } : Jvm.MethodName) prog_23_method_74_code (5 : Nat) (Option.some Jvm.ClassFile.FieldType.int)) ∈ lw_all := lw_g (lw_at lw_m12 204 rfl) rfl
theorem q2920 : (Jvm.Cond.methodLink "GateGrammarModel" (213 : Nat) ({ cls := "GateGrammarModel", name := "isAhead", desc := "(II)Z" } : Jvm.MethodName)) ∈ lw_all := lw_g (lw_at lw_m12 205 rfl) rfl
theorem q2921 : (Jvm.Cond.privateMethod ({ cls := "GateGrammarModel", name := "isAhead", desc := "(II)Z" } : Jvm.MethodName)) ∈ lw_tbl := lw_at lw_m12 206 rfl
theorem q2922 : (Jvm.Cond.instanceMethod ({ cls := "GateGrammarModel", name := "isAhead", desc := "(II)Z" } : Jvm.MethodName)) ∈ lw_all := lw_g (lw_at lw_m12 207 rfl) rfl
theorem q2923 : (Jvm.Cond.code ({ cls := "GateGrammarModel", name := "isAhead", desc := "(II)Z" } : Jvm.MethodName) prog_23_method_73_code (3 : Nat) (Option.some Jvm.ClassFile.FieldType.boolean)) ∈ lw_all := lw_g (lw_at lw_m12 208 rfl) rfl
theorem q2925 : (Jvm.Cond.instanceMethod ({ cls := "GateGrammarModel", name := "append", desc := "(C)I" } : Jvm.MethodName)) ∈ lw_all := lw_g (lw_at lw_m12 210 rfl) rfl
theorem q2926 : (Jvm.Cond.selects "GateGrammarModel" ({ cls := "GateGrammarModel", name := "append", desc := "(C)I" } : Jvm.MethodName) ({ cls := "GateGrammarModel", name := "append", desc := "(C)I" } : Jvm.MethodName)) ∈ lw_all := lw_g (lw_at lw_m12 211 rfl) rfl
theorem q2927 : (Jvm.Cond.code ({ cls := "GateGrammarModel", name := "append", desc := "(C)I" } : Jvm.MethodName) prog_23_method_75_code (2 : Nat) (Option.some Jvm.ClassFile.FieldType.int)) ∈ lw_all := lw_g (lw_at lw_m12 212 rfl) rfl
theorem q2929 : (Jvm.Cond.instanceMethod ({ cls := "GateGrammarModel", name := "run", desc := "()I" } : Jvm.MethodName)) ∈ lw_all := lw_g (lw_at lw_m12 214 rfl) rfl
theorem q2930 : (Jvm.Cond.selects "GateGrammarModel" ({ cls := "GateGrammarModel", name := "run", desc := "()I" } : Jvm.MethodName) ({ cls := "GateGrammarModel", name := "run", desc := "()I" } : Jvm.MethodName)) ∈ lw_all := lw_g (lw_at lw_m12 215 rfl) rfl
theorem q2931 : (Jvm.Cond.code ({ cls := "GateGrammarModel", name := "run", desc := "()I" } : Jvm.MethodName) prog_23_method_81_code (3 : Nat) (Option.some Jvm.ClassFile.FieldType.int)) ∈ lw_all := lw_g (lw_at lw_m12 216 rfl) rfl
theorem q2932 : (Jvm.Cond.methodLink "GateGrammarModel" (263 : Nat) ({ cls := "GateGrammarModel", name := "readsOne", desc := "()V" } : Jvm.MethodName)) ∈ lw_all := lw_g (lw_at lw_m12 217 rfl) rfl
theorem q2933 : (Jvm.Cond.privateMethod ({ cls := "GateGrammarModel", name := "readsOne", desc := "()V" } : Jvm.MethodName)) ∈ lw_tbl := lw_at lw_m12 218 rfl
theorem q2934 : (Jvm.Cond.instanceMethod ({ cls := "GateGrammarModel", name := "readsOne", desc := "()V" } : Jvm.MethodName)) ∈ lw_all := lw_g (lw_at lw_m12 219 rfl) rfl
theorem q2935 : (Jvm.Cond.code ({ cls := "GateGrammarModel", name := "readsOne", desc := "()V" } : Jvm.MethodName) prog_23_method_79_code (2 : Nat) (Option.none : Option Jvm.ClassFile.FieldType)) ∈ lw_all := lw_g (lw_at lw_m12 220 rfl) rfl
theorem q2936 : (Jvm.Cond.methodLink "GateGrammarModel" (232 : Nat) ({ cls := "GateGrammarModel", name := "here", desc := "()I" } : Jvm.MethodName)) ∈ lw_all := lw_g (lw_at lw_m12 221 rfl) rfl
theorem q2937 : (Jvm.Cond.privateMethod ({ cls := "GateGrammarModel", name := "here", desc := "()I" } : Jvm.MethodName)) ∈ lw_tbl := lw_at lw_m12 222 rfl
theorem q2938 : (Jvm.Cond.instanceMethod ({ cls := "GateGrammarModel", name := "here", desc := "()I" } : Jvm.MethodName)) ∈ lw_all := lw_g (lw_at lw_m12 223 rfl) rfl
theorem q2939 : (Jvm.Cond.code ({ cls := "GateGrammarModel", name := "here", desc := "()I" } : Jvm.MethodName) prog_23_method_76_code (1 : Nat) (Option.some Jvm.ClassFile.FieldType.int)) ∈ lw_all := lw_g (lw_at lw_m12 224 rfl) rfl
theorem q2940 : (Jvm.Cond.stringRef "GateGrammarModel" (238 : Nat) "noun ") ∈ lw_tbl := lw_at lw_m12 225 rfl
theorem q2941 : (Jvm.Cond.methodLink "GateGrammarModel" (240 : Nat) ({ cls := "GateGrammarModel", name := "says", desc := "(Ljava/lang/String;)V" } : Jvm.MethodName)) ∈ lw_all := lw_g (lw_at lw_m12 226 rfl) rfl
theorem q2942 : (Jvm.Cond.privateMethod ({ cls := "GateGrammarModel", name := "says", desc := "(Ljava/lang/String;)V" } : Jvm.MethodName)) ∈ lw_tbl := lw_at lw_m12 227 rfl
theorem q2943 : (Jvm.Cond.instanceMethod ({ cls := "GateGrammarModel", name := "says", desc := "(Ljava/lang/String;)V" } : Jvm.MethodName)) ∈ lw_all := lw_g (lw_at lw_m12 228 rfl) rfl
theorem q2944 : (Jvm.Cond.code ({ cls := "GateGrammarModel", name := "says", desc := "(Ljava/lang/String;)V" } : Jvm.MethodName) prog_23_method_77_code (3 : Nat) (Option.none : Option Jvm.ClassFile.FieldType)) ∈ lw_all := lw_g (lw_at lw_m12 229 rfl) rfl
theorem q2945 : (Jvm.Cond.methodLink "GateGrammarModel" (225 : Nat) ({ cls := "java/lang/String", name := "length", desc := "()I" } : Jvm.MethodName)) ∈ lw_all := lw_g (lw_at lw_m12 230 rfl) rfl
theorem q2946 : (Jvm.Cond.stringRef "GateGrammarModel" (244 : Nat) "verb ") ∈ lw_tbl := lw_at lw_m12 231 rfl
theorem q2947 : (Jvm.Cond.stringRef "GateGrammarModel" (246 : Nat) "open ") ∈ lw_tbl := lw_at lw_m12 232 rfl
theorem q2948 : (Jvm.Cond.stringRef "GateGrammarModel" (248 : Nat) "close ") ∈ lw_tbl := lw_at lw_m12 233 rfl
theorem q2949 : (Jvm.Cond.stringRef "GateGrammarModel" (250 : Nat) "and ") ∈ lw_tbl := lw_at lw_m12 234 rfl
theorem q2950 : (Jvm.Cond.stringRef "GateGrammarModel" (252 : Nat) "drop ") ∈ lw_tbl := lw_at lw_m12 235 rfl
theorem q2951 : (Jvm.Cond.stringRef "GateGrammarModel" (254 : Nat) "swing ") ∈ lw_tbl := lw_at lw_m12 236 rfl
theorem q2952 : (Jvm.Cond.stringRef "GateGrammarModel" (256 : Nat) "walk ") ∈ lw_tbl := lw_at lw_m12 237 rfl
theorem q2953 : (Jvm.Cond.methodLink "GateGrammarModel" (258 : Nat) ({ cls := "GateGrammarModel", name := "digit", desc := "(I)V" } : Jvm.MethodName)) ∈ lw_all := lw_g (lw_at lw_m12 238 rfl) rfl
theorem q2954 : (Jvm.Cond.privateMethod ({ cls := "GateGrammarModel", name := "digit", desc := "(I)V" } : Jvm.MethodName)) ∈ lw_tbl := lw_at lw_m12 239 rfl
theorem q2955 : (Jvm.Cond.instanceMethod ({ cls := "GateGrammarModel", name := "digit", desc := "(I)V" } : Jvm.MethodName)) ∈ lw_all := lw_g (lw_at lw_m13 0 rfl) rfl
theorem q2956 : (Jvm.Cond.code ({ cls := "GateGrammarModel", name := "digit", desc := "(I)V" } : Jvm.MethodName) prog_23_method_78_code (2 : Nat) (Option.none : Option Jvm.ClassFile.FieldType)) ∈ lw_all := lw_g (lw_at lw_m13 1 rfl) rfl
theorem q2957 : (Jvm.Cond.stringRef "GateGrammarModel" (261 : Nat) " ") ∈ lw_tbl := lw_at lw_m13 2 rfl
theorem q2958 : (Jvm.Cond.methodLink "GateGrammarModel" (266 : Nat) ({ cls := "GateGrammarModel", name := "does", desc := "(I)I" } : Jvm.MethodName)) ∈ lw_all := lw_g (lw_at lw_m13 3 rfl) rfl
theorem q2959 : (Jvm.Cond.privateMethod ({ cls := "GateGrammarModel", name := "does", desc := "(I)I" } : Jvm.MethodName)) ∈ lw_tbl := lw_at lw_m13 4 rfl
theorem q2960 : (Jvm.Cond.instanceMethod ({ cls := "GateGrammarModel", name := "does", desc := "(I)I" } : Jvm.MethodName)) ∈ lw_all := lw_g (lw_at lw_m13 5 rfl) rfl
theorem q2961 : (Jvm.Cond.code ({ cls := "GateGrammarModel", name := "does", desc := "(I)I" } : Jvm.MethodName) prog_23_method_80_code (5 : Nat) (Option.some Jvm.ClassFile.FieldType.int)) ∈ lw_all := lw_g (lw_at lw_m13 6 rfl) rfl
theorem q2963 : (Jvm.Cond.instanceMethod ({ cls := "GateGrammarModel", name := "errorPosition", desc := "()I" } : Jvm.MethodName)) ∈ lw_all := lw_g (lw_at lw_m13 8 rfl) rfl
theorem q2964 : (Jvm.Cond.selects "GateGrammarModel" ({ cls := "GateGrammarModel", name := "errorPosition", desc := "()I" } : Jvm.MethodName) ({ cls := "GateGrammarModel", name := "errorPosition", desc := "()I" } : Jvm.MethodName)) ∈ lw_all := lw_g (lw_at lw_m13 9 rfl) rfl
theorem q2965 : (Jvm.Cond.code ({ cls := "GateGrammarModel", name := "errorPosition", desc := "()I" } : Jvm.MethodName) prog_23_method_82_code (1 : Nat) (Option.some Jvm.ClassFile.FieldType.int)) ∈ lw_all := lw_g (lw_at lw_m13 10 rfl) rfl
theorem q2967 : (Jvm.Cond.instanceMethod ({ cls := "GateGrammarModel", name := "failedCommand", desc := "()I" } : Jvm.MethodName)) ∈ lw_all := lw_g (lw_at lw_m13 12 rfl) rfl
theorem q2968 : (Jvm.Cond.selects "GateGrammarModel" ({ cls := "GateGrammarModel", name := "failedCommand", desc := "()I" } : Jvm.MethodName) ({ cls := "GateGrammarModel", name := "failedCommand", desc := "()I" } : Jvm.MethodName)) ∈ lw_all := lw_g (lw_at lw_m13 13 rfl) rfl
theorem q2969 : (Jvm.Cond.code ({ cls := "GateGrammarModel", name := "failedCommand", desc := "()I" } : Jvm.MethodName) prog_23_method_83_code (1 : Nat) (Option.some Jvm.ClassFile.FieldType.int)) ∈ lw_all := lw_g (lw_at lw_m13 14 rfl) rfl
theorem q2971 : (Jvm.Cond.instanceMethod ({ cls := "GateGrammarModel", name := "describe", desc := "(I)I" } : Jvm.MethodName)) ∈ lw_all := lw_g (lw_at lw_m13 16 rfl) rfl
theorem q2972 : (Jvm.Cond.selects "GateGrammarModel" ({ cls := "GateGrammarModel", name := "describe", desc := "(I)I" } : Jvm.MethodName) ({ cls := "GateGrammarModel", name := "describe", desc := "(I)I" } : Jvm.MethodName)) ∈ lw_all := lw_g (lw_at lw_m13 17 rfl) rfl
theorem q2973 : (Jvm.Cond.code ({ cls := "GateGrammarModel", name := "describe", desc := "(I)I" } : Jvm.MethodName) prog_23_method_85_code (7 : Nat) (Option.some Jvm.ClassFile.FieldType.int)) ∈ lw_all := lw_g (lw_at lw_m13 18 rfl) rfl
theorem q2974 : (Jvm.Cond.methodLink "GateGrammarModel" (272 : Nat) ({ cls := "GateGrammarModel", name := "writes", desc := "(I)V" } : Jvm.MethodName)) ∈ lw_all := lw_g (lw_at lw_m13 19 rfl) rfl
theorem q2975 : (Jvm.Cond.privateMethod ({ cls := "GateGrammarModel", name := "writes", desc := "(I)V" } : Jvm.MethodName)) ∈ lw_tbl := lw_at lw_m13 20 rfl
theorem q2976 : (Jvm.Cond.instanceMethod ({ cls := "GateGrammarModel", name := "writes", desc := "(I)V" } : Jvm.MethodName)) ∈ lw_all := lw_g (lw_at lw_m13 21 rfl) rfl
theorem q2977 : (Jvm.Cond.code ({ cls := "GateGrammarModel", name := "writes", desc := "(I)V" } : Jvm.MethodName) prog_23_method_84_code (2 : Nat) (Option.none : Option Jvm.ClassFile.FieldType)) ∈ lw_all := lw_g (lw_at lw_m13 22 rfl) rfl
theorem q2979 : (Jvm.Cond.instanceMethod ({ cls := "GateGrammarModel", name := "lineAt", desc := "(I)C" } : Jvm.MethodName)) ∈ lw_all := lw_g (lw_at lw_m13 24 rfl) rfl
theorem q2980 : (Jvm.Cond.selects "GateGrammarModel" ({ cls := "GateGrammarModel", name := "lineAt", desc := "(I)C" } : Jvm.MethodName) ({ cls := "GateGrammarModel", name := "lineAt", desc := "(I)C" } : Jvm.MethodName)) ∈ lw_all := lw_g (lw_at lw_m13 25 rfl) rfl
theorem q2981 : (Jvm.Cond.code ({ cls := "GateGrammarModel", name := "lineAt", desc := "(I)C" } : Jvm.MethodName) prog_23_method_86_code (2 : Nat) (Option.some Jvm.ClassFile.FieldType.char)) ∈ lw_all := lw_g (lw_at lw_m13 26 rfl) rfl
theorem q2983 : (Jvm.Cond.instanceMethod ({ cls := "GateGrammarModel", name := "meanTokens", desc := "()D" } : Jvm.MethodName)) ∈ lw_all := lw_g (lw_at lw_m13 28 rfl) rfl
theorem q2984 : (Jvm.Cond.selects "GateGrammarModel" ({ cls := "GateGrammarModel", name := "meanTokens", desc := "()D" } : Jvm.MethodName) ({ cls := "GateGrammarModel", name := "meanTokens", desc := "()D" } : Jvm.MethodName)) ∈ lw_all := lw_g (lw_at lw_m13 29 rfl) rfl
theorem q2985 : (Jvm.Cond.code ({ cls := "GateGrammarModel", name := "meanTokens", desc := "()D" } : Jvm.MethodName) prog_23_method_88_code (1 : Nat) (Option.some Jvm.ClassFile.FieldType.double)) ∈ lw_all := lw_g (lw_at lw_m13 30 rfl) rfl
theorem q2986 : (Jvm.Cond.methodLink "GateGrammarModel" (275 : Nat) ({ cls := "GateGrammarModel", name := "allTokens", desc := "()I" } : Jvm.MethodName)) ∈ lw_all := lw_g (lw_at lw_m13 31 rfl) rfl
theorem q2987 : (Jvm.Cond.privateMethod ({ cls := "GateGrammarModel", name := "allTokens", desc := "()I" } : Jvm.MethodName)) ∈ lw_tbl := lw_at lw_m13 32 rfl
theorem q2988 : (Jvm.Cond.instanceMethod ({ cls := "GateGrammarModel", name := "allTokens", desc := "()I" } : Jvm.MethodName)) ∈ lw_all := lw_g (lw_at lw_m13 33 rfl) rfl
theorem q2989 : (Jvm.Cond.code ({ cls := "GateGrammarModel", name := "allTokens", desc := "()I" } : Jvm.MethodName) prog_23_method_87_code (1 : Nat) (Option.some Jvm.ClassFile.FieldType.int)) ∈ lw_all := lw_g (lw_at lw_m13 34 rfl) rfl
theorem q2990 : (Jvm.Cond.constantDouble "GateGrammarModel" (278 : Nat) (4616189618054758400 : UInt64)) ∈ lw_all := lw_g (lw_at lw_m13 35 rfl) rfl
theorem q2992 : (Jvm.Cond.instanceMethod ({ cls := "GateGrammarModel", name := "nounShare", desc := "(I)F" } : Jvm.MethodName)) ∈ lw_all := lw_g (lw_at lw_m13 37 rfl) rfl
theorem q2993 : (Jvm.Cond.selects "GateGrammarModel" ({ cls := "GateGrammarModel", name := "nounShare", desc := "(I)F" } : Jvm.MethodName) ({ cls := "GateGrammarModel", name := "nounShare", desc := "(I)F" } : Jvm.MethodName)) ∈ lw_all := lw_g (lw_at lw_m13 38 rfl) rfl
theorem q2994 : (Jvm.Cond.code ({ cls := "GateGrammarModel", name := "nounShare", desc := "(I)F" } : Jvm.MethodName) prog_23_method_89_code (4 : Nat) (Option.some Jvm.ClassFile.FieldType.float)) ∈ lw_all := lw_g (lw_at lw_m13 39 rfl) rfl
theorem q2996 : (Jvm.Cond.instanceMethod ({ cls := "GateGrammarModel", name := "isConsistent", desc := "()Z" } : Jvm.MethodName)) ∈ lw_all := lw_g (lw_at lw_m13 41 rfl) rfl
theorem q2997 : (Jvm.Cond.selects "GateGrammarModel" ({ cls := "GateGrammarModel", name := "isConsistent", desc := "()Z" } : Jvm.MethodName) ({ cls := "GateGrammarModel", name := "isConsistent", desc := "()Z" } : Jvm.MethodName)) ∈ lw_all := lw_g (lw_at lw_m13 42 rfl) rfl
theorem q2998 : (Jvm.Cond.code ({ cls := "GateGrammarModel", name := "isConsistent", desc := "()Z" } : Jvm.MethodName) prog_23_method_90_code (1 : Nat) (Option.some Jvm.ClassFile.FieldType.boolean)) ∈ lw_all := lw_g (lw_at lw_m13 43 rfl) rfl
theorem q3000 : (Jvm.Cond.instanceMethod ({ cls := "GateGrammarModel", name := "undo", desc := "()I" } : Jvm.MethodName)) ∈ lw_all := lw_g (lw_at lw_m13 45 rfl) rfl
theorem q3001 : (Jvm.Cond.selects "GateGrammarModel" ({ cls := "GateGrammarModel", name := "undo", desc := "()I" } : Jvm.MethodName) ({ cls := "GateGrammarModel", name := "undo", desc := "()I" } : Jvm.MethodName)) ∈ lw_all := lw_g (lw_at lw_m13 46 rfl) rfl
theorem q3002 : (Jvm.Cond.code ({ cls := "GateGrammarModel", name := "undo", desc := "()I" } : Jvm.MethodName) prog_23_method_91_code (2 : Nat) (Option.some Jvm.ClassFile.FieldType.int)) ∈ lw_all := lw_g (lw_at lw_m13 47 rfl) rfl
theorem q3004 : (Jvm.Cond.instanceMethod ({ cls := "GateGrammarModel", name := "save", desc := "()I" } : Jvm.MethodName)) ∈ lw_all := lw_g (lw_at lw_m13 49 rfl) rfl
theorem q3005 : (Jvm.Cond.selects "GateGrammarModel" ({ cls := "GateGrammarModel", name := "save", desc := "()I" } : Jvm.MethodName) ({ cls := "GateGrammarModel", name := "save", desc := "()I" } : Jvm.MethodName)) ∈ lw_all := lw_g (lw_at lw_m13 50 rfl) rfl
theorem q3006 : (Jvm.Cond.code ({ cls := "GateGrammarModel", name := "save", desc := "()I" } : Jvm.MethodName) prog_23_method_92_code (2 : Nat) (Option.some Jvm.ClassFile.FieldType.int)) ∈ lw_all := lw_g (lw_at lw_m13 51 rfl) rfl
theorem q3008 : (Jvm.Cond.instanceMethod ({ cls := "GateGrammarModel", name := "restore", desc := "()I" } : Jvm.MethodName)) ∈ lw_all := lw_g (lw_at lw_m13 53 rfl) rfl
theorem q3009 : (Jvm.Cond.selects "GateGrammarModel" ({ cls := "GateGrammarModel", name := "restore", desc := "()I" } : Jvm.MethodName) ({ cls := "GateGrammarModel", name := "restore", desc := "()I" } : Jvm.MethodName)) ∈ lw_all := lw_g (lw_at lw_m13 54 rfl) rfl
theorem q3010 : (Jvm.Cond.code ({ cls := "GateGrammarModel", name := "restore", desc := "()I" } : Jvm.MethodName) prog_23_method_93_code (2 : Nat) (Option.some Jvm.ClassFile.FieldType.int)) ∈ lw_all := lw_g (lw_at lw_m13 55 rfl) rfl
theorem q3053 : (Jvm.Cond.castable "GateGrammarModel" "java/lang/Object") ∈ lw_tbl := lw_at lw_m13 98 rfl
theorem in_X6 : ∀ w ∈ wsX60, w ∈ lw_all := lw_in wsX60 [2563, 2565, 2567, 2569, 2571, 2573, 2575, 2577, 2579, 2581, 2583, 2585, 2587, 2589, 2591, 2593, 2595, 2597, 2599, 2601, 2603, 2605, 2607, 2609, 2611, 2613, 2615, 2617, 2619, 2621, 2623, 2625, 2627] (by decide +kernel) (by decide +kernel)

